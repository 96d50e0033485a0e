/-! LightPlate -/
set_option maxRecDepth 100000
def RX1 : String := "LightPlate"
def TX1 : u_T := fun k => match k with
  | 0 => ("LightPlate", "cosines", "[I", true)
  | 1 => ("LightPlate", "sines", "[I", true)
  | 2 => ("LightPlate", "lanes", "I", true)
  | 3 => ("LightPlate", "cells", "[LLightPlate$Cell;", true)
  | 4 => ("LightPlate", "creep", "I", false)
  | 5 => ("LightPlate", "plain", "LLightPlate$Plain;", true)
  | 6 => ("LightPlate", "real", "LLightPlate$True;", true)
  | 7 => ("LightPlate", "guess", "LLightPlate$Guess;", true)
  | 8 => ("LightPlate", "again", "LLightPlate$Again;", true)
  | 9 => ("LightPlate", "light", "[I", true)
  | 10 => ("LightPlate", "told", "[[I", true)
  | 11 => ("LightPlate", "left", "[[I", true)
  | 12 => ("LightPlate", "stepLane", "[I", true)
  | 13 => ("LightPlate", "stepTurn", "[I", true)
  | 14 => ("LightPlate", "sign", "[I", true)
  | 15 => ("LightPlate", "steps", "I", false)
  | 16 => ("LightPlate", "lacks", "I", false)
  | 17 => ("LightPlate", "isSplit", "Z", false)
  | 18 => ("LightPlate", "workLane", "[I", true)
  | 19 => ("LightPlate", "workTurn", "[I", true)
  | 20 => ("LightPlate", "works", "I", false)
  | 21 => ("LightPlate", "canEnd", "[[Z", true)
  | 22 => ("LightPlate", "may", "I", false)
  | 23 => ("LightPlate", "must", "I", false)
  | 24 => ("LightPlate", "tape", "[B", true)
  | 25 => ("LightPlate", "taped", "I", false)
  | 26 => ("LightPlate", "reader", "LLightPlate$Reader;", true)
  | 27 => ("LightPlate", "runs", "Ljava/util/ArrayList;", true)
  | 28 => ("LightPlate", "findings", "Ljava/util/ArrayList;", true)
  | 29 => ("LightPlate", "entries", "I", false)
  | 30 => ("LightPlate", "hypotheses", "Ljava/util/ArrayList;", true)
  | 31 => ("LightPlate", "probes", "I", false)
  | _ => ("LightPlate", "groups", "[[I", true)
def tyX1 : Nat → FieldType := fun k => match k with
  | 0 => .array .int
  | 1 => .array .int
  | 2 => .int
  | 3 => .array (.object "LightPlate$Cell")
  | 4 => .int
  | 5 => .object "LightPlate$Plain"
  | 6 => .object "LightPlate$True"
  | 7 => .object "LightPlate$Guess"
  | 8 => .object "LightPlate$Again"
  | 9 => .array .int
  | 10 => .array (.array .int)
  | 11 => .array (.array .int)
  | 12 => .array .int
  | 13 => .array .int
  | 14 => .array .int
  | 15 => .int
  | 16 => .int
  | 17 => .boolean
  | 18 => .array .int
  | 19 => .array .int
  | 20 => .int
  | 21 => .array (.array .boolean)
  | 22 => .int
  | 23 => .int
  | 24 => .array .byte
  | 25 => .int
  | 26 => .object "LightPlate$Reader"
  | 27 => .object "java/util/ArrayList"
  | 28 => .object "java/util/ArrayList"
  | 29 => .int
  | 30 => .object "java/util/ArrayList"
  | 31 => .int
  | _ => .array (.array .int)
abbrev wsX10 : List Cond := u_ws RX1 TX1 33
set_option maxRecDepth 100000 in
theorem nmX1 : ∀ a, a < 33 → ∀ b, b < 33 → a ≠ b → (TX1 a).2.1 ≠ (TX1 b).2.1 := by decide +kernel
set_option maxRecDepth 100000 in
theorem tyX1_ok : ∀ k, k < 33 → parseFieldDescriptor (TX1 k).2.2.1 = some (tyX1 k) := by decide +kernel
abbrev cX1_turn : ByteArray := prog_1_method_5_code
def yX1_turn : MethodName := ⟨RX1, "turn", "(II)I"⟩
def dkwX1_turn_1 : List UInt8 := [184, 0, 29, 46, 167, 0, 12, 42, 180, 0, 18, 27, 184, 0, 29, 46, 172]
abbrev dktX1_turn_1 : List UInt8 := dkwX1_turn_1 ++ []
def dkwX1_turn_0 : List UInt8 := [28, 3, 4, 184, 0, 25, 154, 0, 7, 2, 167, 0, 28, 28, 154, 0, 15, 42, 180, 0, 14, 27]
abbrev dktX1_turn_0 : List UInt8 := dkwX1_turn_0 ++ dktX1_turn_1
theorem dksX1_turn_0 : cX1_turn.data.toList.drop 0 = dktX1_turn_0 := by decide +kernel
theorem dksX1_turn_1 : cX1_turn.data.toList.drop 22 = dktX1_turn_1 := dk_seg dksX1_turn_0 22 rfl rfl
theorem dX1_turn_0 : decode cX1_turn 0 = .ok (.iload_n 2, 1) := dk_28 (dk_at dksX1_turn_0 0 rfl rfl)
theorem dX1_turn_1 : decode cX1_turn 1 = .ok (.iconst 0, 1) := dk_3 (dk_at dksX1_turn_0 1 rfl rfl)
theorem dX1_turn_2 : decode cX1_turn 2 = .ok (.iconst 1, 1) := dk_4 (dk_at dksX1_turn_0 2 rfl rfl)
theorem dX1_turn_3 : decode cX1_turn 3 = .ok (.invokestatic 25, 3) := dk_184 0 25 (dk_at dksX1_turn_0 3 rfl rfl)
theorem dX1_turn_6 : decode cX1_turn 6 = .ok (.ifCond .ne 7, 3) := dk_154 0 7 (dk_at dksX1_turn_0 6 rfl rfl)
theorem dX1_turn_9 : decode cX1_turn 9 = .ok (.iconst (-1), 1) := dk_2 (dk_at dksX1_turn_0 9 rfl rfl)
theorem dX1_turn_10 : decode cX1_turn 10 = .ok (.goto 28, 3) := dk_167 0 28 (dk_at dksX1_turn_0 10 rfl rfl)
theorem dX1_turn_13 : decode cX1_turn 13 = .ok (.iload_n 2, 1) := dk_28 (dk_at dksX1_turn_0 13 rfl rfl)
theorem dX1_turn_14 : decode cX1_turn 14 = .ok (.ifCond .ne 15, 3) := dk_154 0 15 (dk_at dksX1_turn_0 14 rfl rfl)
theorem dX1_turn_17 : decode cX1_turn 17 = .ok (.aload_n 0, 1) := dk_42 (dk_at dksX1_turn_0 17 rfl rfl)
theorem dX1_turn_18 : decode cX1_turn 18 = .ok (.getfield 14, 3) := dk_180 0 14 (dk_at dksX1_turn_0 18 rfl rfl)
theorem dX1_turn_21 : decode cX1_turn 21 = .ok (.iload_n 1, 1) := dk_27 (dk_at dksX1_turn_0 21 rfl rfl)
theorem dX1_turn_22 : decode cX1_turn 22 = .ok (.invokestatic 29, 3) := dk_184 0 29 (dk_at dksX1_turn_1 0 rfl rfl)
theorem dX1_turn_25 : decode cX1_turn 25 = .ok (.iaload, 1) := dk_46 (dk_at dksX1_turn_1 3 rfl rfl)
theorem dX1_turn_26 : decode cX1_turn 26 = .ok (.goto 12, 3) := dk_167 0 12 (dk_at dksX1_turn_1 4 rfl rfl)
theorem dX1_turn_29 : decode cX1_turn 29 = .ok (.aload_n 0, 1) := dk_42 (dk_at dksX1_turn_1 7 rfl rfl)
theorem dX1_turn_30 : decode cX1_turn 30 = .ok (.getfield 18, 3) := dk_180 0 18 (dk_at dksX1_turn_1 8 rfl rfl)
theorem dX1_turn_33 : decode cX1_turn 33 = .ok (.iload_n 1, 1) := dk_27 (dk_at dksX1_turn_1 11 rfl rfl)
theorem dX1_turn_34 : decode cX1_turn 34 = .ok (.invokestatic 29, 3) := dk_184 0 29 (dk_at dksX1_turn_1 12 rfl rfl)
theorem dX1_turn_37 : decode cX1_turn 37 = .ok (.iaload, 1) := dk_46 (dk_at dksX1_turn_1 15 rfl rfl)
theorem dX1_turn_38 : decode cX1_turn 38 = .ok (.ireturn, 1) := dk_172 (dk_at dksX1_turn_1 16 rfl rfl)
abbrev cX1_in : ByteArray := prog_1_method_1_code
def yX1_in : MethodName := ⟨RX1, "in", "(III)Z"⟩
def dkwX1_in_0 : List UInt8 := [26, 27, 161, 0, 12, 26, 28, 163, 0, 7, 4, 167, 0, 4, 3, 172]
abbrev dktX1_in_0 : List UInt8 := dkwX1_in_0 ++ []
theorem dksX1_in_0 : cX1_in.data.toList.drop 0 = dktX1_in_0 := by decide +kernel
theorem dX1_in_0 : decode cX1_in 0 = .ok (.iload_n 0, 1) := dk_26 (dk_at dksX1_in_0 0 rfl rfl)
theorem dX1_in_1 : decode cX1_in 1 = .ok (.iload_n 1, 1) := dk_27 (dk_at dksX1_in_0 1 rfl rfl)
theorem dX1_in_2 : decode cX1_in 2 = .ok (.if_icmp .lt 12, 3) := dk_161 0 12 (dk_at dksX1_in_0 2 rfl rfl)
theorem dX1_in_5 : decode cX1_in 5 = .ok (.iload_n 0, 1) := dk_26 (dk_at dksX1_in_0 5 rfl rfl)
theorem dX1_in_6 : decode cX1_in 6 = .ok (.iload_n 2, 1) := dk_28 (dk_at dksX1_in_0 6 rfl rfl)
theorem dX1_in_7 : decode cX1_in 7 = .ok (.if_icmp .gt 7, 3) := dk_163 0 7 (dk_at dksX1_in_0 7 rfl rfl)
theorem dX1_in_10 : decode cX1_in 10 = .ok (.iconst 1, 1) := dk_4 (dk_at dksX1_in_0 10 rfl rfl)
theorem dX1_in_11 : decode cX1_in 11 = .ok (.goto 4, 3) := dk_167 0 4 (dk_at dksX1_in_0 11 rfl rfl)
theorem dX1_in_14 : decode cX1_in 14 = .ok (.iconst 0, 1) := dk_3 (dk_at dksX1_in_0 14 rfl rfl)
theorem dX1_in_15 : decode cX1_in 15 = .ok (.ireturn, 1) := dk_172 (dk_at dksX1_in_0 15 rfl rfl)
abbrev cX1_whole : ByteArray := prog_1_method_3_code
def yX1_whole : MethodName := ⟨RX1, "whole", "(I)I"⟩
def dkwX1_whole_0 : List UInt8 := [26, 16, 96, 184, 0, 11, 172]
abbrev dktX1_whole_0 : List UInt8 := dkwX1_whole_0 ++ []
theorem dksX1_whole_0 : cX1_whole.data.toList.drop 0 = dktX1_whole_0 := by decide +kernel
theorem dX1_whole_0 : decode cX1_whole 0 = .ok (.iload_n 0, 1) := dk_26 (dk_at dksX1_whole_0 0 rfl rfl)
theorem dX1_whole_1 : decode cX1_whole 1 = .ok (.bipush 96, 2) := dk_16 96 (dk_at dksX1_whole_0 1 rfl rfl)
theorem dX1_whole_3 : decode cX1_whole 3 = .ok (.invokestatic 11, 3) := dk_184 0 11 (dk_at dksX1_whole_0 3 rfl rfl)
theorem dX1_whole_6 : decode cX1_whole 6 = .ok (.ireturn, 1) := dk_172 (dk_at dksX1_whole_0 6 rfl rfl)
abbrev cX1_init : ByteArray := prog_1_method_7_code
def yX1_init : MethodName := ⟨RX1, "<init>", "(I)V"⟩
def dkwX1_init_16 : List UInt8 := [42, 28, 29, 183, 0, 147, 83, 132, 3, 2, 167, 255, 220, 132, 2, 1, 167, 255, 204, 177]
abbrev dktX1_init_16 : List UInt8 := dkwX1_init_16 ++ []
def dkwX1_init_15 : List UInt8 := [180, 0, 138, 4, 100, 162, 0, 32, 42, 180, 0, 143, 28, 42, 180, 0, 138, 104, 29, 96, 187, 0, 141, 89]
abbrev dktX1_init_15 : List UInt8 := dkwX1_init_15 ++ dktX1_init_16
def dkwX1_init_14 : List UInt8 := [180, 0, 138, 104, 189, 0, 141, 181, 0, 143, 3, 61, 28, 16, 12, 162, 0, 52, 28, 5, 112, 62, 29, 42]
abbrev dktX1_init_14 : List UInt8 := dkwX1_init_14 ++ dktX1_init_15
def dkwX1_init_13 : List UInt8 := [197, 0, 83, 2, 181, 0, 135, 42, 27, 8, 184, 0, 11, 5, 96, 181, 0, 138, 42, 16, 12, 42]
abbrev dktX1_init_13 : List UInt8 := dkwX1_init_13 ++ dktX1_init_14
def dkwX1_init_12 : List UInt8 := [183, 0, 124, 181, 0, 129, 42, 187, 0, 122, 89, 183, 0, 124, 181, 0, 132, 42, 16, 6, 16, 97]
abbrev dktX1_init_12 : List UInt8 := dkwX1_init_12 ++ dktX1_init_13
def dkwX1_init_11 : List UInt8 := [89, 42, 183, 0, 117, 181, 0, 118, 42, 187, 0, 122, 89, 183, 0, 124, 181, 0, 125, 42, 187, 0, 122, 89]
abbrev dktX1_init_11 : List UInt8 := dkwX1_init_11 ++ dktX1_init_12
def dkwX1_init_10 : List UInt8 := [16, 13, 17, 4, 0, 197, 0, 106, 2, 181, 0, 108, 42, 16, 100, 188, 8, 181, 0, 111, 42, 187, 0, 115]
abbrev dktX1_init_10 : List UInt8 := dkwX1_init_10 ++ dktX1_init_11
def dkwX1_init_9 : List UInt8 := [16, 6, 188, 10, 181, 0, 97, 42, 16, 10, 188, 10, 181, 0, 100, 42, 16, 10, 188, 10, 181, 0, 103, 42]
abbrev dktX1_init_9 : List UInt8 := dkwX1_init_9 ++ dktX1_init_10
def dkwX1_init_8 : List UInt8 := [197, 0, 83, 2, 181, 0, 88, 42, 16, 15, 188, 10, 181, 0, 91, 42, 16, 15, 188, 10, 181, 0, 94, 42]
abbrev dktX1_init_8 : List UInt8 := dkwX1_init_8 ++ dktX1_init_9
def dkwX1_init_7 : List UInt8 := [16, 6, 188, 10, 181, 0, 80, 42, 16, 6, 16, 6, 197, 0, 83, 2, 181, 0, 85, 42, 16, 6, 16, 6]
abbrev dktX1_init_7 : List UInt8 := dkwX1_init_7 ++ dktX1_init_8
def dkwX1_init_6 : List UInt8 := [187, 0, 66, 89, 42, 183, 0, 68, 181, 0, 69, 42, 187, 0, 73, 89, 42, 183, 0, 75, 181, 0, 76, 42]
abbrev dktX1_init_6 : List UInt8 := dkwX1_init_6 ++ dktX1_init_7
def dkwX1_init_5 : List UInt8 := [187, 0, 50, 89, 42, 183, 0, 52, 181, 0, 55, 42, 187, 0, 59, 89, 42, 183, 0, 61, 181, 0, 62, 42]
abbrev dktX1_init_5 : List UInt8 := dkwX1_init_5 ++ dktX1_init_6
def dkwX1_init_4 : List UInt8 := [28, 4, 100, 46, 133, 105, 97, 184, 0, 21, 79, 132, 2, 1, 167, 255, 175, 42, 16, 99, 181, 0, 46, 42]
abbrev dktX1_init_4 : List UInt8 := dkwX1_init_4 ++ dktX1_init_5
def dkwX1_init_3 : List UInt8 := [180, 0, 18, 28, 20, 0, 42, 42, 180, 0, 18, 28, 4, 100, 46, 133, 105, 20, 0, 44, 42, 180, 0, 14]
abbrev dktX1_init_3 : List UInt8 := dkwX1_init_3 ++ dktX1_init_4
def dkwX1_init_2 : List UInt8 := [4, 100, 46, 133, 105, 20, 0, 44, 42, 180, 0, 18, 28, 4, 100, 46, 133, 105, 101, 184, 0, 21, 79, 42]
abbrev dktX1_init_2 : List UInt8 := dkwX1_init_2 ++ dktX1_init_3
def dkwX1_init_1 : List UInt8 := [3, 4, 79, 4, 61, 28, 16, 96, 162, 0, 81, 42, 180, 0, 14, 28, 20, 0, 42, 42, 180, 0, 14, 28]
abbrev dktX1_init_1 : List UInt8 := dkwX1_init_1 ++ dktX1_init_2
def dkwX1_init_0 : List UInt8 := [42, 183, 0, 36, 42, 16, 96, 188, 10, 181, 0, 14, 42, 16, 96, 188, 10, 181, 0, 18, 42, 180, 0, 14]
abbrev dktX1_init_0 : List UInt8 := dkwX1_init_0 ++ dktX1_init_1
theorem dksX1_init_0 : cX1_init.data.toList.drop 0 = dktX1_init_0 := by decide +kernel
theorem dksX1_init_1 : cX1_init.data.toList.drop 24 = dktX1_init_1 := dk_seg dksX1_init_0 24 rfl rfl
theorem dksX1_init_2 : cX1_init.data.toList.drop 48 = dktX1_init_2 := dk_seg dksX1_init_1 24 rfl rfl
theorem dksX1_init_3 : cX1_init.data.toList.drop 72 = dktX1_init_3 := dk_seg dksX1_init_2 24 rfl rfl
theorem dksX1_init_4 : cX1_init.data.toList.drop 96 = dktX1_init_4 := dk_seg dksX1_init_3 24 rfl rfl
theorem dksX1_init_5 : cX1_init.data.toList.drop 120 = dktX1_init_5 := dk_seg dksX1_init_4 24 rfl rfl
theorem dksX1_init_6 : cX1_init.data.toList.drop 144 = dktX1_init_6 := dk_seg dksX1_init_5 24 rfl rfl
theorem dksX1_init_7 : cX1_init.data.toList.drop 168 = dktX1_init_7 := dk_seg dksX1_init_6 24 rfl rfl
theorem dksX1_init_8 : cX1_init.data.toList.drop 192 = dktX1_init_8 := dk_seg dksX1_init_7 24 rfl rfl
theorem dksX1_init_9 : cX1_init.data.toList.drop 216 = dktX1_init_9 := dk_seg dksX1_init_8 24 rfl rfl
theorem dksX1_init_10 : cX1_init.data.toList.drop 240 = dktX1_init_10 := dk_seg dksX1_init_9 24 rfl rfl
theorem dksX1_init_11 : cX1_init.data.toList.drop 264 = dktX1_init_11 := dk_seg dksX1_init_10 24 rfl rfl
theorem dksX1_init_12 : cX1_init.data.toList.drop 288 = dktX1_init_12 := dk_seg dksX1_init_11 24 rfl rfl
theorem dksX1_init_13 : cX1_init.data.toList.drop 310 = dktX1_init_13 := dk_seg dksX1_init_12 22 rfl rfl
theorem dksX1_init_14 : cX1_init.data.toList.drop 332 = dktX1_init_14 := dk_seg dksX1_init_13 22 rfl rfl
theorem dksX1_init_15 : cX1_init.data.toList.drop 356 = dktX1_init_15 := dk_seg dksX1_init_14 24 rfl rfl
theorem dksX1_init_16 : cX1_init.data.toList.drop 380 = dktX1_init_16 := dk_seg dksX1_init_15 24 rfl rfl
theorem dX1_init_0 : decode cX1_init 0 = .ok (.aload_n 0, 1) := dk_42 (dk_at dksX1_init_0 0 rfl rfl)
theorem dX1_init_1 : decode cX1_init 1 = .ok (.invokespecial 36, 3) := dk_183 0 36 (dk_at dksX1_init_0 1 rfl rfl)
theorem dX1_init_4 : decode cX1_init 4 = .ok (.aload_n 0, 1) := dk_42 (dk_at dksX1_init_0 4 rfl rfl)
theorem dX1_init_5 : decode cX1_init 5 = .ok (.bipush 96, 2) := dk_16 96 (dk_at dksX1_init_0 5 rfl rfl)
theorem dX1_init_7 : decode cX1_init 7 = .ok (.newarray .int, 2) := dk_188_10 (dk_at dksX1_init_0 7 rfl rfl)
theorem dX1_init_9 : decode cX1_init 9 = .ok (.putfield 14, 3) := dk_181 0 14 (dk_at dksX1_init_0 9 rfl rfl)
theorem dX1_init_12 : decode cX1_init 12 = .ok (.aload_n 0, 1) := dk_42 (dk_at dksX1_init_0 12 rfl rfl)
theorem dX1_init_13 : decode cX1_init 13 = .ok (.bipush 96, 2) := dk_16 96 (dk_at dksX1_init_0 13 rfl rfl)
theorem dX1_init_15 : decode cX1_init 15 = .ok (.newarray .int, 2) := dk_188_10 (dk_at dksX1_init_0 15 rfl rfl)
theorem dX1_init_17 : decode cX1_init 17 = .ok (.putfield 18, 3) := dk_181 0 18 (dk_at dksX1_init_0 17 rfl rfl)
theorem dX1_init_20 : decode cX1_init 20 = .ok (.aload_n 0, 1) := dk_42 (dk_at dksX1_init_0 20 rfl rfl)
theorem dX1_init_21 : decode cX1_init 21 = .ok (.getfield 14, 3) := dk_180 0 14 (dk_at dksX1_init_0 21 rfl rfl)
theorem dX1_init_24 : decode cX1_init 24 = .ok (.iconst 0, 1) := dk_3 (dk_at dksX1_init_1 0 rfl rfl)
theorem dX1_init_25 : decode cX1_init 25 = .ok (.iconst 1, 1) := dk_4 (dk_at dksX1_init_1 1 rfl rfl)
theorem dX1_init_26 : decode cX1_init 26 = .ok (.iastore, 1) := dk_79 (dk_at dksX1_init_1 2 rfl rfl)
theorem dX1_init_27 : decode cX1_init 27 = .ok (.iconst 1, 1) := dk_4 (dk_at dksX1_init_1 3 rfl rfl)
theorem dX1_init_28 : decode cX1_init 28 = .ok (.istore_n 2, 1) := dk_61 (dk_at dksX1_init_1 4 rfl rfl)
theorem dX1_init_29 : decode cX1_init 29 = .ok (.iload_n 2, 1) := dk_28 (dk_at dksX1_init_1 5 rfl rfl)
theorem dX1_init_30 : decode cX1_init 30 = .ok (.bipush 96, 2) := dk_16 96 (dk_at dksX1_init_1 6 rfl rfl)
theorem dX1_init_32 : decode cX1_init 32 = .ok (.if_icmp .ge 81, 3) := dk_162 0 81 (dk_at dksX1_init_1 8 rfl rfl)
theorem dX1_init_35 : decode cX1_init 35 = .ok (.aload_n 0, 1) := dk_42 (dk_at dksX1_init_1 11 rfl rfl)
theorem dX1_init_36 : decode cX1_init 36 = .ok (.getfield 14, 3) := dk_180 0 14 (dk_at dksX1_init_1 12 rfl rfl)
theorem dX1_init_39 : decode cX1_init 39 = .ok (.iload_n 2, 1) := dk_28 (dk_at dksX1_init_1 15 rfl rfl)
theorem dX1_init_40 : decode cX1_init 40 = .ok (.ldc2_w 42, 3) := dk_20 0 42 (dk_at dksX1_init_1 16 rfl rfl)
theorem dX1_init_43 : decode cX1_init 43 = .ok (.aload_n 0, 1) := dk_42 (dk_at dksX1_init_1 19 rfl rfl)
theorem dX1_init_44 : decode cX1_init 44 = .ok (.getfield 14, 3) := dk_180 0 14 (dk_at dksX1_init_1 20 rfl rfl)
theorem dX1_init_47 : decode cX1_init 47 = .ok (.iload_n 2, 1) := dk_28 (dk_at dksX1_init_1 23 rfl rfl)
theorem dX1_init_48 : decode cX1_init 48 = .ok (.iconst 1, 1) := dk_4 (dk_at dksX1_init_2 0 rfl rfl)
theorem dX1_init_49 : decode cX1_init 49 = .ok (.isub, 1) := dk_100 (dk_at dksX1_init_2 1 rfl rfl)
theorem dX1_init_50 : decode cX1_init 50 = .ok (.iaload, 1) := dk_46 (dk_at dksX1_init_2 2 rfl rfl)
theorem dX1_init_51 : decode cX1_init 51 = .ok (.i2l, 1) := dk_133 (dk_at dksX1_init_2 3 rfl rfl)
theorem dX1_init_52 : decode cX1_init 52 = .ok (.lmul, 1) := dk_105 (dk_at dksX1_init_2 4 rfl rfl)
theorem dX1_init_53 : decode cX1_init 53 = .ok (.ldc2_w 44, 3) := dk_20 0 44 (dk_at dksX1_init_2 5 rfl rfl)
theorem dX1_init_56 : decode cX1_init 56 = .ok (.aload_n 0, 1) := dk_42 (dk_at dksX1_init_2 8 rfl rfl)
theorem dX1_init_57 : decode cX1_init 57 = .ok (.getfield 18, 3) := dk_180 0 18 (dk_at dksX1_init_2 9 rfl rfl)
theorem dX1_init_60 : decode cX1_init 60 = .ok (.iload_n 2, 1) := dk_28 (dk_at dksX1_init_2 12 rfl rfl)
theorem dX1_init_61 : decode cX1_init 61 = .ok (.iconst 1, 1) := dk_4 (dk_at dksX1_init_2 13 rfl rfl)
theorem dX1_init_62 : decode cX1_init 62 = .ok (.isub, 1) := dk_100 (dk_at dksX1_init_2 14 rfl rfl)
theorem dX1_init_63 : decode cX1_init 63 = .ok (.iaload, 1) := dk_46 (dk_at dksX1_init_2 15 rfl rfl)
theorem dX1_init_64 : decode cX1_init 64 = .ok (.i2l, 1) := dk_133 (dk_at dksX1_init_2 16 rfl rfl)
theorem dX1_init_65 : decode cX1_init 65 = .ok (.lmul, 1) := dk_105 (dk_at dksX1_init_2 17 rfl rfl)
theorem dX1_init_66 : decode cX1_init 66 = .ok (.lsub, 1) := dk_101 (dk_at dksX1_init_2 18 rfl rfl)
theorem dX1_init_67 : decode cX1_init 67 = .ok (.invokestatic 21, 3) := dk_184 0 21 (dk_at dksX1_init_2 19 rfl rfl)
theorem dX1_init_70 : decode cX1_init 70 = .ok (.iastore, 1) := dk_79 (dk_at dksX1_init_2 22 rfl rfl)
theorem dX1_init_71 : decode cX1_init 71 = .ok (.aload_n 0, 1) := dk_42 (dk_at dksX1_init_2 23 rfl rfl)
theorem dX1_init_72 : decode cX1_init 72 = .ok (.getfield 18, 3) := dk_180 0 18 (dk_at dksX1_init_3 0 rfl rfl)
theorem dX1_init_75 : decode cX1_init 75 = .ok (.iload_n 2, 1) := dk_28 (dk_at dksX1_init_3 3 rfl rfl)
theorem dX1_init_76 : decode cX1_init 76 = .ok (.ldc2_w 42, 3) := dk_20 0 42 (dk_at dksX1_init_3 4 rfl rfl)
theorem dX1_init_79 : decode cX1_init 79 = .ok (.aload_n 0, 1) := dk_42 (dk_at dksX1_init_3 7 rfl rfl)
theorem dX1_init_80 : decode cX1_init 80 = .ok (.getfield 18, 3) := dk_180 0 18 (dk_at dksX1_init_3 8 rfl rfl)
theorem dX1_init_83 : decode cX1_init 83 = .ok (.iload_n 2, 1) := dk_28 (dk_at dksX1_init_3 11 rfl rfl)
theorem dX1_init_84 : decode cX1_init 84 = .ok (.iconst 1, 1) := dk_4 (dk_at dksX1_init_3 12 rfl rfl)
theorem dX1_init_85 : decode cX1_init 85 = .ok (.isub, 1) := dk_100 (dk_at dksX1_init_3 13 rfl rfl)
theorem dX1_init_86 : decode cX1_init 86 = .ok (.iaload, 1) := dk_46 (dk_at dksX1_init_3 14 rfl rfl)
theorem dX1_init_87 : decode cX1_init 87 = .ok (.i2l, 1) := dk_133 (dk_at dksX1_init_3 15 rfl rfl)
theorem dX1_init_88 : decode cX1_init 88 = .ok (.lmul, 1) := dk_105 (dk_at dksX1_init_3 16 rfl rfl)
theorem dX1_init_89 : decode cX1_init 89 = .ok (.ldc2_w 44, 3) := dk_20 0 44 (dk_at dksX1_init_3 17 rfl rfl)
theorem dX1_init_92 : decode cX1_init 92 = .ok (.aload_n 0, 1) := dk_42 (dk_at dksX1_init_3 20 rfl rfl)
theorem dX1_init_93 : decode cX1_init 93 = .ok (.getfield 14, 3) := dk_180 0 14 (dk_at dksX1_init_3 21 rfl rfl)
theorem dX1_init_96 : decode cX1_init 96 = .ok (.iload_n 2, 1) := dk_28 (dk_at dksX1_init_4 0 rfl rfl)
theorem dX1_init_97 : decode cX1_init 97 = .ok (.iconst 1, 1) := dk_4 (dk_at dksX1_init_4 1 rfl rfl)
theorem dX1_init_98 : decode cX1_init 98 = .ok (.isub, 1) := dk_100 (dk_at dksX1_init_4 2 rfl rfl)
theorem dX1_init_99 : decode cX1_init 99 = .ok (.iaload, 1) := dk_46 (dk_at dksX1_init_4 3 rfl rfl)
theorem dX1_init_100 : decode cX1_init 100 = .ok (.i2l, 1) := dk_133 (dk_at dksX1_init_4 4 rfl rfl)
theorem dX1_init_101 : decode cX1_init 101 = .ok (.lmul, 1) := dk_105 (dk_at dksX1_init_4 5 rfl rfl)
theorem dX1_init_102 : decode cX1_init 102 = .ok (.ladd, 1) := dk_97 (dk_at dksX1_init_4 6 rfl rfl)
theorem dX1_init_103 : decode cX1_init 103 = .ok (.invokestatic 21, 3) := dk_184 0 21 (dk_at dksX1_init_4 7 rfl rfl)
theorem dX1_init_106 : decode cX1_init 106 = .ok (.iastore, 1) := dk_79 (dk_at dksX1_init_4 10 rfl rfl)
theorem dX1_init_107 : decode cX1_init 107 = .ok (.iinc 2 1, 3) := dk_132 2 1 (dk_at dksX1_init_4 11 rfl rfl)
theorem dX1_init_110 : decode cX1_init 110 = .ok (.goto (-81), 3) := dk_167 255 175 (dk_at dksX1_init_4 14 rfl rfl)
theorem dX1_init_113 : decode cX1_init 113 = .ok (.aload_n 0, 1) := dk_42 (dk_at dksX1_init_4 17 rfl rfl)
theorem dX1_init_114 : decode cX1_init 114 = .ok (.bipush 99, 2) := dk_16 99 (dk_at dksX1_init_4 18 rfl rfl)
theorem dX1_init_116 : decode cX1_init 116 = .ok (.putfield 46, 3) := dk_181 0 46 (dk_at dksX1_init_4 20 rfl rfl)
theorem dX1_init_119 : decode cX1_init 119 = .ok (.aload_n 0, 1) := dk_42 (dk_at dksX1_init_4 23 rfl rfl)
theorem dX1_init_120 : decode cX1_init 120 = .ok (.new 50, 3) := dk_187 0 50 (dk_at dksX1_init_5 0 rfl rfl)
theorem dX1_init_123 : decode cX1_init 123 = .ok (.dup, 1) := dk_89 (dk_at dksX1_init_5 3 rfl rfl)
theorem dX1_init_124 : decode cX1_init 124 = .ok (.aload_n 0, 1) := dk_42 (dk_at dksX1_init_5 4 rfl rfl)
theorem dX1_init_125 : decode cX1_init 125 = .ok (.invokespecial 52, 3) := dk_183 0 52 (dk_at dksX1_init_5 5 rfl rfl)
theorem dX1_init_128 : decode cX1_init 128 = .ok (.putfield 55, 3) := dk_181 0 55 (dk_at dksX1_init_5 8 rfl rfl)
theorem dX1_init_131 : decode cX1_init 131 = .ok (.aload_n 0, 1) := dk_42 (dk_at dksX1_init_5 11 rfl rfl)
theorem dX1_init_132 : decode cX1_init 132 = .ok (.new 59, 3) := dk_187 0 59 (dk_at dksX1_init_5 12 rfl rfl)
theorem dX1_init_135 : decode cX1_init 135 = .ok (.dup, 1) := dk_89 (dk_at dksX1_init_5 15 rfl rfl)
theorem dX1_init_136 : decode cX1_init 136 = .ok (.aload_n 0, 1) := dk_42 (dk_at dksX1_init_5 16 rfl rfl)
theorem dX1_init_137 : decode cX1_init 137 = .ok (.invokespecial 61, 3) := dk_183 0 61 (dk_at dksX1_init_5 17 rfl rfl)
theorem dX1_init_140 : decode cX1_init 140 = .ok (.putfield 62, 3) := dk_181 0 62 (dk_at dksX1_init_5 20 rfl rfl)
theorem dX1_init_143 : decode cX1_init 143 = .ok (.aload_n 0, 1) := dk_42 (dk_at dksX1_init_5 23 rfl rfl)
theorem dX1_init_144 : decode cX1_init 144 = .ok (.new 66, 3) := dk_187 0 66 (dk_at dksX1_init_6 0 rfl rfl)
theorem dX1_init_147 : decode cX1_init 147 = .ok (.dup, 1) := dk_89 (dk_at dksX1_init_6 3 rfl rfl)
theorem dX1_init_148 : decode cX1_init 148 = .ok (.aload_n 0, 1) := dk_42 (dk_at dksX1_init_6 4 rfl rfl)
theorem dX1_init_149 : decode cX1_init 149 = .ok (.invokespecial 68, 3) := dk_183 0 68 (dk_at dksX1_init_6 5 rfl rfl)
theorem dX1_init_152 : decode cX1_init 152 = .ok (.putfield 69, 3) := dk_181 0 69 (dk_at dksX1_init_6 8 rfl rfl)
theorem dX1_init_155 : decode cX1_init 155 = .ok (.aload_n 0, 1) := dk_42 (dk_at dksX1_init_6 11 rfl rfl)
theorem dX1_init_156 : decode cX1_init 156 = .ok (.new 73, 3) := dk_187 0 73 (dk_at dksX1_init_6 12 rfl rfl)
theorem dX1_init_159 : decode cX1_init 159 = .ok (.dup, 1) := dk_89 (dk_at dksX1_init_6 15 rfl rfl)
theorem dX1_init_160 : decode cX1_init 160 = .ok (.aload_n 0, 1) := dk_42 (dk_at dksX1_init_6 16 rfl rfl)
theorem dX1_init_161 : decode cX1_init 161 = .ok (.invokespecial 75, 3) := dk_183 0 75 (dk_at dksX1_init_6 17 rfl rfl)
theorem dX1_init_164 : decode cX1_init 164 = .ok (.putfield 76, 3) := dk_181 0 76 (dk_at dksX1_init_6 20 rfl rfl)
theorem dX1_init_167 : decode cX1_init 167 = .ok (.aload_n 0, 1) := dk_42 (dk_at dksX1_init_6 23 rfl rfl)
theorem dX1_init_168 : decode cX1_init 168 = .ok (.bipush 6, 2) := dk_16 6 (dk_at dksX1_init_7 0 rfl rfl)
theorem dX1_init_170 : decode cX1_init 170 = .ok (.newarray .int, 2) := dk_188_10 (dk_at dksX1_init_7 2 rfl rfl)
theorem dX1_init_172 : decode cX1_init 172 = .ok (.putfield 80, 3) := dk_181 0 80 (dk_at dksX1_init_7 4 rfl rfl)
theorem dX1_init_175 : decode cX1_init 175 = .ok (.aload_n 0, 1) := dk_42 (dk_at dksX1_init_7 7 rfl rfl)
theorem dX1_init_176 : decode cX1_init 176 = .ok (.bipush 6, 2) := dk_16 6 (dk_at dksX1_init_7 8 rfl rfl)
theorem dX1_init_178 : decode cX1_init 178 = .ok (.bipush 6, 2) := dk_16 6 (dk_at dksX1_init_7 10 rfl rfl)
theorem dX1_init_180 : decode cX1_init 180 = .ok (.multianewarray 83 2, 4) := by decide +kernel
theorem dX1_init_184 : decode cX1_init 184 = .ok (.putfield 85, 3) := dk_181 0 85 (dk_at dksX1_init_7 16 rfl rfl)
theorem dX1_init_187 : decode cX1_init 187 = .ok (.aload_n 0, 1) := dk_42 (dk_at dksX1_init_7 19 rfl rfl)
theorem dX1_init_188 : decode cX1_init 188 = .ok (.bipush 6, 2) := dk_16 6 (dk_at dksX1_init_7 20 rfl rfl)
theorem dX1_init_190 : decode cX1_init 190 = .ok (.bipush 6, 2) := dk_16 6 (dk_at dksX1_init_7 22 rfl rfl)
theorem dX1_init_192 : decode cX1_init 192 = .ok (.multianewarray 83 2, 4) := by decide +kernel
theorem dX1_init_196 : decode cX1_init 196 = .ok (.putfield 88, 3) := dk_181 0 88 (dk_at dksX1_init_8 4 rfl rfl)
theorem dX1_init_199 : decode cX1_init 199 = .ok (.aload_n 0, 1) := dk_42 (dk_at dksX1_init_8 7 rfl rfl)
theorem dX1_init_200 : decode cX1_init 200 = .ok (.bipush 15, 2) := dk_16 15 (dk_at dksX1_init_8 8 rfl rfl)
theorem dX1_init_202 : decode cX1_init 202 = .ok (.newarray .int, 2) := dk_188_10 (dk_at dksX1_init_8 10 rfl rfl)
theorem dX1_init_204 : decode cX1_init 204 = .ok (.putfield 91, 3) := dk_181 0 91 (dk_at dksX1_init_8 12 rfl rfl)
theorem dX1_init_207 : decode cX1_init 207 = .ok (.aload_n 0, 1) := dk_42 (dk_at dksX1_init_8 15 rfl rfl)
theorem dX1_init_208 : decode cX1_init 208 = .ok (.bipush 15, 2) := dk_16 15 (dk_at dksX1_init_8 16 rfl rfl)
theorem dX1_init_210 : decode cX1_init 210 = .ok (.newarray .int, 2) := dk_188_10 (dk_at dksX1_init_8 18 rfl rfl)
theorem dX1_init_212 : decode cX1_init 212 = .ok (.putfield 94, 3) := dk_181 0 94 (dk_at dksX1_init_8 20 rfl rfl)
theorem dX1_init_215 : decode cX1_init 215 = .ok (.aload_n 0, 1) := dk_42 (dk_at dksX1_init_8 23 rfl rfl)
theorem dX1_init_216 : decode cX1_init 216 = .ok (.bipush 6, 2) := dk_16 6 (dk_at dksX1_init_9 0 rfl rfl)
theorem dX1_init_218 : decode cX1_init 218 = .ok (.newarray .int, 2) := dk_188_10 (dk_at dksX1_init_9 2 rfl rfl)
theorem dX1_init_220 : decode cX1_init 220 = .ok (.putfield 97, 3) := dk_181 0 97 (dk_at dksX1_init_9 4 rfl rfl)
theorem dX1_init_223 : decode cX1_init 223 = .ok (.aload_n 0, 1) := dk_42 (dk_at dksX1_init_9 7 rfl rfl)
theorem dX1_init_224 : decode cX1_init 224 = .ok (.bipush 10, 2) := dk_16 10 (dk_at dksX1_init_9 8 rfl rfl)
theorem dX1_init_226 : decode cX1_init 226 = .ok (.newarray .int, 2) := dk_188_10 (dk_at dksX1_init_9 10 rfl rfl)
theorem dX1_init_228 : decode cX1_init 228 = .ok (.putfield 100, 3) := dk_181 0 100 (dk_at dksX1_init_9 12 rfl rfl)
theorem dX1_init_231 : decode cX1_init 231 = .ok (.aload_n 0, 1) := dk_42 (dk_at dksX1_init_9 15 rfl rfl)
theorem dX1_init_232 : decode cX1_init 232 = .ok (.bipush 10, 2) := dk_16 10 (dk_at dksX1_init_9 16 rfl rfl)
theorem dX1_init_234 : decode cX1_init 234 = .ok (.newarray .int, 2) := dk_188_10 (dk_at dksX1_init_9 18 rfl rfl)
theorem dX1_init_236 : decode cX1_init 236 = .ok (.putfield 103, 3) := dk_181 0 103 (dk_at dksX1_init_9 20 rfl rfl)
theorem dX1_init_239 : decode cX1_init 239 = .ok (.aload_n 0, 1) := dk_42 (dk_at dksX1_init_9 23 rfl rfl)
theorem dX1_init_240 : decode cX1_init 240 = .ok (.bipush 13, 2) := dk_16 13 (dk_at dksX1_init_10 0 rfl rfl)
theorem dX1_init_242 : decode cX1_init 242 = .ok (.sipush 1024, 3) := dk_17 4 0 (dk_at dksX1_init_10 2 rfl rfl)
theorem dX1_init_245 : decode cX1_init 245 = .ok (.multianewarray 106 2, 4) := by decide +kernel
theorem dX1_init_249 : decode cX1_init 249 = .ok (.putfield 108, 3) := dk_181 0 108 (dk_at dksX1_init_10 9 rfl rfl)
theorem dX1_init_252 : decode cX1_init 252 = .ok (.aload_n 0, 1) := dk_42 (dk_at dksX1_init_10 12 rfl rfl)
theorem dX1_init_253 : decode cX1_init 253 = .ok (.bipush 100, 2) := dk_16 100 (dk_at dksX1_init_10 13 rfl rfl)
theorem dX1_init_255 : decode cX1_init 255 = .ok (.newarray .byte, 2) := dk_188_8 (dk_at dksX1_init_10 15 rfl rfl)
theorem dX1_init_257 : decode cX1_init 257 = .ok (.putfield 111, 3) := dk_181 0 111 (dk_at dksX1_init_10 17 rfl rfl)
theorem dX1_init_260 : decode cX1_init 260 = .ok (.aload_n 0, 1) := dk_42 (dk_at dksX1_init_10 20 rfl rfl)
theorem dX1_init_261 : decode cX1_init 261 = .ok (.new 115, 3) := dk_187 0 115 (dk_at dksX1_init_10 21 rfl rfl)
theorem dX1_init_264 : decode cX1_init 264 = .ok (.dup, 1) := dk_89 (dk_at dksX1_init_11 0 rfl rfl)
theorem dX1_init_265 : decode cX1_init 265 = .ok (.aload_n 0, 1) := dk_42 (dk_at dksX1_init_11 1 rfl rfl)
theorem dX1_init_266 : decode cX1_init 266 = .ok (.invokespecial 117, 3) := dk_183 0 117 (dk_at dksX1_init_11 2 rfl rfl)
theorem dX1_init_269 : decode cX1_init 269 = .ok (.putfield 118, 3) := dk_181 0 118 (dk_at dksX1_init_11 5 rfl rfl)
theorem dX1_init_272 : decode cX1_init 272 = .ok (.aload_n 0, 1) := dk_42 (dk_at dksX1_init_11 8 rfl rfl)
theorem dX1_init_273 : decode cX1_init 273 = .ok (.new 122, 3) := dk_187 0 122 (dk_at dksX1_init_11 9 rfl rfl)
theorem dX1_init_276 : decode cX1_init 276 = .ok (.dup, 1) := dk_89 (dk_at dksX1_init_11 12 rfl rfl)
theorem dX1_init_277 : decode cX1_init 277 = .ok (.invokespecial 124, 3) := dk_183 0 124 (dk_at dksX1_init_11 13 rfl rfl)
theorem dX1_init_280 : decode cX1_init 280 = .ok (.putfield 125, 3) := dk_181 0 125 (dk_at dksX1_init_11 16 rfl rfl)
theorem dX1_init_283 : decode cX1_init 283 = .ok (.aload_n 0, 1) := dk_42 (dk_at dksX1_init_11 19 rfl rfl)
theorem dX1_init_284 : decode cX1_init 284 = .ok (.new 122, 3) := dk_187 0 122 (dk_at dksX1_init_11 20 rfl rfl)
theorem dX1_init_287 : decode cX1_init 287 = .ok (.dup, 1) := dk_89 (dk_at dksX1_init_11 23 rfl rfl)
theorem dX1_init_288 : decode cX1_init 288 = .ok (.invokespecial 124, 3) := dk_183 0 124 (dk_at dksX1_init_12 0 rfl rfl)
theorem dX1_init_291 : decode cX1_init 291 = .ok (.putfield 129, 3) := dk_181 0 129 (dk_at dksX1_init_12 3 rfl rfl)
theorem dX1_init_294 : decode cX1_init 294 = .ok (.aload_n 0, 1) := dk_42 (dk_at dksX1_init_12 6 rfl rfl)
theorem dX1_init_295 : decode cX1_init 295 = .ok (.new 122, 3) := dk_187 0 122 (dk_at dksX1_init_12 7 rfl rfl)
theorem dX1_init_298 : decode cX1_init 298 = .ok (.dup, 1) := dk_89 (dk_at dksX1_init_12 10 rfl rfl)
theorem dX1_init_299 : decode cX1_init 299 = .ok (.invokespecial 124, 3) := dk_183 0 124 (dk_at dksX1_init_12 11 rfl rfl)
theorem dX1_init_302 : decode cX1_init 302 = .ok (.putfield 132, 3) := dk_181 0 132 (dk_at dksX1_init_12 14 rfl rfl)
theorem dX1_init_305 : decode cX1_init 305 = .ok (.aload_n 0, 1) := dk_42 (dk_at dksX1_init_12 17 rfl rfl)
theorem dX1_init_306 : decode cX1_init 306 = .ok (.bipush 6, 2) := dk_16 6 (dk_at dksX1_init_12 18 rfl rfl)
theorem dX1_init_308 : decode cX1_init 308 = .ok (.bipush 97, 2) := dk_16 97 (dk_at dksX1_init_12 20 rfl rfl)
theorem dX1_init_310 : decode cX1_init 310 = .ok (.multianewarray 83 2, 4) := by decide +kernel
theorem dX1_init_314 : decode cX1_init 314 = .ok (.putfield 135, 3) := dk_181 0 135 (dk_at dksX1_init_13 4 rfl rfl)
theorem dX1_init_317 : decode cX1_init 317 = .ok (.aload_n 0, 1) := dk_42 (dk_at dksX1_init_13 7 rfl rfl)
theorem dX1_init_318 : decode cX1_init 318 = .ok (.iload_n 1, 1) := dk_27 (dk_at dksX1_init_13 8 rfl rfl)
theorem dX1_init_319 : decode cX1_init 319 = .ok (.iconst 5, 1) := dk_8 (dk_at dksX1_init_13 9 rfl rfl)
theorem dX1_init_320 : decode cX1_init 320 = .ok (.invokestatic 11, 3) := dk_184 0 11 (dk_at dksX1_init_13 10 rfl rfl)
theorem dX1_init_323 : decode cX1_init 323 = .ok (.iconst 2, 1) := dk_5 (dk_at dksX1_init_13 13 rfl rfl)
theorem dX1_init_324 : decode cX1_init 324 = .ok (.iadd, 1) := dk_96 (dk_at dksX1_init_13 14 rfl rfl)
theorem dX1_init_325 : decode cX1_init 325 = .ok (.putfield 138, 3) := dk_181 0 138 (dk_at dksX1_init_13 15 rfl rfl)
theorem dX1_init_328 : decode cX1_init 328 = .ok (.aload_n 0, 1) := dk_42 (dk_at dksX1_init_13 18 rfl rfl)
theorem dX1_init_329 : decode cX1_init 329 = .ok (.bipush 12, 2) := dk_16 12 (dk_at dksX1_init_13 19 rfl rfl)
theorem dX1_init_331 : decode cX1_init 331 = .ok (.aload_n 0, 1) := dk_42 (dk_at dksX1_init_13 21 rfl rfl)
theorem dX1_init_332 : decode cX1_init 332 = .ok (.getfield 138, 3) := dk_180 0 138 (dk_at dksX1_init_14 0 rfl rfl)
theorem dX1_init_335 : decode cX1_init 335 = .ok (.imul, 1) := dk_104 (dk_at dksX1_init_14 3 rfl rfl)
theorem dX1_init_336 : decode cX1_init 336 = .ok (.anewarray 141, 3) := dk_189 0 141 (dk_at dksX1_init_14 4 rfl rfl)
theorem dX1_init_339 : decode cX1_init 339 = .ok (.putfield 143, 3) := dk_181 0 143 (dk_at dksX1_init_14 7 rfl rfl)
theorem dX1_init_342 : decode cX1_init 342 = .ok (.iconst 0, 1) := dk_3 (dk_at dksX1_init_14 10 rfl rfl)
theorem dX1_init_343 : decode cX1_init 343 = .ok (.istore_n 2, 1) := dk_61 (dk_at dksX1_init_14 11 rfl rfl)
theorem dX1_init_344 : decode cX1_init 344 = .ok (.iload_n 2, 1) := dk_28 (dk_at dksX1_init_14 12 rfl rfl)
theorem dX1_init_345 : decode cX1_init 345 = .ok (.bipush 12, 2) := dk_16 12 (dk_at dksX1_init_14 13 rfl rfl)
theorem dX1_init_347 : decode cX1_init 347 = .ok (.if_icmp .ge 52, 3) := dk_162 0 52 (dk_at dksX1_init_14 15 rfl rfl)
theorem dX1_init_350 : decode cX1_init 350 = .ok (.iload_n 2, 1) := dk_28 (dk_at dksX1_init_14 18 rfl rfl)
theorem dX1_init_351 : decode cX1_init 351 = .ok (.iconst 2, 1) := dk_5 (dk_at dksX1_init_14 19 rfl rfl)
theorem dX1_init_352 : decode cX1_init 352 = .ok (.irem, 1) := dk_112 (dk_at dksX1_init_14 20 rfl rfl)
theorem dX1_init_353 : decode cX1_init 353 = .ok (.istore_n 3, 1) := dk_62 (dk_at dksX1_init_14 21 rfl rfl)
theorem dX1_init_354 : decode cX1_init 354 = .ok (.iload_n 3, 1) := dk_29 (dk_at dksX1_init_14 22 rfl rfl)
theorem dX1_init_355 : decode cX1_init 355 = .ok (.aload_n 0, 1) := dk_42 (dk_at dksX1_init_14 23 rfl rfl)
theorem dX1_init_356 : decode cX1_init 356 = .ok (.getfield 138, 3) := dk_180 0 138 (dk_at dksX1_init_15 0 rfl rfl)
theorem dX1_init_359 : decode cX1_init 359 = .ok (.iconst 1, 1) := dk_4 (dk_at dksX1_init_15 3 rfl rfl)
theorem dX1_init_360 : decode cX1_init 360 = .ok (.isub, 1) := dk_100 (dk_at dksX1_init_15 4 rfl rfl)
theorem dX1_init_361 : decode cX1_init 361 = .ok (.if_icmp .ge 32, 3) := dk_162 0 32 (dk_at dksX1_init_15 5 rfl rfl)
theorem dX1_init_364 : decode cX1_init 364 = .ok (.aload_n 0, 1) := dk_42 (dk_at dksX1_init_15 8 rfl rfl)
theorem dX1_init_365 : decode cX1_init 365 = .ok (.getfield 143, 3) := dk_180 0 143 (dk_at dksX1_init_15 9 rfl rfl)
theorem dX1_init_368 : decode cX1_init 368 = .ok (.iload_n 2, 1) := dk_28 (dk_at dksX1_init_15 12 rfl rfl)
theorem dX1_init_369 : decode cX1_init 369 = .ok (.aload_n 0, 1) := dk_42 (dk_at dksX1_init_15 13 rfl rfl)
theorem dX1_init_370 : decode cX1_init 370 = .ok (.getfield 138, 3) := dk_180 0 138 (dk_at dksX1_init_15 14 rfl rfl)
theorem dX1_init_373 : decode cX1_init 373 = .ok (.imul, 1) := dk_104 (dk_at dksX1_init_15 17 rfl rfl)
theorem dX1_init_374 : decode cX1_init 374 = .ok (.iload_n 3, 1) := dk_29 (dk_at dksX1_init_15 18 rfl rfl)
theorem dX1_init_375 : decode cX1_init 375 = .ok (.iadd, 1) := dk_96 (dk_at dksX1_init_15 19 rfl rfl)
theorem dX1_init_376 : decode cX1_init 376 = .ok (.new 141, 3) := dk_187 0 141 (dk_at dksX1_init_15 20 rfl rfl)
theorem dX1_init_379 : decode cX1_init 379 = .ok (.dup, 1) := dk_89 (dk_at dksX1_init_15 23 rfl rfl)
theorem dX1_init_380 : decode cX1_init 380 = .ok (.aload_n 0, 1) := dk_42 (dk_at dksX1_init_16 0 rfl rfl)
theorem dX1_init_381 : decode cX1_init 381 = .ok (.iload_n 2, 1) := dk_28 (dk_at dksX1_init_16 1 rfl rfl)
theorem dX1_init_382 : decode cX1_init 382 = .ok (.iload_n 3, 1) := dk_29 (dk_at dksX1_init_16 2 rfl rfl)
theorem dX1_init_383 : decode cX1_init 383 = .ok (.invokespecial 147, 3) := dk_183 0 147 (dk_at dksX1_init_16 3 rfl rfl)
theorem dX1_init_386 : decode cX1_init 386 = .ok (.aastore, 1) := dk_83 (dk_at dksX1_init_16 6 rfl rfl)
theorem dX1_init_387 : decode cX1_init 387 = .ok (.iinc 3 2, 3) := dk_132 3 2 (dk_at dksX1_init_16 7 rfl rfl)
theorem dX1_init_390 : decode cX1_init 390 = .ok (.goto (-36), 3) := dk_167 255 220 (dk_at dksX1_init_16 10 rfl rfl)
theorem dX1_init_393 : decode cX1_init 393 = .ok (.iinc 2 1, 3) := dk_132 2 1 (dk_at dksX1_init_16 13 rfl rfl)
theorem dX1_init_396 : decode cX1_init 396 = .ok (.goto (-52), 3) := dk_167 255 204 (dk_at dksX1_init_16 16 rfl rfl)
theorem dX1_init_399 : decode cX1_init 399 = .ok (.return_, 1) := dk_177 (dk_at dksX1_init_16 19 rfl rfl)
abbrev cX1_part : ByteArray := prog_1_method_2_code
def yX1_part : MethodName := ⟨RX1, "part", "(J)I"⟩
def dkwX1_part_0 : List UInt8 := [30, 20, 0, 3, 184, 0, 5, 136, 172]
abbrev dktX1_part_0 : List UInt8 := dkwX1_part_0 ++ []
theorem dksX1_part_0 : cX1_part.data.toList.drop 0 = dktX1_part_0 := by decide +kernel
theorem dX1_part_0 : decode cX1_part 0 = .ok (.lload_n 0, 1) := dk_30 (dk_at dksX1_part_0 0 rfl rfl)
theorem dX1_part_1 : decode cX1_part 1 = .ok (.ldc2_w 3, 3) := dk_20 0 3 (dk_at dksX1_part_0 1 rfl rfl)
theorem dX1_part_4 : decode cX1_part 4 = .ok (.invokestatic 5, 3) := dk_184 0 5 (dk_at dksX1_part_0 4 rfl rfl)
theorem dX1_part_7 : decode cX1_part 7 = .ok (.l2i, 1) := dk_136 (dk_at dksX1_part_0 7 rfl rfl)
theorem dX1_part_8 : decode cX1_part 8 = .ok (.ireturn, 1) := dk_172 (dk_at dksX1_part_0 8 rfl rfl)
abbrev cX1_set : ByteArray := prog_1_method_11_code
def yX1_set : MethodName := ⟨RX1, "set", "(III)I"⟩
def dkwX1_set_2 : List UInt8 := [25, 4, 180, 0, 164, 54, 5, 25, 4, 29, 181, 0, 164, 21, 5, 172]
abbrev dktX1_set_2 : List UInt8 := dkwX1_set_2 ++ []
def dkwX1_set_1 : List UInt8 := [172, 42, 180, 0, 161, 16, 60, 160, 0, 6, 16, 252, 172, 42, 89, 180, 0, 161, 4, 96, 181, 0, 161]
abbrev dktX1_set_1 : List UInt8 := dkwX1_set_1 ++ dktX1_set_2
def dkwX1_set_0 : List UInt8 := [42, 27, 28, 182, 0, 154, 58, 4, 25, 4, 199, 0, 5, 2, 172, 29, 184, 0, 158, 154, 0, 6, 16, 254]
abbrev dktX1_set_0 : List UInt8 := dkwX1_set_0 ++ dktX1_set_1
theorem dksX1_set_0 : cX1_set.data.toList.drop 0 = dktX1_set_0 := by decide +kernel
theorem dksX1_set_1 : cX1_set.data.toList.drop 24 = dktX1_set_1 := dk_seg dksX1_set_0 24 rfl rfl
theorem dksX1_set_2 : cX1_set.data.toList.drop 47 = dktX1_set_2 := dk_seg dksX1_set_1 23 rfl rfl
theorem dX1_set_0 : decode cX1_set 0 = .ok (.aload_n 0, 1) := dk_42 (dk_at dksX1_set_0 0 rfl rfl)
theorem dX1_set_1 : decode cX1_set 1 = .ok (.iload_n 1, 1) := dk_27 (dk_at dksX1_set_0 1 rfl rfl)
theorem dX1_set_2 : decode cX1_set 2 = .ok (.iload_n 2, 1) := dk_28 (dk_at dksX1_set_0 2 rfl rfl)
theorem dX1_set_3 : decode cX1_set 3 = .ok (.invokevirtual 154, 3) := dk_182 0 154 (dk_at dksX1_set_0 3 rfl rfl)
theorem dX1_set_6 : decode cX1_set 6 = .ok (.astore 4, 2) := dk_58 4 (dk_at dksX1_set_0 6 rfl rfl)
theorem dX1_set_8 : decode cX1_set 8 = .ok (.aload 4, 2) := dk_25 4 (dk_at dksX1_set_0 8 rfl rfl)
theorem dX1_set_10 : decode cX1_set 10 = .ok (.ifnonnull 5, 3) := dk_199 0 5 (dk_at dksX1_set_0 10 rfl rfl)
theorem dX1_set_13 : decode cX1_set 13 = .ok (.iconst (-1), 1) := dk_2 (dk_at dksX1_set_0 13 rfl rfl)
theorem dX1_set_14 : decode cX1_set 14 = .ok (.ireturn, 1) := dk_172 (dk_at dksX1_set_0 14 rfl rfl)
theorem dX1_set_15 : decode cX1_set 15 = .ok (.iload_n 3, 1) := dk_29 (dk_at dksX1_set_0 15 rfl rfl)
theorem dX1_set_16 : decode cX1_set 16 = .ok (.invokestatic 158, 3) := dk_184 0 158 (dk_at dksX1_set_0 16 rfl rfl)
theorem dX1_set_19 : decode cX1_set 19 = .ok (.ifCond .ne 6, 3) := dk_154 0 6 (dk_at dksX1_set_0 19 rfl rfl)
theorem dX1_set_22 : decode cX1_set 22 = .ok (.bipush (-2), 2) := dk_16 254 (dk_at dksX1_set_0 22 rfl rfl)
theorem dX1_set_24 : decode cX1_set 24 = .ok (.ireturn, 1) := dk_172 (dk_at dksX1_set_1 0 rfl rfl)
theorem dX1_set_25 : decode cX1_set 25 = .ok (.aload_n 0, 1) := dk_42 (dk_at dksX1_set_1 1 rfl rfl)
theorem dX1_set_26 : decode cX1_set 26 = .ok (.getfield 161, 3) := dk_180 0 161 (dk_at dksX1_set_1 2 rfl rfl)
theorem dX1_set_29 : decode cX1_set 29 = .ok (.bipush 60, 2) := dk_16 60 (dk_at dksX1_set_1 5 rfl rfl)
theorem dX1_set_31 : decode cX1_set 31 = .ok (.if_icmp .ne 6, 3) := dk_160 0 6 (dk_at dksX1_set_1 7 rfl rfl)
theorem dX1_set_34 : decode cX1_set 34 = .ok (.bipush (-4), 2) := dk_16 252 (dk_at dksX1_set_1 10 rfl rfl)
theorem dX1_set_36 : decode cX1_set 36 = .ok (.ireturn, 1) := dk_172 (dk_at dksX1_set_1 12 rfl rfl)
theorem dX1_set_37 : decode cX1_set 37 = .ok (.aload_n 0, 1) := dk_42 (dk_at dksX1_set_1 13 rfl rfl)
theorem dX1_set_38 : decode cX1_set 38 = .ok (.dup, 1) := dk_89 (dk_at dksX1_set_1 14 rfl rfl)
theorem dX1_set_39 : decode cX1_set 39 = .ok (.getfield 161, 3) := dk_180 0 161 (dk_at dksX1_set_1 15 rfl rfl)
theorem dX1_set_42 : decode cX1_set 42 = .ok (.iconst 1, 1) := dk_4 (dk_at dksX1_set_1 18 rfl rfl)
theorem dX1_set_43 : decode cX1_set 43 = .ok (.iadd, 1) := dk_96 (dk_at dksX1_set_1 19 rfl rfl)
theorem dX1_set_44 : decode cX1_set 44 = .ok (.putfield 161, 3) := dk_181 0 161 (dk_at dksX1_set_1 20 rfl rfl)
theorem dX1_set_47 : decode cX1_set 47 = .ok (.aload 4, 2) := dk_25 4 (dk_at dksX1_set_2 0 rfl rfl)
theorem dX1_set_49 : decode cX1_set 49 = .ok (.getfield 164, 3) := dk_180 0 164 (dk_at dksX1_set_2 2 rfl rfl)
theorem dX1_set_52 : decode cX1_set 52 = .ok (.istore 5, 2) := dk_54 5 (dk_at dksX1_set_2 5 rfl rfl)
theorem dX1_set_54 : decode cX1_set 54 = .ok (.aload 4, 2) := dk_25 4 (dk_at dksX1_set_2 7 rfl rfl)
theorem dX1_set_56 : decode cX1_set 56 = .ok (.iload_n 3, 1) := dk_29 (dk_at dksX1_set_2 9 rfl rfl)
theorem dX1_set_57 : decode cX1_set 57 = .ok (.putfield 164, 3) := dk_181 0 164 (dk_at dksX1_set_2 10 rfl rfl)
theorem dX1_set_60 : decode cX1_set 60 = .ok (.iload 5, 2) := dk_21 5 (dk_at dksX1_set_2 13 rfl rfl)
theorem dX1_set_62 : decode cX1_set 62 = .ok (.ireturn, 1) := dk_172 (dk_at dksX1_set_2 15 rfl rfl)
abbrev cX1_cellAt : ByteArray := prog_1_method_9_code
def yX1_cellAt : MethodName := ⟨RX1, "cellAt", "(II)LLightPlate$Cell;"⟩
def dkwX1_cellAt_1 : List UInt8 := [180, 0, 138, 104, 28, 96, 50, 167, 0, 4, 1, 176]
abbrev dktX1_cellAt_1 : List UInt8 := dkwX1_cellAt_1 ++ []
def dkwX1_cellAt_0 : List UInt8 := [27, 3, 16, 11, 184, 0, 25, 153, 0, 27, 42, 28, 182, 0, 150, 153, 0, 19, 42, 180, 0, 143, 27, 42]
abbrev dktX1_cellAt_0 : List UInt8 := dkwX1_cellAt_0 ++ dktX1_cellAt_1
theorem dksX1_cellAt_0 : cX1_cellAt.data.toList.drop 0 = dktX1_cellAt_0 := by decide +kernel
theorem dksX1_cellAt_1 : cX1_cellAt.data.toList.drop 24 = dktX1_cellAt_1 := dk_seg dksX1_cellAt_0 24 rfl rfl
theorem dX1_cellAt_0 : decode cX1_cellAt 0 = .ok (.iload_n 1, 1) := dk_27 (dk_at dksX1_cellAt_0 0 rfl rfl)
theorem dX1_cellAt_1 : decode cX1_cellAt 1 = .ok (.iconst 0, 1) := dk_3 (dk_at dksX1_cellAt_0 1 rfl rfl)
theorem dX1_cellAt_2 : decode cX1_cellAt 2 = .ok (.bipush 11, 2) := dk_16 11 (dk_at dksX1_cellAt_0 2 rfl rfl)
theorem dX1_cellAt_4 : decode cX1_cellAt 4 = .ok (.invokestatic 25, 3) := dk_184 0 25 (dk_at dksX1_cellAt_0 4 rfl rfl)
theorem dX1_cellAt_7 : decode cX1_cellAt 7 = .ok (.ifCond .eq 27, 3) := dk_153 0 27 (dk_at dksX1_cellAt_0 7 rfl rfl)
theorem dX1_cellAt_10 : decode cX1_cellAt 10 = .ok (.aload_n 0, 1) := dk_42 (dk_at dksX1_cellAt_0 10 rfl rfl)
theorem dX1_cellAt_11 : decode cX1_cellAt 11 = .ok (.iload_n 2, 1) := dk_28 (dk_at dksX1_cellAt_0 11 rfl rfl)
theorem dX1_cellAt_12 : decode cX1_cellAt 12 = .ok (.invokevirtual 150, 3) := dk_182 0 150 (dk_at dksX1_cellAt_0 12 rfl rfl)
theorem dX1_cellAt_15 : decode cX1_cellAt 15 = .ok (.ifCond .eq 19, 3) := dk_153 0 19 (dk_at dksX1_cellAt_0 15 rfl rfl)
theorem dX1_cellAt_18 : decode cX1_cellAt 18 = .ok (.aload_n 0, 1) := dk_42 (dk_at dksX1_cellAt_0 18 rfl rfl)
theorem dX1_cellAt_19 : decode cX1_cellAt 19 = .ok (.getfield 143, 3) := dk_180 0 143 (dk_at dksX1_cellAt_0 19 rfl rfl)
theorem dX1_cellAt_22 : decode cX1_cellAt 22 = .ok (.iload_n 1, 1) := dk_27 (dk_at dksX1_cellAt_0 22 rfl rfl)
theorem dX1_cellAt_23 : decode cX1_cellAt 23 = .ok (.aload_n 0, 1) := dk_42 (dk_at dksX1_cellAt_0 23 rfl rfl)
theorem dX1_cellAt_24 : decode cX1_cellAt 24 = .ok (.getfield 138, 3) := dk_180 0 138 (dk_at dksX1_cellAt_1 0 rfl rfl)
theorem dX1_cellAt_27 : decode cX1_cellAt 27 = .ok (.imul, 1) := dk_104 (dk_at dksX1_cellAt_1 3 rfl rfl)
theorem dX1_cellAt_28 : decode cX1_cellAt 28 = .ok (.iload_n 2, 1) := dk_28 (dk_at dksX1_cellAt_1 4 rfl rfl)
theorem dX1_cellAt_29 : decode cX1_cellAt 29 = .ok (.iadd, 1) := dk_96 (dk_at dksX1_cellAt_1 5 rfl rfl)
theorem dX1_cellAt_30 : decode cX1_cellAt 30 = .ok (.aaload, 1) := dk_50 (dk_at dksX1_cellAt_1 6 rfl rfl)
theorem dX1_cellAt_31 : decode cX1_cellAt 31 = .ok (.goto 4, 3) := dk_167 0 4 (dk_at dksX1_cellAt_1 7 rfl rfl)
theorem dX1_cellAt_34 : decode cX1_cellAt 34 = .ok (.aconst_null, 1) := dk_1 (dk_at dksX1_cellAt_1 10 rfl rfl)
theorem dX1_cellAt_35 : decode cX1_cellAt 35 = .ok (.areturn, 1) := dk_176 (dk_at dksX1_cellAt_1 11 rfl rfl)
abbrev cX1_isLane : ByteArray := prog_1_method_8_code
def yX1_isLane : MethodName := ⟨RX1, "isLane", "(I)Z"⟩
def dkwX1_isLane_0 : List UInt8 := [27, 3, 42, 180, 0, 138, 4, 100, 184, 0, 25, 172]
abbrev dktX1_isLane_0 : List UInt8 := dkwX1_isLane_0 ++ []
theorem dksX1_isLane_0 : cX1_isLane.data.toList.drop 0 = dktX1_isLane_0 := by decide +kernel
theorem dX1_isLane_0 : decode cX1_isLane 0 = .ok (.iload_n 1, 1) := dk_27 (dk_at dksX1_isLane_0 0 rfl rfl)
theorem dX1_isLane_1 : decode cX1_isLane 1 = .ok (.iconst 0, 1) := dk_3 (dk_at dksX1_isLane_0 1 rfl rfl)
theorem dX1_isLane_2 : decode cX1_isLane 2 = .ok (.aload_n 0, 1) := dk_42 (dk_at dksX1_isLane_0 2 rfl rfl)
theorem dX1_isLane_3 : decode cX1_isLane 3 = .ok (.getfield 138, 3) := dk_180 0 138 (dk_at dksX1_isLane_0 3 rfl rfl)
theorem dX1_isLane_6 : decode cX1_isLane 6 = .ok (.iconst 1, 1) := dk_4 (dk_at dksX1_isLane_0 6 rfl rfl)
theorem dX1_isLane_7 : decode cX1_isLane 7 = .ok (.isub, 1) := dk_100 (dk_at dksX1_isLane_0 7 rfl rfl)
theorem dX1_isLane_8 : decode cX1_isLane 8 = .ok (.invokestatic 25, 3) := dk_184 0 25 (dk_at dksX1_isLane_0 8 rfl rfl)
theorem dX1_isLane_11 : decode cX1_isLane 11 = .ok (.ireturn, 1) := dk_172 (dk_at dksX1_isLane_0 11 rfl rfl)
abbrev cX1_isTurn : ByteArray := prog_1_method_10_code
def yX1_isTurn : MethodName := ⟨RX1, "isTurn", "(I)Z"⟩
def dkwX1_isTurn_0 : List UInt8 := [26, 3, 16, 95, 184, 0, 25, 172]
abbrev dktX1_isTurn_0 : List UInt8 := dkwX1_isTurn_0 ++ []
theorem dksX1_isTurn_0 : cX1_isTurn.data.toList.drop 0 = dktX1_isTurn_0 := by decide +kernel
theorem dX1_isTurn_0 : decode cX1_isTurn 0 = .ok (.iload_n 0, 1) := dk_26 (dk_at dksX1_isTurn_0 0 rfl rfl)
theorem dX1_isTurn_1 : decode cX1_isTurn 1 = .ok (.iconst 0, 1) := dk_3 (dk_at dksX1_isTurn_0 1 rfl rfl)
theorem dX1_isTurn_2 : decode cX1_isTurn 2 = .ok (.bipush 95, 2) := dk_16 95 (dk_at dksX1_isTurn_0 2 rfl rfl)
theorem dX1_isTurn_4 : decode cX1_isTurn 4 = .ok (.invokestatic 25, 3) := dk_184 0 25 (dk_at dksX1_isTurn_0 4 rfl rfl)
theorem dX1_isTurn_7 : decode cX1_isTurn 7 = .ok (.ireturn, 1) := dk_172 (dk_at dksX1_isTurn_0 7 rfl rfl)
abbrev cX1_dies : ByteArray := prog_1_method_12_code
def yX1_dies : MethodName := ⟨RX1, "dies", "(III)I"⟩
def dkwX1_dies_2 : List UInt8 := [172]
abbrev dktX1_dies_2 : List UInt8 := dkwX1_dies_2 ++ []
def dkwX1_dies_1 : List UInt8 := [172, 25, 4, 182, 0, 167, 153, 0, 7, 3, 167, 0, 4, 4, 54, 5, 25, 4, 29, 181, 0, 171, 21, 5]
abbrev dktX1_dies_1 : List UInt8 := dkwX1_dies_1 ++ dktX1_dies_2
def dkwX1_dies_0 : List UInt8 := [42, 27, 28, 182, 0, 154, 58, 4, 25, 4, 199, 0, 5, 2, 172, 29, 184, 0, 158, 154, 0, 6, 16, 254]
abbrev dktX1_dies_0 : List UInt8 := dkwX1_dies_0 ++ dktX1_dies_1
theorem dksX1_dies_0 : cX1_dies.data.toList.drop 0 = dktX1_dies_0 := by decide +kernel
theorem dksX1_dies_1 : cX1_dies.data.toList.drop 24 = dktX1_dies_1 := dk_seg dksX1_dies_0 24 rfl rfl
theorem dksX1_dies_2 : cX1_dies.data.toList.drop 48 = dktX1_dies_2 := dk_seg dksX1_dies_1 24 rfl rfl
theorem dX1_dies_0 : decode cX1_dies 0 = .ok (.aload_n 0, 1) := dk_42 (dk_at dksX1_dies_0 0 rfl rfl)
theorem dX1_dies_1 : decode cX1_dies 1 = .ok (.iload_n 1, 1) := dk_27 (dk_at dksX1_dies_0 1 rfl rfl)
theorem dX1_dies_2 : decode cX1_dies 2 = .ok (.iload_n 2, 1) := dk_28 (dk_at dksX1_dies_0 2 rfl rfl)
theorem dX1_dies_3 : decode cX1_dies 3 = .ok (.invokevirtual 154, 3) := dk_182 0 154 (dk_at dksX1_dies_0 3 rfl rfl)
theorem dX1_dies_6 : decode cX1_dies 6 = .ok (.astore 4, 2) := dk_58 4 (dk_at dksX1_dies_0 6 rfl rfl)
theorem dX1_dies_8 : decode cX1_dies 8 = .ok (.aload 4, 2) := dk_25 4 (dk_at dksX1_dies_0 8 rfl rfl)
theorem dX1_dies_10 : decode cX1_dies 10 = .ok (.ifnonnull 5, 3) := dk_199 0 5 (dk_at dksX1_dies_0 10 rfl rfl)
theorem dX1_dies_13 : decode cX1_dies 13 = .ok (.iconst (-1), 1) := dk_2 (dk_at dksX1_dies_0 13 rfl rfl)
theorem dX1_dies_14 : decode cX1_dies 14 = .ok (.ireturn, 1) := dk_172 (dk_at dksX1_dies_0 14 rfl rfl)
theorem dX1_dies_15 : decode cX1_dies 15 = .ok (.iload_n 3, 1) := dk_29 (dk_at dksX1_dies_0 15 rfl rfl)
theorem dX1_dies_16 : decode cX1_dies 16 = .ok (.invokestatic 158, 3) := dk_184 0 158 (dk_at dksX1_dies_0 16 rfl rfl)
theorem dX1_dies_19 : decode cX1_dies 19 = .ok (.ifCond .ne 6, 3) := dk_154 0 6 (dk_at dksX1_dies_0 19 rfl rfl)
theorem dX1_dies_22 : decode cX1_dies 22 = .ok (.bipush (-2), 2) := dk_16 254 (dk_at dksX1_dies_0 22 rfl rfl)
theorem dX1_dies_24 : decode cX1_dies 24 = .ok (.ireturn, 1) := dk_172 (dk_at dksX1_dies_1 0 rfl rfl)
theorem dX1_dies_25 : decode cX1_dies 25 = .ok (.aload 4, 2) := dk_25 4 (dk_at dksX1_dies_1 1 rfl rfl)
theorem dX1_dies_27 : decode cX1_dies 27 = .ok (.invokevirtual 167, 3) := dk_182 0 167 (dk_at dksX1_dies_1 3 rfl rfl)
theorem dX1_dies_30 : decode cX1_dies 30 = .ok (.ifCond .eq 7, 3) := dk_153 0 7 (dk_at dksX1_dies_1 6 rfl rfl)
theorem dX1_dies_33 : decode cX1_dies 33 = .ok (.iconst 0, 1) := dk_3 (dk_at dksX1_dies_1 9 rfl rfl)
theorem dX1_dies_34 : decode cX1_dies 34 = .ok (.goto 4, 3) := dk_167 0 4 (dk_at dksX1_dies_1 10 rfl rfl)
theorem dX1_dies_37 : decode cX1_dies 37 = .ok (.iconst 1, 1) := dk_4 (dk_at dksX1_dies_1 13 rfl rfl)
theorem dX1_dies_38 : decode cX1_dies 38 = .ok (.istore 5, 2) := dk_54 5 (dk_at dksX1_dies_1 14 rfl rfl)
theorem dX1_dies_40 : decode cX1_dies 40 = .ok (.aload 4, 2) := dk_25 4 (dk_at dksX1_dies_1 16 rfl rfl)
theorem dX1_dies_42 : decode cX1_dies 42 = .ok (.iload_n 3, 1) := dk_29 (dk_at dksX1_dies_1 18 rfl rfl)
theorem dX1_dies_43 : decode cX1_dies 43 = .ok (.putfield 171, 3) := dk_181 0 171 (dk_at dksX1_dies_1 19 rfl rfl)
theorem dX1_dies_46 : decode cX1_dies 46 = .ok (.iload 5, 2) := dk_21 5 (dk_at dksX1_dies_1 22 rfl rfl)
theorem dX1_dies_48 : decode cX1_dies 48 = .ok (.ireturn, 1) := dk_172 (dk_at dksX1_dies_2 0 rfl rfl)
abbrev cX1_mend : ByteArray := prog_1_method_13_code
def yX1_mend : MethodName := ⟨RX1, "mend", "(II)I"⟩
def dkwX1_mend_1 : List UInt8 := [180, 0, 171, 54, 4, 45, 2, 181, 0, 171, 21, 4, 172]
abbrev dktX1_mend_1 : List UInt8 := dkwX1_mend_1 ++ []
def dkwX1_mend_0 : List UInt8 := [42, 27, 28, 182, 0, 154, 78, 45, 199, 0, 5, 2, 172, 45, 182, 0, 167, 154, 0, 6, 16, 253, 172, 45]
abbrev dktX1_mend_0 : List UInt8 := dkwX1_mend_0 ++ dktX1_mend_1
theorem dksX1_mend_0 : cX1_mend.data.toList.drop 0 = dktX1_mend_0 := by decide +kernel
theorem dksX1_mend_1 : cX1_mend.data.toList.drop 24 = dktX1_mend_1 := dk_seg dksX1_mend_0 24 rfl rfl
theorem dX1_mend_0 : decode cX1_mend 0 = .ok (.aload_n 0, 1) := dk_42 (dk_at dksX1_mend_0 0 rfl rfl)
theorem dX1_mend_1 : decode cX1_mend 1 = .ok (.iload_n 1, 1) := dk_27 (dk_at dksX1_mend_0 1 rfl rfl)
theorem dX1_mend_2 : decode cX1_mend 2 = .ok (.iload_n 2, 1) := dk_28 (dk_at dksX1_mend_0 2 rfl rfl)
theorem dX1_mend_3 : decode cX1_mend 3 = .ok (.invokevirtual 154, 3) := dk_182 0 154 (dk_at dksX1_mend_0 3 rfl rfl)
theorem dX1_mend_6 : decode cX1_mend 6 = .ok (.astore_n 3, 1) := dk_78 (dk_at dksX1_mend_0 6 rfl rfl)
theorem dX1_mend_7 : decode cX1_mend 7 = .ok (.aload_n 3, 1) := dk_45 (dk_at dksX1_mend_0 7 rfl rfl)
theorem dX1_mend_8 : decode cX1_mend 8 = .ok (.ifnonnull 5, 3) := dk_199 0 5 (dk_at dksX1_mend_0 8 rfl rfl)
theorem dX1_mend_11 : decode cX1_mend 11 = .ok (.iconst (-1), 1) := dk_2 (dk_at dksX1_mend_0 11 rfl rfl)
theorem dX1_mend_12 : decode cX1_mend 12 = .ok (.ireturn, 1) := dk_172 (dk_at dksX1_mend_0 12 rfl rfl)
theorem dX1_mend_13 : decode cX1_mend 13 = .ok (.aload_n 3, 1) := dk_45 (dk_at dksX1_mend_0 13 rfl rfl)
theorem dX1_mend_14 : decode cX1_mend 14 = .ok (.invokevirtual 167, 3) := dk_182 0 167 (dk_at dksX1_mend_0 14 rfl rfl)
theorem dX1_mend_17 : decode cX1_mend 17 = .ok (.ifCond .ne 6, 3) := dk_154 0 6 (dk_at dksX1_mend_0 17 rfl rfl)
theorem dX1_mend_20 : decode cX1_mend 20 = .ok (.bipush (-3), 2) := dk_16 253 (dk_at dksX1_mend_0 20 rfl rfl)
theorem dX1_mend_22 : decode cX1_mend 22 = .ok (.ireturn, 1) := dk_172 (dk_at dksX1_mend_0 22 rfl rfl)
theorem dX1_mend_23 : decode cX1_mend 23 = .ok (.aload_n 3, 1) := dk_45 (dk_at dksX1_mend_0 23 rfl rfl)
theorem dX1_mend_24 : decode cX1_mend 24 = .ok (.getfield 171, 3) := dk_180 0 171 (dk_at dksX1_mend_1 0 rfl rfl)
theorem dX1_mend_27 : decode cX1_mend 27 = .ok (.istore 4, 2) := dk_54 4 (dk_at dksX1_mend_1 3 rfl rfl)
theorem dX1_mend_29 : decode cX1_mend 29 = .ok (.aload_n 3, 1) := dk_45 (dk_at dksX1_mend_1 5 rfl rfl)
theorem dX1_mend_30 : decode cX1_mend 30 = .ok (.iconst (-1), 1) := dk_2 (dk_at dksX1_mend_1 6 rfl rfl)
theorem dX1_mend_31 : decode cX1_mend 31 = .ok (.putfield 171, 3) := dk_181 0 171 (dk_at dksX1_mend_1 7 rfl rfl)
theorem dX1_mend_34 : decode cX1_mend 34 = .ok (.iload 4, 2) := dk_21 4 (dk_at dksX1_mend_1 10 rfl rfl)
theorem dX1_mend_36 : decode cX1_mend 36 = .ok (.ireturn, 1) := dk_172 (dk_at dksX1_mend_1 12 rfl rfl)
abbrev cX1_cell : ByteArray := prog_1_method_14_code
def yX1_cell : MethodName := ⟨RX1, "cell", "(III)I"⟩
def dkwX1_cell_3 : List UInt8 := [180, 0, 62, 25, 4, 182, 0, 181, 172, 25, 4, 180, 0, 185, 172, 2, 172]
abbrev dktX1_cell_3 : List UInt8 := dkwX1_cell_3 ++ []
def dkwX1_cell_2 : List UInt8 := [25, 4, 180, 0, 164, 172, 25, 4, 180, 0, 171, 172, 25, 4, 182, 0, 174, 184, 0, 178, 172, 42]
abbrev dktX1_cell_2 : List UInt8 := dkwX1_cell_2 ++ dktX1_cell_3
def dkwX1_cell_1 : List UInt8 := [170, 0, 0, 0, 0, 0, 0, 73, 0, 0, 0, 0, 0, 0, 0, 4, 0, 0, 0, 36, 0, 0, 0, 42, 0, 0, 0, 48, 0, 0, 0, 57, 0, 0, 0, 67]
abbrev dktX1_cell_1 : List UInt8 := dkwX1_cell_1 ++ dktX1_cell_2
def dkwX1_cell_0 : List UInt8 := [42, 27, 28, 182, 0, 154, 58, 4, 25, 4, 199, 0, 5, 2, 172, 29]
abbrev dktX1_cell_0 : List UInt8 := dkwX1_cell_0 ++ dktX1_cell_1
theorem dksX1_cell_0 : cX1_cell.data.toList.drop 0 = dktX1_cell_0 := by decide +kernel
theorem dksX1_cell_1 : cX1_cell.data.toList.drop 16 = dktX1_cell_1 := dk_seg dksX1_cell_0 16 rfl rfl
theorem dksX1_cell_2 : cX1_cell.data.toList.drop 52 = dktX1_cell_2 := dk_seg dksX1_cell_1 36 rfl rfl
theorem dksX1_cell_3 : cX1_cell.data.toList.drop 74 = dktX1_cell_3 := dk_seg dksX1_cell_2 22 rfl rfl
theorem dX1_cell_0 : decode cX1_cell 0 = .ok (.aload_n 0, 1) := dk_42 (dk_at dksX1_cell_0 0 rfl rfl)
theorem dX1_cell_1 : decode cX1_cell 1 = .ok (.iload_n 1, 1) := dk_27 (dk_at dksX1_cell_0 1 rfl rfl)
theorem dX1_cell_2 : decode cX1_cell 2 = .ok (.iload_n 2, 1) := dk_28 (dk_at dksX1_cell_0 2 rfl rfl)
theorem dX1_cell_3 : decode cX1_cell 3 = .ok (.invokevirtual 154, 3) := dk_182 0 154 (dk_at dksX1_cell_0 3 rfl rfl)
theorem dX1_cell_6 : decode cX1_cell 6 = .ok (.astore 4, 2) := dk_58 4 (dk_at dksX1_cell_0 6 rfl rfl)
theorem dX1_cell_8 : decode cX1_cell 8 = .ok (.aload 4, 2) := dk_25 4 (dk_at dksX1_cell_0 8 rfl rfl)
theorem dX1_cell_10 : decode cX1_cell 10 = .ok (.ifnonnull 5, 3) := dk_199 0 5 (dk_at dksX1_cell_0 10 rfl rfl)
theorem dX1_cell_13 : decode cX1_cell 13 = .ok (.iconst (-1), 1) := dk_2 (dk_at dksX1_cell_0 13 rfl rfl)
theorem dX1_cell_14 : decode cX1_cell 14 = .ok (.ireturn, 1) := dk_172 (dk_at dksX1_cell_0 14 rfl rfl)
theorem dX1_cell_15 : decode cX1_cell 15 = .ok (.iload_n 3, 1) := dk_29 (dk_at dksX1_cell_0 15 rfl rfl)
theorem dX1_cell_16 : decode cX1_cell 16 = .ok (.tableswitch 73 0 4 #[36, 42, 48, 57, 67], 36) := by decide +kernel
theorem dX1_cell_52 : decode cX1_cell 52 = .ok (.aload 4, 2) := dk_25 4 (dk_at dksX1_cell_2 0 rfl rfl)
theorem dX1_cell_54 : decode cX1_cell 54 = .ok (.getfield 164, 3) := dk_180 0 164 (dk_at dksX1_cell_2 2 rfl rfl)
theorem dX1_cell_57 : decode cX1_cell 57 = .ok (.ireturn, 1) := dk_172 (dk_at dksX1_cell_2 5 rfl rfl)
theorem dX1_cell_58 : decode cX1_cell 58 = .ok (.aload 4, 2) := dk_25 4 (dk_at dksX1_cell_2 6 rfl rfl)
theorem dX1_cell_60 : decode cX1_cell 60 = .ok (.getfield 171, 3) := dk_180 0 171 (dk_at dksX1_cell_2 8 rfl rfl)
theorem dX1_cell_63 : decode cX1_cell 63 = .ok (.ireturn, 1) := dk_172 (dk_at dksX1_cell_2 11 rfl rfl)
theorem dX1_cell_64 : decode cX1_cell 64 = .ok (.aload 4, 2) := dk_25 4 (dk_at dksX1_cell_2 12 rfl rfl)
theorem dX1_cell_66 : decode cX1_cell 66 = .ok (.invokevirtual 174, 3) := dk_182 0 174 (dk_at dksX1_cell_2 14 rfl rfl)
theorem dX1_cell_69 : decode cX1_cell 69 = .ok (.invokestatic 178, 3) := dk_184 0 178 (dk_at dksX1_cell_2 17 rfl rfl)
theorem dX1_cell_72 : decode cX1_cell 72 = .ok (.ireturn, 1) := dk_172 (dk_at dksX1_cell_2 20 rfl rfl)
theorem dX1_cell_73 : decode cX1_cell 73 = .ok (.aload_n 0, 1) := dk_42 (dk_at dksX1_cell_2 21 rfl rfl)
theorem dX1_cell_74 : decode cX1_cell 74 = .ok (.getfield 62, 3) := dk_180 0 62 (dk_at dksX1_cell_3 0 rfl rfl)
theorem dX1_cell_77 : decode cX1_cell 77 = .ok (.aload 4, 2) := dk_25 4 (dk_at dksX1_cell_3 3 rfl rfl)
theorem dX1_cell_79 : decode cX1_cell 79 = .ok (.invokevirtual 181, 3) := dk_182 0 181 (dk_at dksX1_cell_3 5 rfl rfl)
theorem dX1_cell_82 : decode cX1_cell 82 = .ok (.ireturn, 1) := dk_172 (dk_at dksX1_cell_3 8 rfl rfl)
theorem dX1_cell_83 : decode cX1_cell 83 = .ok (.aload 4, 2) := dk_25 4 (dk_at dksX1_cell_3 9 rfl rfl)
theorem dX1_cell_85 : decode cX1_cell 85 = .ok (.getfield 185, 3) := dk_180 0 185 (dk_at dksX1_cell_3 11 rfl rfl)
theorem dX1_cell_88 : decode cX1_cell 88 = .ok (.ireturn, 1) := dk_172 (dk_at dksX1_cell_3 14 rfl rfl)
theorem dX1_cell_89 : decode cX1_cell 89 = .ok (.iconst (-1), 1) := dk_2 (dk_at dksX1_cell_3 15 rfl rfl)
theorem dX1_cell_90 : decode cX1_cell 90 = .ok (.ireturn, 1) := dk_172 (dk_at dksX1_cell_3 16 rfl rfl)
abbrev cX1_heat : ByteArray := prog_1_method_6_code
def yX1_heat : MethodName := ⟨RX1, "heat", "(I)I"⟩
def dkwX1_heat_0 : List UInt8 := [26, 16, 96, 26, 100, 184, 0, 33, 172]
abbrev dktX1_heat_0 : List UInt8 := dkwX1_heat_0 ++ []
theorem dksX1_heat_0 : cX1_heat.data.toList.drop 0 = dktX1_heat_0 := by decide +kernel
theorem dX1_heat_0 : decode cX1_heat 0 = .ok (.iload_n 0, 1) := dk_26 (dk_at dksX1_heat_0 0 rfl rfl)
theorem dX1_heat_1 : decode cX1_heat 1 = .ok (.bipush 96, 2) := dk_16 96 (dk_at dksX1_heat_0 1 rfl rfl)
theorem dX1_heat_3 : decode cX1_heat 3 = .ok (.iload_n 0, 1) := dk_26 (dk_at dksX1_heat_0 3 rfl rfl)
theorem dX1_heat_4 : decode cX1_heat 4 = .ok (.isub, 1) := dk_100 (dk_at dksX1_heat_0 4 rfl rfl)
theorem dX1_heat_5 : decode cX1_heat 5 = .ok (.invokestatic 33, 3) := dk_184 0 33 (dk_at dksX1_heat_0 5 rfl rfl)
theorem dX1_heat_8 : decode cX1_heat 8 = .ok (.ireturn, 1) := dk_172 (dk_at dksX1_heat_0 8 rfl rfl)
abbrev cX1_known : ByteArray := prog_1_method_35_code
def yX1_known : MethodName := ⟨RX1, "known", "(LLightPlate$Cell;I)I"⟩
def dkwX1_known_3 : List UInt8 := [132, 4, 1, 167, 255, 190, 45, 199, 0, 7, 3, 167, 0, 7, 45, 180, 1, 44, 172]
abbrev dktX1_known_3 : List UInt8 := dkwX1_known_3 ++ []
def dkwX1_known_2 : List UInt8 := [163, 0, 22, 45, 198, 0, 15, 25, 5, 180, 1, 41, 45, 180, 1, 41, 161, 0, 6, 25, 5, 78]
abbrev dktX1_known_2 : List UInt8 := dkwX1_known_2 ++ dktX1_known_3
def dkwX1_known_1 : List UInt8 := [182, 1, 31, 192, 1, 35, 58, 5, 25, 5, 180, 1, 37, 43, 166, 0, 31, 25, 5, 180, 1, 41, 28]
abbrev dktX1_known_1 : List UInt8 := dkwX1_known_1 ++ dktX1_known_2
def dkwX1_known_0 : List UInt8 := [1, 78, 3, 54, 4, 21, 4, 42, 180, 0, 129, 182, 1, 28, 162, 0, 60, 42, 180, 0, 129, 21, 4]
abbrev dktX1_known_0 : List UInt8 := dkwX1_known_0 ++ dktX1_known_1
theorem dksX1_known_0 : cX1_known.data.toList.drop 0 = dktX1_known_0 := by decide +kernel
theorem dksX1_known_1 : cX1_known.data.toList.drop 23 = dktX1_known_1 := dk_seg dksX1_known_0 23 rfl rfl
theorem dksX1_known_2 : cX1_known.data.toList.drop 46 = dktX1_known_2 := dk_seg dksX1_known_1 23 rfl rfl
theorem dksX1_known_3 : cX1_known.data.toList.drop 68 = dktX1_known_3 := dk_seg dksX1_known_2 22 rfl rfl
theorem dX1_known_0 : decode cX1_known 0 = .ok (.aconst_null, 1) := dk_1 (dk_at dksX1_known_0 0 rfl rfl)
theorem dX1_known_1 : decode cX1_known 1 = .ok (.astore_n 3, 1) := dk_78 (dk_at dksX1_known_0 1 rfl rfl)
theorem dX1_known_2 : decode cX1_known 2 = .ok (.iconst 0, 1) := dk_3 (dk_at dksX1_known_0 2 rfl rfl)
theorem dX1_known_3 : decode cX1_known 3 = .ok (.istore 4, 2) := dk_54 4 (dk_at dksX1_known_0 3 rfl rfl)
theorem dX1_known_5 : decode cX1_known 5 = .ok (.iload 4, 2) := dk_21 4 (dk_at dksX1_known_0 5 rfl rfl)
theorem dX1_known_7 : decode cX1_known 7 = .ok (.aload_n 0, 1) := dk_42 (dk_at dksX1_known_0 7 rfl rfl)
theorem dX1_known_8 : decode cX1_known 8 = .ok (.getfield 129, 3) := dk_180 0 129 (dk_at dksX1_known_0 8 rfl rfl)
theorem dX1_known_11 : decode cX1_known 11 = .ok (.invokevirtual 284, 3) := dk_182 1 28 (dk_at dksX1_known_0 11 rfl rfl)
theorem dX1_known_14 : decode cX1_known 14 = .ok (.if_icmp .ge 60, 3) := dk_162 0 60 (dk_at dksX1_known_0 14 rfl rfl)
theorem dX1_known_17 : decode cX1_known 17 = .ok (.aload_n 0, 1) := dk_42 (dk_at dksX1_known_0 17 rfl rfl)
theorem dX1_known_18 : decode cX1_known 18 = .ok (.getfield 129, 3) := dk_180 0 129 (dk_at dksX1_known_0 18 rfl rfl)
theorem dX1_known_21 : decode cX1_known 21 = .ok (.iload 4, 2) := dk_21 4 (dk_at dksX1_known_0 21 rfl rfl)
theorem dX1_known_23 : decode cX1_known 23 = .ok (.invokevirtual 287, 3) := dk_182 1 31 (dk_at dksX1_known_1 0 rfl rfl)
theorem dX1_known_26 : decode cX1_known 26 = .ok (.checkcast 291, 3) := dk_192 1 35 (dk_at dksX1_known_1 3 rfl rfl)
theorem dX1_known_29 : decode cX1_known 29 = .ok (.astore 5, 2) := dk_58 5 (dk_at dksX1_known_1 6 rfl rfl)
theorem dX1_known_31 : decode cX1_known 31 = .ok (.aload 5, 2) := dk_25 5 (dk_at dksX1_known_1 8 rfl rfl)
theorem dX1_known_33 : decode cX1_known 33 = .ok (.getfield 293, 3) := dk_180 1 37 (dk_at dksX1_known_1 10 rfl rfl)
theorem dX1_known_36 : decode cX1_known 36 = .ok (.aload_n 1, 1) := dk_43 (dk_at dksX1_known_1 13 rfl rfl)
theorem dX1_known_37 : decode cX1_known 37 = .ok (.if_acmp .ne 31, 3) := dk_166 0 31 (dk_at dksX1_known_1 14 rfl rfl)
theorem dX1_known_40 : decode cX1_known 40 = .ok (.aload 5, 2) := dk_25 5 (dk_at dksX1_known_1 17 rfl rfl)
theorem dX1_known_42 : decode cX1_known 42 = .ok (.getfield 297, 3) := dk_180 1 41 (dk_at dksX1_known_1 19 rfl rfl)
theorem dX1_known_45 : decode cX1_known 45 = .ok (.iload_n 2, 1) := dk_28 (dk_at dksX1_known_1 22 rfl rfl)
theorem dX1_known_46 : decode cX1_known 46 = .ok (.if_icmp .gt 22, 3) := dk_163 0 22 (dk_at dksX1_known_2 0 rfl rfl)
theorem dX1_known_49 : decode cX1_known 49 = .ok (.aload_n 3, 1) := dk_45 (dk_at dksX1_known_2 3 rfl rfl)
theorem dX1_known_50 : decode cX1_known 50 = .ok (.ifnull 15, 3) := dk_198 0 15 (dk_at dksX1_known_2 4 rfl rfl)
theorem dX1_known_53 : decode cX1_known 53 = .ok (.aload 5, 2) := dk_25 5 (dk_at dksX1_known_2 7 rfl rfl)
theorem dX1_known_55 : decode cX1_known 55 = .ok (.getfield 297, 3) := dk_180 1 41 (dk_at dksX1_known_2 9 rfl rfl)
theorem dX1_known_58 : decode cX1_known 58 = .ok (.aload_n 3, 1) := dk_45 (dk_at dksX1_known_2 12 rfl rfl)
theorem dX1_known_59 : decode cX1_known 59 = .ok (.getfield 297, 3) := dk_180 1 41 (dk_at dksX1_known_2 13 rfl rfl)
theorem dX1_known_62 : decode cX1_known 62 = .ok (.if_icmp .lt 6, 3) := dk_161 0 6 (dk_at dksX1_known_2 16 rfl rfl)
theorem dX1_known_65 : decode cX1_known 65 = .ok (.aload 5, 2) := dk_25 5 (dk_at dksX1_known_2 19 rfl rfl)
theorem dX1_known_67 : decode cX1_known 67 = .ok (.astore_n 3, 1) := dk_78 (dk_at dksX1_known_2 21 rfl rfl)
theorem dX1_known_68 : decode cX1_known 68 = .ok (.iinc 4 1, 3) := dk_132 4 1 (dk_at dksX1_known_3 0 rfl rfl)
theorem dX1_known_71 : decode cX1_known 71 = .ok (.goto (-66), 3) := dk_167 255 190 (dk_at dksX1_known_3 3 rfl rfl)
theorem dX1_known_74 : decode cX1_known 74 = .ok (.aload_n 3, 1) := dk_45 (dk_at dksX1_known_3 6 rfl rfl)
theorem dX1_known_75 : decode cX1_known 75 = .ok (.ifnonnull 7, 3) := dk_199 0 7 (dk_at dksX1_known_3 7 rfl rfl)
theorem dX1_known_78 : decode cX1_known 78 = .ok (.iconst 0, 1) := dk_3 (dk_at dksX1_known_3 10 rfl rfl)
theorem dX1_known_79 : decode cX1_known 79 = .ok (.goto 7, 3) := dk_167 0 7 (dk_at dksX1_known_3 11 rfl rfl)
theorem dX1_known_82 : decode cX1_known 82 = .ok (.aload_n 3, 1) := dk_45 (dk_at dksX1_known_3 14 rfl rfl)
theorem dX1_known_83 : decode cX1_known 83 = .ok (.getfield 300, 3) := dk_180 1 44 (dk_at dksX1_known_3 15 rfl rfl)
theorem dX1_known_86 : decode cX1_known 86 = .ok (.ireturn, 1) := dk_172 (dk_at dksX1_known_3 18 rfl rfl)
abbrev cX1_table : ByteArray := prog_1_method_16_code
def yX1_table : MethodName := ⟨RX1, "table", "(II)I"⟩
def dkwX1_table_1 : List UInt8 := [182, 0, 194, 42, 180, 0, 80, 27, 46, 172]
abbrev dktX1_table_1 : List UInt8 := dkwX1_table_1 ++ []
def dkwX1_table_0 : List UInt8 := [42, 27, 182, 0, 150, 153, 0, 11, 42, 28, 182, 0, 150, 154, 0, 5, 2, 172, 42, 42, 180, 0, 55, 28]
abbrev dktX1_table_0 : List UInt8 := dkwX1_table_0 ++ dktX1_table_1
theorem dksX1_table_0 : cX1_table.data.toList.drop 0 = dktX1_table_0 := by decide +kernel
theorem dksX1_table_1 : cX1_table.data.toList.drop 24 = dktX1_table_1 := dk_seg dksX1_table_0 24 rfl rfl
theorem dX1_table_0 : decode cX1_table 0 = .ok (.aload_n 0, 1) := dk_42 (dk_at dksX1_table_0 0 rfl rfl)
theorem dX1_table_1 : decode cX1_table 1 = .ok (.iload_n 1, 1) := dk_27 (dk_at dksX1_table_0 1 rfl rfl)
theorem dX1_table_2 : decode cX1_table 2 = .ok (.invokevirtual 150, 3) := dk_182 0 150 (dk_at dksX1_table_0 2 rfl rfl)
theorem dX1_table_5 : decode cX1_table 5 = .ok (.ifCond .eq 11, 3) := dk_153 0 11 (dk_at dksX1_table_0 5 rfl rfl)
theorem dX1_table_8 : decode cX1_table 8 = .ok (.aload_n 0, 1) := dk_42 (dk_at dksX1_table_0 8 rfl rfl)
theorem dX1_table_9 : decode cX1_table 9 = .ok (.iload_n 2, 1) := dk_28 (dk_at dksX1_table_0 9 rfl rfl)
theorem dX1_table_10 : decode cX1_table 10 = .ok (.invokevirtual 150, 3) := dk_182 0 150 (dk_at dksX1_table_0 10 rfl rfl)
theorem dX1_table_13 : decode cX1_table 13 = .ok (.ifCond .ne 5, 3) := dk_154 0 5 (dk_at dksX1_table_0 13 rfl rfl)
theorem dX1_table_16 : decode cX1_table 16 = .ok (.iconst (-1), 1) := dk_2 (dk_at dksX1_table_0 16 rfl rfl)
theorem dX1_table_17 : decode cX1_table 17 = .ok (.ireturn, 1) := dk_172 (dk_at dksX1_table_0 17 rfl rfl)
theorem dX1_table_18 : decode cX1_table 18 = .ok (.aload_n 0, 1) := dk_42 (dk_at dksX1_table_0 18 rfl rfl)
theorem dX1_table_19 : decode cX1_table 19 = .ok (.aload_n 0, 1) := dk_42 (dk_at dksX1_table_0 19 rfl rfl)
theorem dX1_table_20 : decode cX1_table 20 = .ok (.getfield 55, 3) := dk_180 0 55 (dk_at dksX1_table_0 20 rfl rfl)
theorem dX1_table_23 : decode cX1_table 23 = .ok (.iload_n 2, 1) := dk_28 (dk_at dksX1_table_0 23 rfl rfl)
theorem dX1_table_24 : decode cX1_table 24 = .ok (.invokevirtual 194, 3) := dk_182 0 194 (dk_at dksX1_table_1 0 rfl rfl)
theorem dX1_table_27 : decode cX1_table 27 = .ok (.aload_n 0, 1) := dk_42 (dk_at dksX1_table_1 3 rfl rfl)
theorem dX1_table_28 : decode cX1_table 28 = .ok (.getfield 80, 3) := dk_180 0 80 (dk_at dksX1_table_1 4 rfl rfl)
theorem dX1_table_31 : decode cX1_table 31 = .ok (.iload_n 1, 1) := dk_27 (dk_at dksX1_table_1 7 rfl rfl)
theorem dX1_table_32 : decode cX1_table 32 = .ok (.iaload, 1) := dk_46 (dk_at dksX1_table_1 8 rfl rfl)
theorem dX1_table_33 : decode cX1_table 33 = .ok (.ireturn, 1) := dk_172 (dk_at dksX1_table_1 9 rfl rfl)
abbrev cX1_send : ByteArray := prog_1_method_15_code
def yX1_send : MethodName := ⟨RX1, "send", "(LLightPlate$Look;I)V"⟩
def dkwX1_send_1 : List UInt8 := [3, 79, 132, 3, 1, 167, 255, 229, 43, 42, 180, 0, 80, 182, 0, 188, 177]
abbrev dktX1_send_1 : List UInt8 := dkwX1_send_1 ++ []
def dkwX1_send_0 : List UInt8 := [3, 62, 29, 42, 180, 0, 138, 162, 0, 25, 42, 180, 0, 80, 29, 29, 28, 160, 0, 7, 4, 167, 0, 4]
abbrev dktX1_send_0 : List UInt8 := dkwX1_send_0 ++ dktX1_send_1
theorem dksX1_send_0 : cX1_send.data.toList.drop 0 = dktX1_send_0 := by decide +kernel
theorem dksX1_send_1 : cX1_send.data.toList.drop 24 = dktX1_send_1 := dk_seg dksX1_send_0 24 rfl rfl
theorem dX1_send_0 : decode cX1_send 0 = .ok (.iconst 0, 1) := dk_3 (dk_at dksX1_send_0 0 rfl rfl)
theorem dX1_send_1 : decode cX1_send 1 = .ok (.istore_n 3, 1) := dk_62 (dk_at dksX1_send_0 1 rfl rfl)
theorem dX1_send_2 : decode cX1_send 2 = .ok (.iload_n 3, 1) := dk_29 (dk_at dksX1_send_0 2 rfl rfl)
theorem dX1_send_3 : decode cX1_send 3 = .ok (.aload_n 0, 1) := dk_42 (dk_at dksX1_send_0 3 rfl rfl)
theorem dX1_send_4 : decode cX1_send 4 = .ok (.getfield 138, 3) := dk_180 0 138 (dk_at dksX1_send_0 4 rfl rfl)
theorem dX1_send_7 : decode cX1_send 7 = .ok (.if_icmp .ge 25, 3) := dk_162 0 25 (dk_at dksX1_send_0 7 rfl rfl)
theorem dX1_send_10 : decode cX1_send 10 = .ok (.aload_n 0, 1) := dk_42 (dk_at dksX1_send_0 10 rfl rfl)
theorem dX1_send_11 : decode cX1_send 11 = .ok (.getfield 80, 3) := dk_180 0 80 (dk_at dksX1_send_0 11 rfl rfl)
theorem dX1_send_14 : decode cX1_send 14 = .ok (.iload_n 3, 1) := dk_29 (dk_at dksX1_send_0 14 rfl rfl)
theorem dX1_send_15 : decode cX1_send 15 = .ok (.iload_n 3, 1) := dk_29 (dk_at dksX1_send_0 15 rfl rfl)
theorem dX1_send_16 : decode cX1_send 16 = .ok (.iload_n 2, 1) := dk_28 (dk_at dksX1_send_0 16 rfl rfl)
theorem dX1_send_17 : decode cX1_send 17 = .ok (.if_icmp .ne 7, 3) := dk_160 0 7 (dk_at dksX1_send_0 17 rfl rfl)
theorem dX1_send_20 : decode cX1_send 20 = .ok (.iconst 1, 1) := dk_4 (dk_at dksX1_send_0 20 rfl rfl)
theorem dX1_send_21 : decode cX1_send 21 = .ok (.goto 4, 3) := dk_167 0 4 (dk_at dksX1_send_0 21 rfl rfl)
theorem dX1_send_24 : decode cX1_send 24 = .ok (.iconst 0, 1) := dk_3 (dk_at dksX1_send_1 0 rfl rfl)
theorem dX1_send_25 : decode cX1_send 25 = .ok (.iastore, 1) := dk_79 (dk_at dksX1_send_1 1 rfl rfl)
theorem dX1_send_26 : decode cX1_send 26 = .ok (.iinc 3 1, 3) := dk_132 3 1 (dk_at dksX1_send_1 2 rfl rfl)
theorem dX1_send_29 : decode cX1_send 29 = .ok (.goto (-27), 3) := dk_167 255 229 (dk_at dksX1_send_1 5 rfl rfl)
theorem dX1_send_32 : decode cX1_send 32 = .ok (.aload_n 1, 1) := dk_43 (dk_at dksX1_send_1 8 rfl rfl)
theorem dX1_send_33 : decode cX1_send 33 = .ok (.aload_n 0, 1) := dk_42 (dk_at dksX1_send_1 9 rfl rfl)
theorem dX1_send_34 : decode cX1_send 34 = .ok (.getfield 80, 3) := dk_180 0 80 (dk_at dksX1_send_1 10 rfl rfl)
theorem dX1_send_37 : decode cX1_send 37 = .ok (.invokevirtual 188, 3) := dk_182 0 188 (dk_at dksX1_send_1 13 rfl rfl)
theorem dX1_send_40 : decode cX1_send 40 = .ok (.return_, 1) := dk_177 (dk_at dksX1_send_1 16 rfl rfl)
abbrev cX1_turns : ByteArray := prog_1_method_4_code
def yX1_turns : MethodName := ⟨RX1, "turns", "([III)V"⟩
def dkwX1_turns_3 : List UInt8 := [184, 0, 21, 79, 177]
abbrev dktX1_turns_3 : List UInt8 := dkwX1_turns_3 ++ []
def dkwX1_turns_2 : List UInt8 := [180, 0, 18, 29, 46, 133, 21, 4, 133, 105, 42, 180, 0, 14, 29, 46, 133, 21, 5, 133, 105, 97]
abbrev dktX1_turns_2 : List UInt8 := dkwX1_turns_2 ++ dktX1_turns_3
def dkwX1_turns_1 : List UInt8 := [105, 42, 180, 0, 18, 29, 46, 133, 21, 5, 133, 105, 101, 184, 0, 21, 79, 43, 28, 4, 96, 42]
abbrev dktX1_turns_1 : List UInt8 := dkwX1_turns_1 ++ dktX1_turns_2
def dkwX1_turns_0 : List UInt8 := [43, 28, 46, 54, 4, 43, 28, 4, 96, 46, 54, 5, 43, 28, 42, 180, 0, 14, 29, 46, 133, 21, 4, 133]
abbrev dktX1_turns_0 : List UInt8 := dkwX1_turns_0 ++ dktX1_turns_1
theorem dksX1_turns_0 : cX1_turns.data.toList.drop 0 = dktX1_turns_0 := by decide +kernel
theorem dksX1_turns_1 : cX1_turns.data.toList.drop 24 = dktX1_turns_1 := dk_seg dksX1_turns_0 24 rfl rfl
theorem dksX1_turns_2 : cX1_turns.data.toList.drop 46 = dktX1_turns_2 := dk_seg dksX1_turns_1 22 rfl rfl
theorem dksX1_turns_3 : cX1_turns.data.toList.drop 68 = dktX1_turns_3 := dk_seg dksX1_turns_2 22 rfl rfl
theorem dX1_turns_0 : decode cX1_turns 0 = .ok (.aload_n 1, 1) := dk_43 (dk_at dksX1_turns_0 0 rfl rfl)
theorem dX1_turns_1 : decode cX1_turns 1 = .ok (.iload_n 2, 1) := dk_28 (dk_at dksX1_turns_0 1 rfl rfl)
theorem dX1_turns_2 : decode cX1_turns 2 = .ok (.iaload, 1) := dk_46 (dk_at dksX1_turns_0 2 rfl rfl)
theorem dX1_turns_3 : decode cX1_turns 3 = .ok (.istore 4, 2) := dk_54 4 (dk_at dksX1_turns_0 3 rfl rfl)
theorem dX1_turns_5 : decode cX1_turns 5 = .ok (.aload_n 1, 1) := dk_43 (dk_at dksX1_turns_0 5 rfl rfl)
theorem dX1_turns_6 : decode cX1_turns 6 = .ok (.iload_n 2, 1) := dk_28 (dk_at dksX1_turns_0 6 rfl rfl)
theorem dX1_turns_7 : decode cX1_turns 7 = .ok (.iconst 1, 1) := dk_4 (dk_at dksX1_turns_0 7 rfl rfl)
theorem dX1_turns_8 : decode cX1_turns 8 = .ok (.iadd, 1) := dk_96 (dk_at dksX1_turns_0 8 rfl rfl)
theorem dX1_turns_9 : decode cX1_turns 9 = .ok (.iaload, 1) := dk_46 (dk_at dksX1_turns_0 9 rfl rfl)
theorem dX1_turns_10 : decode cX1_turns 10 = .ok (.istore 5, 2) := dk_54 5 (dk_at dksX1_turns_0 10 rfl rfl)
theorem dX1_turns_12 : decode cX1_turns 12 = .ok (.aload_n 1, 1) := dk_43 (dk_at dksX1_turns_0 12 rfl rfl)
theorem dX1_turns_13 : decode cX1_turns 13 = .ok (.iload_n 2, 1) := dk_28 (dk_at dksX1_turns_0 13 rfl rfl)
theorem dX1_turns_14 : decode cX1_turns 14 = .ok (.aload_n 0, 1) := dk_42 (dk_at dksX1_turns_0 14 rfl rfl)
theorem dX1_turns_15 : decode cX1_turns 15 = .ok (.getfield 14, 3) := dk_180 0 14 (dk_at dksX1_turns_0 15 rfl rfl)
theorem dX1_turns_18 : decode cX1_turns 18 = .ok (.iload_n 3, 1) := dk_29 (dk_at dksX1_turns_0 18 rfl rfl)
theorem dX1_turns_19 : decode cX1_turns 19 = .ok (.iaload, 1) := dk_46 (dk_at dksX1_turns_0 19 rfl rfl)
theorem dX1_turns_20 : decode cX1_turns 20 = .ok (.i2l, 1) := dk_133 (dk_at dksX1_turns_0 20 rfl rfl)
theorem dX1_turns_21 : decode cX1_turns 21 = .ok (.iload 4, 2) := dk_21 4 (dk_at dksX1_turns_0 21 rfl rfl)
theorem dX1_turns_23 : decode cX1_turns 23 = .ok (.i2l, 1) := dk_133 (dk_at dksX1_turns_0 23 rfl rfl)
theorem dX1_turns_24 : decode cX1_turns 24 = .ok (.lmul, 1) := dk_105 (dk_at dksX1_turns_1 0 rfl rfl)
theorem dX1_turns_25 : decode cX1_turns 25 = .ok (.aload_n 0, 1) := dk_42 (dk_at dksX1_turns_1 1 rfl rfl)
theorem dX1_turns_26 : decode cX1_turns 26 = .ok (.getfield 18, 3) := dk_180 0 18 (dk_at dksX1_turns_1 2 rfl rfl)
theorem dX1_turns_29 : decode cX1_turns 29 = .ok (.iload_n 3, 1) := dk_29 (dk_at dksX1_turns_1 5 rfl rfl)
theorem dX1_turns_30 : decode cX1_turns 30 = .ok (.iaload, 1) := dk_46 (dk_at dksX1_turns_1 6 rfl rfl)
theorem dX1_turns_31 : decode cX1_turns 31 = .ok (.i2l, 1) := dk_133 (dk_at dksX1_turns_1 7 rfl rfl)
theorem dX1_turns_32 : decode cX1_turns 32 = .ok (.iload 5, 2) := dk_21 5 (dk_at dksX1_turns_1 8 rfl rfl)
theorem dX1_turns_34 : decode cX1_turns 34 = .ok (.i2l, 1) := dk_133 (dk_at dksX1_turns_1 10 rfl rfl)
theorem dX1_turns_35 : decode cX1_turns 35 = .ok (.lmul, 1) := dk_105 (dk_at dksX1_turns_1 11 rfl rfl)
theorem dX1_turns_36 : decode cX1_turns 36 = .ok (.lsub, 1) := dk_101 (dk_at dksX1_turns_1 12 rfl rfl)
theorem dX1_turns_37 : decode cX1_turns 37 = .ok (.invokestatic 21, 3) := dk_184 0 21 (dk_at dksX1_turns_1 13 rfl rfl)
theorem dX1_turns_40 : decode cX1_turns 40 = .ok (.iastore, 1) := dk_79 (dk_at dksX1_turns_1 16 rfl rfl)
theorem dX1_turns_41 : decode cX1_turns 41 = .ok (.aload_n 1, 1) := dk_43 (dk_at dksX1_turns_1 17 rfl rfl)
theorem dX1_turns_42 : decode cX1_turns 42 = .ok (.iload_n 2, 1) := dk_28 (dk_at dksX1_turns_1 18 rfl rfl)
theorem dX1_turns_43 : decode cX1_turns 43 = .ok (.iconst 1, 1) := dk_4 (dk_at dksX1_turns_1 19 rfl rfl)
theorem dX1_turns_44 : decode cX1_turns 44 = .ok (.iadd, 1) := dk_96 (dk_at dksX1_turns_1 20 rfl rfl)
theorem dX1_turns_45 : decode cX1_turns 45 = .ok (.aload_n 0, 1) := dk_42 (dk_at dksX1_turns_1 21 rfl rfl)
theorem dX1_turns_46 : decode cX1_turns 46 = .ok (.getfield 18, 3) := dk_180 0 18 (dk_at dksX1_turns_2 0 rfl rfl)
theorem dX1_turns_49 : decode cX1_turns 49 = .ok (.iload_n 3, 1) := dk_29 (dk_at dksX1_turns_2 3 rfl rfl)
theorem dX1_turns_50 : decode cX1_turns 50 = .ok (.iaload, 1) := dk_46 (dk_at dksX1_turns_2 4 rfl rfl)
theorem dX1_turns_51 : decode cX1_turns 51 = .ok (.i2l, 1) := dk_133 (dk_at dksX1_turns_2 5 rfl rfl)
theorem dX1_turns_52 : decode cX1_turns 52 = .ok (.iload 4, 2) := dk_21 4 (dk_at dksX1_turns_2 6 rfl rfl)
theorem dX1_turns_54 : decode cX1_turns 54 = .ok (.i2l, 1) := dk_133 (dk_at dksX1_turns_2 8 rfl rfl)
theorem dX1_turns_55 : decode cX1_turns 55 = .ok (.lmul, 1) := dk_105 (dk_at dksX1_turns_2 9 rfl rfl)
theorem dX1_turns_56 : decode cX1_turns 56 = .ok (.aload_n 0, 1) := dk_42 (dk_at dksX1_turns_2 10 rfl rfl)
theorem dX1_turns_57 : decode cX1_turns 57 = .ok (.getfield 14, 3) := dk_180 0 14 (dk_at dksX1_turns_2 11 rfl rfl)
theorem dX1_turns_60 : decode cX1_turns 60 = .ok (.iload_n 3, 1) := dk_29 (dk_at dksX1_turns_2 14 rfl rfl)
theorem dX1_turns_61 : decode cX1_turns 61 = .ok (.iaload, 1) := dk_46 (dk_at dksX1_turns_2 15 rfl rfl)
theorem dX1_turns_62 : decode cX1_turns 62 = .ok (.i2l, 1) := dk_133 (dk_at dksX1_turns_2 16 rfl rfl)
theorem dX1_turns_63 : decode cX1_turns 63 = .ok (.iload 5, 2) := dk_21 5 (dk_at dksX1_turns_2 17 rfl rfl)
theorem dX1_turns_65 : decode cX1_turns 65 = .ok (.i2l, 1) := dk_133 (dk_at dksX1_turns_2 19 rfl rfl)
theorem dX1_turns_66 : decode cX1_turns 66 = .ok (.lmul, 1) := dk_105 (dk_at dksX1_turns_2 20 rfl rfl)
theorem dX1_turns_67 : decode cX1_turns 67 = .ok (.ladd, 1) := dk_97 (dk_at dksX1_turns_2 21 rfl rfl)
theorem dX1_turns_68 : decode cX1_turns 68 = .ok (.invokestatic 21, 3) := dk_184 0 21 (dk_at dksX1_turns_3 0 rfl rfl)
theorem dX1_turns_71 : decode cX1_turns 71 = .ok (.iastore, 1) := dk_79 (dk_at dksX1_turns_3 3 rfl rfl)
theorem dX1_turns_72 : decode cX1_turns 72 = .ok (.return_, 1) := dk_177 (dk_at dksX1_turns_3 4 rfl rfl)
abbrev cX1_entry : ByteArray := prog_1_method_17_code
def yX1_entry : MethodName := ⟨RX1, "entry", "(III)I"⟩
def dkwX1_entry_2 : List UInt8 := [50, 27, 29, 79, 21, 4, 172]
abbrev dktX1_entry_2 : List UInt8 := dkwX1_entry_2 ++ []
def dkwX1_entry_1 : List UInt8 := [184, 0, 25, 154, 0, 6, 16, 254, 172, 42, 180, 0, 85, 28, 50, 27, 46, 54, 4, 42, 180, 0, 85, 28]
abbrev dktX1_entry_1 : List UInt8 := dkwX1_entry_1 ++ dktX1_entry_2
def dkwX1_entry_0 : List UInt8 := [42, 27, 182, 0, 150, 153, 0, 11, 42, 28, 182, 0, 150, 154, 0, 5, 2, 172, 29, 3, 16, 96]
abbrev dktX1_entry_0 : List UInt8 := dkwX1_entry_0 ++ dktX1_entry_1
theorem dksX1_entry_0 : cX1_entry.data.toList.drop 0 = dktX1_entry_0 := by decide +kernel
theorem dksX1_entry_1 : cX1_entry.data.toList.drop 22 = dktX1_entry_1 := dk_seg dksX1_entry_0 22 rfl rfl
theorem dksX1_entry_2 : cX1_entry.data.toList.drop 46 = dktX1_entry_2 := dk_seg dksX1_entry_1 24 rfl rfl
theorem dX1_entry_0 : decode cX1_entry 0 = .ok (.aload_n 0, 1) := dk_42 (dk_at dksX1_entry_0 0 rfl rfl)
theorem dX1_entry_1 : decode cX1_entry 1 = .ok (.iload_n 1, 1) := dk_27 (dk_at dksX1_entry_0 1 rfl rfl)
theorem dX1_entry_2 : decode cX1_entry 2 = .ok (.invokevirtual 150, 3) := dk_182 0 150 (dk_at dksX1_entry_0 2 rfl rfl)
theorem dX1_entry_5 : decode cX1_entry 5 = .ok (.ifCond .eq 11, 3) := dk_153 0 11 (dk_at dksX1_entry_0 5 rfl rfl)
theorem dX1_entry_8 : decode cX1_entry 8 = .ok (.aload_n 0, 1) := dk_42 (dk_at dksX1_entry_0 8 rfl rfl)
theorem dX1_entry_9 : decode cX1_entry 9 = .ok (.iload_n 2, 1) := dk_28 (dk_at dksX1_entry_0 9 rfl rfl)
theorem dX1_entry_10 : decode cX1_entry 10 = .ok (.invokevirtual 150, 3) := dk_182 0 150 (dk_at dksX1_entry_0 10 rfl rfl)
theorem dX1_entry_13 : decode cX1_entry 13 = .ok (.ifCond .ne 5, 3) := dk_154 0 5 (dk_at dksX1_entry_0 13 rfl rfl)
theorem dX1_entry_16 : decode cX1_entry 16 = .ok (.iconst (-1), 1) := dk_2 (dk_at dksX1_entry_0 16 rfl rfl)
theorem dX1_entry_17 : decode cX1_entry 17 = .ok (.ireturn, 1) := dk_172 (dk_at dksX1_entry_0 17 rfl rfl)
theorem dX1_entry_18 : decode cX1_entry 18 = .ok (.iload_n 3, 1) := dk_29 (dk_at dksX1_entry_0 18 rfl rfl)
theorem dX1_entry_19 : decode cX1_entry 19 = .ok (.iconst 0, 1) := dk_3 (dk_at dksX1_entry_0 19 rfl rfl)
theorem dX1_entry_20 : decode cX1_entry 20 = .ok (.bipush 96, 2) := dk_16 96 (dk_at dksX1_entry_0 20 rfl rfl)
theorem dX1_entry_22 : decode cX1_entry 22 = .ok (.invokestatic 25, 3) := dk_184 0 25 (dk_at dksX1_entry_1 0 rfl rfl)
theorem dX1_entry_25 : decode cX1_entry 25 = .ok (.ifCond .ne 6, 3) := dk_154 0 6 (dk_at dksX1_entry_1 3 rfl rfl)
theorem dX1_entry_28 : decode cX1_entry 28 = .ok (.bipush (-2), 2) := dk_16 254 (dk_at dksX1_entry_1 6 rfl rfl)
theorem dX1_entry_30 : decode cX1_entry 30 = .ok (.ireturn, 1) := dk_172 (dk_at dksX1_entry_1 8 rfl rfl)
theorem dX1_entry_31 : decode cX1_entry 31 = .ok (.aload_n 0, 1) := dk_42 (dk_at dksX1_entry_1 9 rfl rfl)
theorem dX1_entry_32 : decode cX1_entry 32 = .ok (.getfield 85, 3) := dk_180 0 85 (dk_at dksX1_entry_1 10 rfl rfl)
theorem dX1_entry_35 : decode cX1_entry 35 = .ok (.iload_n 2, 1) := dk_28 (dk_at dksX1_entry_1 13 rfl rfl)
theorem dX1_entry_36 : decode cX1_entry 36 = .ok (.aaload, 1) := dk_50 (dk_at dksX1_entry_1 14 rfl rfl)
theorem dX1_entry_37 : decode cX1_entry 37 = .ok (.iload_n 1, 1) := dk_27 (dk_at dksX1_entry_1 15 rfl rfl)
theorem dX1_entry_38 : decode cX1_entry 38 = .ok (.iaload, 1) := dk_46 (dk_at dksX1_entry_1 16 rfl rfl)
theorem dX1_entry_39 : decode cX1_entry 39 = .ok (.istore 4, 2) := dk_54 4 (dk_at dksX1_entry_1 17 rfl rfl)
theorem dX1_entry_41 : decode cX1_entry 41 = .ok (.aload_n 0, 1) := dk_42 (dk_at dksX1_entry_1 19 rfl rfl)
theorem dX1_entry_42 : decode cX1_entry 42 = .ok (.getfield 85, 3) := dk_180 0 85 (dk_at dksX1_entry_1 20 rfl rfl)
theorem dX1_entry_45 : decode cX1_entry 45 = .ok (.iload_n 2, 1) := dk_28 (dk_at dksX1_entry_1 23 rfl rfl)
theorem dX1_entry_46 : decode cX1_entry 46 = .ok (.aaload, 1) := dk_50 (dk_at dksX1_entry_2 0 rfl rfl)
theorem dX1_entry_47 : decode cX1_entry 47 = .ok (.iload_n 1, 1) := dk_27 (dk_at dksX1_entry_2 1 rfl rfl)
theorem dX1_entry_48 : decode cX1_entry 48 = .ok (.iload_n 3, 1) := dk_29 (dk_at dksX1_entry_2 2 rfl rfl)
theorem dX1_entry_49 : decode cX1_entry 49 = .ok (.iastore, 1) := dk_79 (dk_at dksX1_entry_2 3 rfl rfl)
theorem dX1_entry_50 : decode cX1_entry 50 = .ok (.iload 4, 2) := dk_21 4 (dk_at dksX1_entry_2 4 rfl rfl)
theorem dX1_entry_52 : decode cX1_entry 52 = .ok (.ireturn, 1) := dk_172 (dk_at dksX1_entry_2 6 rfl rfl)
abbrev cX1_take : ByteArray := prog_1_method_18_code
def yX1_take : MethodName := ⟨RX1, "take", "()I"⟩
def dkwX1_take_3 : List UInt8 := [132, 3, 1, 167, 255, 206, 132, 2, 1, 167, 255, 181, 27, 172]
abbrev dktX1_take_3 : List UInt8 := dkwX1_take_3 ++ []
def dkwX1_take_2 : List UInt8 := [160, 0, 7, 3, 167, 0, 4, 4, 128, 60, 42, 180, 0, 85, 28, 50, 29, 42, 180, 0, 80, 29, 46, 79]
abbrev dktX1_take_2 : List UInt8 := dkwX1_take_2 ++ dktX1_take_3
def dkwX1_take_1 : List UInt8 := [42, 180, 0, 138, 162, 0, 48, 27, 42, 180, 0, 85, 28, 50, 29, 46, 42, 180, 0, 80, 29, 46]
abbrev dktX1_take_1 : List UInt8 := dkwX1_take_1 ++ dktX1_take_2
def dkwX1_take_0 : List UInt8 := [3, 60, 3, 61, 28, 42, 180, 0, 138, 162, 0, 73, 42, 42, 180, 0, 55, 28, 182, 0, 194, 3, 62, 29]
abbrev dktX1_take_0 : List UInt8 := dkwX1_take_0 ++ dktX1_take_1
theorem dksX1_take_0 : cX1_take.data.toList.drop 0 = dktX1_take_0 := by decide +kernel
theorem dksX1_take_1 : cX1_take.data.toList.drop 24 = dktX1_take_1 := dk_seg dksX1_take_0 24 rfl rfl
theorem dksX1_take_2 : cX1_take.data.toList.drop 46 = dktX1_take_2 := dk_seg dksX1_take_1 22 rfl rfl
theorem dksX1_take_3 : cX1_take.data.toList.drop 70 = dktX1_take_3 := dk_seg dksX1_take_2 24 rfl rfl
theorem dX1_take_0 : decode cX1_take 0 = .ok (.iconst 0, 1) := dk_3 (dk_at dksX1_take_0 0 rfl rfl)
theorem dX1_take_1 : decode cX1_take 1 = .ok (.istore_n 1, 1) := dk_60 (dk_at dksX1_take_0 1 rfl rfl)
theorem dX1_take_2 : decode cX1_take 2 = .ok (.iconst 0, 1) := dk_3 (dk_at dksX1_take_0 2 rfl rfl)
theorem dX1_take_3 : decode cX1_take 3 = .ok (.istore_n 2, 1) := dk_61 (dk_at dksX1_take_0 3 rfl rfl)
theorem dX1_take_4 : decode cX1_take 4 = .ok (.iload_n 2, 1) := dk_28 (dk_at dksX1_take_0 4 rfl rfl)
theorem dX1_take_5 : decode cX1_take 5 = .ok (.aload_n 0, 1) := dk_42 (dk_at dksX1_take_0 5 rfl rfl)
theorem dX1_take_6 : decode cX1_take 6 = .ok (.getfield 138, 3) := dk_180 0 138 (dk_at dksX1_take_0 6 rfl rfl)
theorem dX1_take_9 : decode cX1_take 9 = .ok (.if_icmp .ge 73, 3) := dk_162 0 73 (dk_at dksX1_take_0 9 rfl rfl)
theorem dX1_take_12 : decode cX1_take 12 = .ok (.aload_n 0, 1) := dk_42 (dk_at dksX1_take_0 12 rfl rfl)
theorem dX1_take_13 : decode cX1_take 13 = .ok (.aload_n 0, 1) := dk_42 (dk_at dksX1_take_0 13 rfl rfl)
theorem dX1_take_14 : decode cX1_take 14 = .ok (.getfield 55, 3) := dk_180 0 55 (dk_at dksX1_take_0 14 rfl rfl)
theorem dX1_take_17 : decode cX1_take 17 = .ok (.iload_n 2, 1) := dk_28 (dk_at dksX1_take_0 17 rfl rfl)
theorem dX1_take_18 : decode cX1_take 18 = .ok (.invokevirtual 194, 3) := dk_182 0 194 (dk_at dksX1_take_0 18 rfl rfl)
theorem dX1_take_21 : decode cX1_take 21 = .ok (.iconst 0, 1) := dk_3 (dk_at dksX1_take_0 21 rfl rfl)
theorem dX1_take_22 : decode cX1_take 22 = .ok (.istore_n 3, 1) := dk_62 (dk_at dksX1_take_0 22 rfl rfl)
theorem dX1_take_23 : decode cX1_take 23 = .ok (.iload_n 3, 1) := dk_29 (dk_at dksX1_take_0 23 rfl rfl)
theorem dX1_take_24 : decode cX1_take 24 = .ok (.aload_n 0, 1) := dk_42 (dk_at dksX1_take_1 0 rfl rfl)
theorem dX1_take_25 : decode cX1_take 25 = .ok (.getfield 138, 3) := dk_180 0 138 (dk_at dksX1_take_1 1 rfl rfl)
theorem dX1_take_28 : decode cX1_take 28 = .ok (.if_icmp .ge 48, 3) := dk_162 0 48 (dk_at dksX1_take_1 4 rfl rfl)
theorem dX1_take_31 : decode cX1_take 31 = .ok (.iload_n 1, 1) := dk_27 (dk_at dksX1_take_1 7 rfl rfl)
theorem dX1_take_32 : decode cX1_take 32 = .ok (.aload_n 0, 1) := dk_42 (dk_at dksX1_take_1 8 rfl rfl)
theorem dX1_take_33 : decode cX1_take 33 = .ok (.getfield 85, 3) := dk_180 0 85 (dk_at dksX1_take_1 9 rfl rfl)
theorem dX1_take_36 : decode cX1_take 36 = .ok (.iload_n 2, 1) := dk_28 (dk_at dksX1_take_1 12 rfl rfl)
theorem dX1_take_37 : decode cX1_take 37 = .ok (.aaload, 1) := dk_50 (dk_at dksX1_take_1 13 rfl rfl)
theorem dX1_take_38 : decode cX1_take 38 = .ok (.iload_n 3, 1) := dk_29 (dk_at dksX1_take_1 14 rfl rfl)
theorem dX1_take_39 : decode cX1_take 39 = .ok (.iaload, 1) := dk_46 (dk_at dksX1_take_1 15 rfl rfl)
theorem dX1_take_40 : decode cX1_take 40 = .ok (.aload_n 0, 1) := dk_42 (dk_at dksX1_take_1 16 rfl rfl)
theorem dX1_take_41 : decode cX1_take 41 = .ok (.getfield 80, 3) := dk_180 0 80 (dk_at dksX1_take_1 17 rfl rfl)
theorem dX1_take_44 : decode cX1_take 44 = .ok (.iload_n 3, 1) := dk_29 (dk_at dksX1_take_1 20 rfl rfl)
theorem dX1_take_45 : decode cX1_take 45 = .ok (.iaload, 1) := dk_46 (dk_at dksX1_take_1 21 rfl rfl)
theorem dX1_take_46 : decode cX1_take 46 = .ok (.if_icmp .ne 7, 3) := dk_160 0 7 (dk_at dksX1_take_2 0 rfl rfl)
theorem dX1_take_49 : decode cX1_take 49 = .ok (.iconst 0, 1) := dk_3 (dk_at dksX1_take_2 3 rfl rfl)
theorem dX1_take_50 : decode cX1_take 50 = .ok (.goto 4, 3) := dk_167 0 4 (dk_at dksX1_take_2 4 rfl rfl)
theorem dX1_take_53 : decode cX1_take 53 = .ok (.iconst 1, 1) := dk_4 (dk_at dksX1_take_2 7 rfl rfl)
theorem dX1_take_54 : decode cX1_take 54 = .ok (.ior, 1) := dk_128 (dk_at dksX1_take_2 8 rfl rfl)
theorem dX1_take_55 : decode cX1_take 55 = .ok (.istore_n 1, 1) := dk_60 (dk_at dksX1_take_2 9 rfl rfl)
theorem dX1_take_56 : decode cX1_take 56 = .ok (.aload_n 0, 1) := dk_42 (dk_at dksX1_take_2 10 rfl rfl)
theorem dX1_take_57 : decode cX1_take 57 = .ok (.getfield 85, 3) := dk_180 0 85 (dk_at dksX1_take_2 11 rfl rfl)
theorem dX1_take_60 : decode cX1_take 60 = .ok (.iload_n 2, 1) := dk_28 (dk_at dksX1_take_2 14 rfl rfl)
theorem dX1_take_61 : decode cX1_take 61 = .ok (.aaload, 1) := dk_50 (dk_at dksX1_take_2 15 rfl rfl)
theorem dX1_take_62 : decode cX1_take 62 = .ok (.iload_n 3, 1) := dk_29 (dk_at dksX1_take_2 16 rfl rfl)
theorem dX1_take_63 : decode cX1_take 63 = .ok (.aload_n 0, 1) := dk_42 (dk_at dksX1_take_2 17 rfl rfl)
theorem dX1_take_64 : decode cX1_take 64 = .ok (.getfield 80, 3) := dk_180 0 80 (dk_at dksX1_take_2 18 rfl rfl)
theorem dX1_take_67 : decode cX1_take 67 = .ok (.iload_n 3, 1) := dk_29 (dk_at dksX1_take_2 21 rfl rfl)
theorem dX1_take_68 : decode cX1_take 68 = .ok (.iaload, 1) := dk_46 (dk_at dksX1_take_2 22 rfl rfl)
theorem dX1_take_69 : decode cX1_take 69 = .ok (.iastore, 1) := dk_79 (dk_at dksX1_take_2 23 rfl rfl)
theorem dX1_take_70 : decode cX1_take 70 = .ok (.iinc 3 1, 3) := dk_132 3 1 (dk_at dksX1_take_3 0 rfl rfl)
theorem dX1_take_73 : decode cX1_take 73 = .ok (.goto (-50), 3) := dk_167 255 206 (dk_at dksX1_take_3 3 rfl rfl)
theorem dX1_take_76 : decode cX1_take 76 = .ok (.iinc 2 1, 3) := dk_132 2 1 (dk_at dksX1_take_3 6 rfl rfl)
theorem dX1_take_79 : decode cX1_take 79 = .ok (.goto (-75), 3) := dk_167 255 181 (dk_at dksX1_take_3 9 rfl rfl)
theorem dX1_take_82 : decode cX1_take 82 = .ok (.iload_n 1, 1) := dk_27 (dk_at dksX1_take_3 12 rfl rfl)
theorem dX1_take_83 : decode cX1_take 83 = .ok (.ireturn, 1) := dk_172 (dk_at dksX1_take_3 13 rfl rfl)
abbrev cX1_right : ByteArray := prog_1_method_19_code
def yX1_right : MethodName := ⟨RX1, "right", "()I"⟩
def dkwX1_right_3 : List UInt8 := [167, 0, 4, 3, 159, 0, 5, 3, 172, 132, 2, 1, 167, 255, 186, 132, 1, 1, 167, 255, 170, 4, 172]
abbrev dktX1_right_3 : List UInt8 := dkwX1_right_3 ++ []
def dkwX1_right_2 : List UInt8 := [21, 5, 46, 104, 133, 97, 66, 132, 5, 1, 167, 255, 221, 33, 184, 0, 21, 27, 28, 160, 0, 7, 4]
abbrev dktX1_right_2 : List UInt8 := dkwX1_right_2 ++ dktX1_right_3
def dkwX1_right_1 : List UInt8 := [42, 180, 0, 138, 162, 0, 32, 33, 42, 180, 0, 85, 27, 50, 21, 5, 46, 42, 180, 0, 85, 28, 50]
abbrev dktX1_right_1 : List UInt8 := dkwX1_right_1 ++ dktX1_right_2
def dkwX1_right_0 : List UInt8 := [3, 60, 27, 42, 180, 0, 138, 162, 0, 84, 3, 61, 28, 27, 163, 0, 71, 9, 66, 3, 54, 5, 21, 5]
abbrev dktX1_right_0 : List UInt8 := dkwX1_right_0 ++ dktX1_right_1
theorem dksX1_right_0 : cX1_right.data.toList.drop 0 = dktX1_right_0 := by decide +kernel
theorem dksX1_right_1 : cX1_right.data.toList.drop 24 = dktX1_right_1 := dk_seg dksX1_right_0 24 rfl rfl
theorem dksX1_right_2 : cX1_right.data.toList.drop 47 = dktX1_right_2 := dk_seg dksX1_right_1 23 rfl rfl
theorem dksX1_right_3 : cX1_right.data.toList.drop 70 = dktX1_right_3 := dk_seg dksX1_right_2 23 rfl rfl
theorem dX1_right_0 : decode cX1_right 0 = .ok (.iconst 0, 1) := dk_3 (dk_at dksX1_right_0 0 rfl rfl)
theorem dX1_right_1 : decode cX1_right 1 = .ok (.istore_n 1, 1) := dk_60 (dk_at dksX1_right_0 1 rfl rfl)
theorem dX1_right_2 : decode cX1_right 2 = .ok (.iload_n 1, 1) := dk_27 (dk_at dksX1_right_0 2 rfl rfl)
theorem dX1_right_3 : decode cX1_right 3 = .ok (.aload_n 0, 1) := dk_42 (dk_at dksX1_right_0 3 rfl rfl)
theorem dX1_right_4 : decode cX1_right 4 = .ok (.getfield 138, 3) := dk_180 0 138 (dk_at dksX1_right_0 4 rfl rfl)
theorem dX1_right_7 : decode cX1_right 7 = .ok (.if_icmp .ge 84, 3) := dk_162 0 84 (dk_at dksX1_right_0 7 rfl rfl)
theorem dX1_right_10 : decode cX1_right 10 = .ok (.iconst 0, 1) := dk_3 (dk_at dksX1_right_0 10 rfl rfl)
theorem dX1_right_11 : decode cX1_right 11 = .ok (.istore_n 2, 1) := dk_61 (dk_at dksX1_right_0 11 rfl rfl)
theorem dX1_right_12 : decode cX1_right 12 = .ok (.iload_n 2, 1) := dk_28 (dk_at dksX1_right_0 12 rfl rfl)
theorem dX1_right_13 : decode cX1_right 13 = .ok (.iload_n 1, 1) := dk_27 (dk_at dksX1_right_0 13 rfl rfl)
theorem dX1_right_14 : decode cX1_right 14 = .ok (.if_icmp .gt 71, 3) := dk_163 0 71 (dk_at dksX1_right_0 14 rfl rfl)
theorem dX1_right_17 : decode cX1_right 17 = .ok (.lconst 0, 1) := dk_9 (dk_at dksX1_right_0 17 rfl rfl)
theorem dX1_right_18 : decode cX1_right 18 = .ok (.lstore_n 3, 1) := dk_66 (dk_at dksX1_right_0 18 rfl rfl)
theorem dX1_right_19 : decode cX1_right 19 = .ok (.iconst 0, 1) := dk_3 (dk_at dksX1_right_0 19 rfl rfl)
theorem dX1_right_20 : decode cX1_right 20 = .ok (.istore 5, 2) := dk_54 5 (dk_at dksX1_right_0 20 rfl rfl)
theorem dX1_right_22 : decode cX1_right 22 = .ok (.iload 5, 2) := dk_21 5 (dk_at dksX1_right_0 22 rfl rfl)
theorem dX1_right_24 : decode cX1_right 24 = .ok (.aload_n 0, 1) := dk_42 (dk_at dksX1_right_1 0 rfl rfl)
theorem dX1_right_25 : decode cX1_right 25 = .ok (.getfield 138, 3) := dk_180 0 138 (dk_at dksX1_right_1 1 rfl rfl)
theorem dX1_right_28 : decode cX1_right 28 = .ok (.if_icmp .ge 32, 3) := dk_162 0 32 (dk_at dksX1_right_1 4 rfl rfl)
theorem dX1_right_31 : decode cX1_right 31 = .ok (.lload_n 3, 1) := dk_33 (dk_at dksX1_right_1 7 rfl rfl)
theorem dX1_right_32 : decode cX1_right 32 = .ok (.aload_n 0, 1) := dk_42 (dk_at dksX1_right_1 8 rfl rfl)
theorem dX1_right_33 : decode cX1_right 33 = .ok (.getfield 85, 3) := dk_180 0 85 (dk_at dksX1_right_1 9 rfl rfl)
theorem dX1_right_36 : decode cX1_right 36 = .ok (.iload_n 1, 1) := dk_27 (dk_at dksX1_right_1 12 rfl rfl)
theorem dX1_right_37 : decode cX1_right 37 = .ok (.aaload, 1) := dk_50 (dk_at dksX1_right_1 13 rfl rfl)
theorem dX1_right_38 : decode cX1_right 38 = .ok (.iload 5, 2) := dk_21 5 (dk_at dksX1_right_1 14 rfl rfl)
theorem dX1_right_40 : decode cX1_right 40 = .ok (.iaload, 1) := dk_46 (dk_at dksX1_right_1 16 rfl rfl)
theorem dX1_right_41 : decode cX1_right 41 = .ok (.aload_n 0, 1) := dk_42 (dk_at dksX1_right_1 17 rfl rfl)
theorem dX1_right_42 : decode cX1_right 42 = .ok (.getfield 85, 3) := dk_180 0 85 (dk_at dksX1_right_1 18 rfl rfl)
theorem dX1_right_45 : decode cX1_right 45 = .ok (.iload_n 2, 1) := dk_28 (dk_at dksX1_right_1 21 rfl rfl)
theorem dX1_right_46 : decode cX1_right 46 = .ok (.aaload, 1) := dk_50 (dk_at dksX1_right_1 22 rfl rfl)
theorem dX1_right_47 : decode cX1_right 47 = .ok (.iload 5, 2) := dk_21 5 (dk_at dksX1_right_2 0 rfl rfl)
theorem dX1_right_49 : decode cX1_right 49 = .ok (.iaload, 1) := dk_46 (dk_at dksX1_right_2 2 rfl rfl)
theorem dX1_right_50 : decode cX1_right 50 = .ok (.imul, 1) := dk_104 (dk_at dksX1_right_2 3 rfl rfl)
theorem dX1_right_51 : decode cX1_right 51 = .ok (.i2l, 1) := dk_133 (dk_at dksX1_right_2 4 rfl rfl)
theorem dX1_right_52 : decode cX1_right 52 = .ok (.ladd, 1) := dk_97 (dk_at dksX1_right_2 5 rfl rfl)
theorem dX1_right_53 : decode cX1_right 53 = .ok (.lstore_n 3, 1) := dk_66 (dk_at dksX1_right_2 6 rfl rfl)
theorem dX1_right_54 : decode cX1_right 54 = .ok (.iinc 5 1, 3) := dk_132 5 1 (dk_at dksX1_right_2 7 rfl rfl)
theorem dX1_right_57 : decode cX1_right 57 = .ok (.goto (-35), 3) := dk_167 255 221 (dk_at dksX1_right_2 10 rfl rfl)
theorem dX1_right_60 : decode cX1_right 60 = .ok (.lload_n 3, 1) := dk_33 (dk_at dksX1_right_2 13 rfl rfl)
theorem dX1_right_61 : decode cX1_right 61 = .ok (.invokestatic 21, 3) := dk_184 0 21 (dk_at dksX1_right_2 14 rfl rfl)
theorem dX1_right_64 : decode cX1_right 64 = .ok (.iload_n 1, 1) := dk_27 (dk_at dksX1_right_2 17 rfl rfl)
theorem dX1_right_65 : decode cX1_right 65 = .ok (.iload_n 2, 1) := dk_28 (dk_at dksX1_right_2 18 rfl rfl)
theorem dX1_right_66 : decode cX1_right 66 = .ok (.if_icmp .ne 7, 3) := dk_160 0 7 (dk_at dksX1_right_2 19 rfl rfl)
theorem dX1_right_69 : decode cX1_right 69 = .ok (.iconst 1, 1) := dk_4 (dk_at dksX1_right_2 22 rfl rfl)
theorem dX1_right_70 : decode cX1_right 70 = .ok (.goto 4, 3) := dk_167 0 4 (dk_at dksX1_right_3 0 rfl rfl)
theorem dX1_right_73 : decode cX1_right 73 = .ok (.iconst 0, 1) := dk_3 (dk_at dksX1_right_3 3 rfl rfl)
theorem dX1_right_74 : decode cX1_right 74 = .ok (.if_icmp .eq 5, 3) := dk_159 0 5 (dk_at dksX1_right_3 4 rfl rfl)
theorem dX1_right_77 : decode cX1_right 77 = .ok (.iconst 0, 1) := dk_3 (dk_at dksX1_right_3 7 rfl rfl)
theorem dX1_right_78 : decode cX1_right 78 = .ok (.ireturn, 1) := dk_172 (dk_at dksX1_right_3 8 rfl rfl)
theorem dX1_right_79 : decode cX1_right 79 = .ok (.iinc 2 1, 3) := dk_132 2 1 (dk_at dksX1_right_3 9 rfl rfl)
theorem dX1_right_82 : decode cX1_right 82 = .ok (.goto (-70), 3) := dk_167 255 186 (dk_at dksX1_right_3 12 rfl rfl)
theorem dX1_right_85 : decode cX1_right 85 = .ok (.iinc 1 1, 3) := dk_132 1 1 (dk_at dksX1_right_3 15 rfl rfl)
theorem dX1_right_88 : decode cX1_right 88 = .ok (.goto (-86), 3) := dk_167 255 170 (dk_at dksX1_right_3 18 rfl rfl)
theorem dX1_right_91 : decode cX1_right 91 = .ok (.iconst 1, 1) := dk_4 (dk_at dksX1_right_3 21 rfl rfl)
theorem dX1_right_92 : decode cX1_right 92 = .ok (.ireturn, 1) := dk_172 (dk_at dksX1_right_3 22 rfl rfl)
abbrev cX1_split : ByteArray := prog_1_method_21_code
def yX1_split : MethodName := ⟨RX1, "split", "()I"⟩
def dkwX1_split_9 : List UInt8 := [180, 0, 88, 27, 50, 27, 46, 79, 132, 1, 1, 167, 255, 231, 42, 180, 0, 202, 172]
abbrev dktX1_split_9 : List UInt8 := dkwX1_split_9 ++ []
def dkwX1_split_8 : List UInt8 := [132, 1, 1, 167, 255, 119, 3, 60, 27, 42, 180, 0, 138, 162, 0, 23, 42, 180, 0, 97, 27, 42]
abbrev dktX1_split_8 : List UInt8 := dkwX1_split_8 ++ dktX1_split_9
def dkwX1_split_7 : List UInt8 := [180, 0, 94, 42, 89, 180, 0, 202, 90, 4, 96, 181, 0, 202, 29, 79, 132, 2, 255, 167, 255, 142]
abbrev dktX1_split_7 : List UInt8 := dkwX1_split_7 ++ dktX1_split_8
def dkwX1_split_6 : List UInt8 := [100, 29, 182, 0, 217, 132, 4, 1, 167, 255, 229, 42, 180, 0, 91, 42, 180, 0, 202, 28, 4, 100, 79, 42]
abbrev dktX1_split_6 : List UInt8 := dkwX1_split_6 ++ dktX1_split_7
def dkwX1_split_5 : List UInt8 := [100, 172, 3, 54, 4, 21, 4, 42, 180, 0, 138, 162, 0, 24, 42, 42, 180, 0, 88, 21, 4, 50, 28, 4]
abbrev dktX1_split_5 : List UInt8 := dkwX1_split_5 ++ dktX1_split_6
def dkwX1_split_4 : List UInt8 := [46, 182, 0, 214, 62, 29, 2, 160, 0, 19, 42, 42, 180, 0, 202, 181, 0, 205, 16, 246, 42, 180, 0, 205]
abbrev dktX1_split_4 : List UInt8 := dkwX1_split_4 ++ dktX1_split_5
def dkwX1_split_3 : List UInt8 := [61, 28, 27, 164, 0, 115, 42, 42, 180, 0, 88, 27, 50, 28, 4, 100, 46, 42, 180, 0, 88, 27, 50, 28]
abbrev dktX1_split_3 : List UInt8 := dkwX1_split_3 ++ dktX1_split_4
def dkwX1_split_2 : List UInt8 := [132, 1, 1, 167, 255, 224, 3, 60, 27, 42, 180, 0, 138, 4, 100, 162, 0, 133, 42, 180, 0, 138, 4, 100]
abbrev dktX1_split_2 : List UInt8 := dkwX1_split_2 ++ dktX1_split_3
def dkwX1_split_1 : List UInt8 := [162, 0, 30, 42, 180, 0, 85, 27, 50, 3, 42, 180, 0, 88, 27, 50, 3, 42, 180, 0, 138, 184, 0, 208]
abbrev dktX1_split_1 : List UInt8 := dkwX1_split_1 ++ dktX1_split_2
def dkwX1_split_0 : List UInt8 := [42, 4, 181, 0, 198, 42, 3, 181, 0, 202, 42, 2, 181, 0, 205, 3, 60, 27, 42, 180, 0, 138]
abbrev dktX1_split_0 : List UInt8 := dkwX1_split_0 ++ dktX1_split_1
theorem dksX1_split_0 : cX1_split.data.toList.drop 0 = dktX1_split_0 := by decide +kernel
theorem dksX1_split_1 : cX1_split.data.toList.drop 22 = dktX1_split_1 := dk_seg dksX1_split_0 22 rfl rfl
theorem dksX1_split_2 : cX1_split.data.toList.drop 46 = dktX1_split_2 := dk_seg dksX1_split_1 24 rfl rfl
theorem dksX1_split_3 : cX1_split.data.toList.drop 70 = dktX1_split_3 := dk_seg dksX1_split_2 24 rfl rfl
theorem dksX1_split_4 : cX1_split.data.toList.drop 94 = dktX1_split_4 := dk_seg dksX1_split_3 24 rfl rfl
theorem dksX1_split_5 : cX1_split.data.toList.drop 118 = dktX1_split_5 := dk_seg dksX1_split_4 24 rfl rfl
theorem dksX1_split_6 : cX1_split.data.toList.drop 142 = dktX1_split_6 := dk_seg dksX1_split_5 24 rfl rfl
theorem dksX1_split_7 : cX1_split.data.toList.drop 166 = dktX1_split_7 := dk_seg dksX1_split_6 24 rfl rfl
theorem dksX1_split_8 : cX1_split.data.toList.drop 188 = dktX1_split_8 := dk_seg dksX1_split_7 22 rfl rfl
theorem dksX1_split_9 : cX1_split.data.toList.drop 210 = dktX1_split_9 := dk_seg dksX1_split_8 22 rfl rfl
theorem dX1_split_0 : decode cX1_split 0 = .ok (.aload_n 0, 1) := dk_42 (dk_at dksX1_split_0 0 rfl rfl)
theorem dX1_split_1 : decode cX1_split 1 = .ok (.iconst 1, 1) := dk_4 (dk_at dksX1_split_0 1 rfl rfl)
theorem dX1_split_2 : decode cX1_split 2 = .ok (.putfield 198, 3) := dk_181 0 198 (dk_at dksX1_split_0 2 rfl rfl)
theorem dX1_split_5 : decode cX1_split 5 = .ok (.aload_n 0, 1) := dk_42 (dk_at dksX1_split_0 5 rfl rfl)
theorem dX1_split_6 : decode cX1_split 6 = .ok (.iconst 0, 1) := dk_3 (dk_at dksX1_split_0 6 rfl rfl)
theorem dX1_split_7 : decode cX1_split 7 = .ok (.putfield 202, 3) := dk_181 0 202 (dk_at dksX1_split_0 7 rfl rfl)
theorem dX1_split_10 : decode cX1_split 10 = .ok (.aload_n 0, 1) := dk_42 (dk_at dksX1_split_0 10 rfl rfl)
theorem dX1_split_11 : decode cX1_split 11 = .ok (.iconst (-1), 1) := dk_2 (dk_at dksX1_split_0 11 rfl rfl)
theorem dX1_split_12 : decode cX1_split 12 = .ok (.putfield 205, 3) := dk_181 0 205 (dk_at dksX1_split_0 12 rfl rfl)
theorem dX1_split_15 : decode cX1_split 15 = .ok (.iconst 0, 1) := dk_3 (dk_at dksX1_split_0 15 rfl rfl)
theorem dX1_split_16 : decode cX1_split 16 = .ok (.istore_n 1, 1) := dk_60 (dk_at dksX1_split_0 16 rfl rfl)
theorem dX1_split_17 : decode cX1_split 17 = .ok (.iload_n 1, 1) := dk_27 (dk_at dksX1_split_0 17 rfl rfl)
theorem dX1_split_18 : decode cX1_split 18 = .ok (.aload_n 0, 1) := dk_42 (dk_at dksX1_split_0 18 rfl rfl)
theorem dX1_split_19 : decode cX1_split 19 = .ok (.getfield 138, 3) := dk_180 0 138 (dk_at dksX1_split_0 19 rfl rfl)
theorem dX1_split_22 : decode cX1_split 22 = .ok (.if_icmp .ge 30, 3) := dk_162 0 30 (dk_at dksX1_split_1 0 rfl rfl)
theorem dX1_split_25 : decode cX1_split 25 = .ok (.aload_n 0, 1) := dk_42 (dk_at dksX1_split_1 3 rfl rfl)
theorem dX1_split_26 : decode cX1_split 26 = .ok (.getfield 85, 3) := dk_180 0 85 (dk_at dksX1_split_1 4 rfl rfl)
theorem dX1_split_29 : decode cX1_split 29 = .ok (.iload_n 1, 1) := dk_27 (dk_at dksX1_split_1 7 rfl rfl)
theorem dX1_split_30 : decode cX1_split 30 = .ok (.aaload, 1) := dk_50 (dk_at dksX1_split_1 8 rfl rfl)
theorem dX1_split_31 : decode cX1_split 31 = .ok (.iconst 0, 1) := dk_3 (dk_at dksX1_split_1 9 rfl rfl)
theorem dX1_split_32 : decode cX1_split 32 = .ok (.aload_n 0, 1) := dk_42 (dk_at dksX1_split_1 10 rfl rfl)
theorem dX1_split_33 : decode cX1_split 33 = .ok (.getfield 88, 3) := dk_180 0 88 (dk_at dksX1_split_1 11 rfl rfl)
theorem dX1_split_36 : decode cX1_split 36 = .ok (.iload_n 1, 1) := dk_27 (dk_at dksX1_split_1 14 rfl rfl)
theorem dX1_split_37 : decode cX1_split 37 = .ok (.aaload, 1) := dk_50 (dk_at dksX1_split_1 15 rfl rfl)
theorem dX1_split_38 : decode cX1_split 38 = .ok (.iconst 0, 1) := dk_3 (dk_at dksX1_split_1 16 rfl rfl)
theorem dX1_split_39 : decode cX1_split 39 = .ok (.aload_n 0, 1) := dk_42 (dk_at dksX1_split_1 17 rfl rfl)
theorem dX1_split_40 : decode cX1_split 40 = .ok (.getfield 138, 3) := dk_180 0 138 (dk_at dksX1_split_1 18 rfl rfl)
theorem dX1_split_43 : decode cX1_split 43 = .ok (.invokestatic 208, 3) := dk_184 0 208 (dk_at dksX1_split_1 21 rfl rfl)
theorem dX1_split_46 : decode cX1_split 46 = .ok (.iinc 1 1, 3) := dk_132 1 1 (dk_at dksX1_split_2 0 rfl rfl)
theorem dX1_split_49 : decode cX1_split 49 = .ok (.goto (-32), 3) := dk_167 255 224 (dk_at dksX1_split_2 3 rfl rfl)
theorem dX1_split_52 : decode cX1_split 52 = .ok (.iconst 0, 1) := dk_3 (dk_at dksX1_split_2 6 rfl rfl)
theorem dX1_split_53 : decode cX1_split 53 = .ok (.istore_n 1, 1) := dk_60 (dk_at dksX1_split_2 7 rfl rfl)
theorem dX1_split_54 : decode cX1_split 54 = .ok (.iload_n 1, 1) := dk_27 (dk_at dksX1_split_2 8 rfl rfl)
theorem dX1_split_55 : decode cX1_split 55 = .ok (.aload_n 0, 1) := dk_42 (dk_at dksX1_split_2 9 rfl rfl)
theorem dX1_split_56 : decode cX1_split 56 = .ok (.getfield 138, 3) := dk_180 0 138 (dk_at dksX1_split_2 10 rfl rfl)
theorem dX1_split_59 : decode cX1_split 59 = .ok (.iconst 1, 1) := dk_4 (dk_at dksX1_split_2 13 rfl rfl)
theorem dX1_split_60 : decode cX1_split 60 = .ok (.isub, 1) := dk_100 (dk_at dksX1_split_2 14 rfl rfl)
theorem dX1_split_61 : decode cX1_split 61 = .ok (.if_icmp .ge 133, 3) := dk_162 0 133 (dk_at dksX1_split_2 15 rfl rfl)
theorem dX1_split_64 : decode cX1_split 64 = .ok (.aload_n 0, 1) := dk_42 (dk_at dksX1_split_2 18 rfl rfl)
theorem dX1_split_65 : decode cX1_split 65 = .ok (.getfield 138, 3) := dk_180 0 138 (dk_at dksX1_split_2 19 rfl rfl)
theorem dX1_split_68 : decode cX1_split 68 = .ok (.iconst 1, 1) := dk_4 (dk_at dksX1_split_2 22 rfl rfl)
theorem dX1_split_69 : decode cX1_split 69 = .ok (.isub, 1) := dk_100 (dk_at dksX1_split_2 23 rfl rfl)
theorem dX1_split_70 : decode cX1_split 70 = .ok (.istore_n 2, 1) := dk_61 (dk_at dksX1_split_3 0 rfl rfl)
theorem dX1_split_71 : decode cX1_split 71 = .ok (.iload_n 2, 1) := dk_28 (dk_at dksX1_split_3 1 rfl rfl)
theorem dX1_split_72 : decode cX1_split 72 = .ok (.iload_n 1, 1) := dk_27 (dk_at dksX1_split_3 2 rfl rfl)
theorem dX1_split_73 : decode cX1_split 73 = .ok (.if_icmp .le 115, 3) := dk_164 0 115 (dk_at dksX1_split_3 3 rfl rfl)
theorem dX1_split_76 : decode cX1_split 76 = .ok (.aload_n 0, 1) := dk_42 (dk_at dksX1_split_3 6 rfl rfl)
theorem dX1_split_77 : decode cX1_split 77 = .ok (.aload_n 0, 1) := dk_42 (dk_at dksX1_split_3 7 rfl rfl)
theorem dX1_split_78 : decode cX1_split 78 = .ok (.getfield 88, 3) := dk_180 0 88 (dk_at dksX1_split_3 8 rfl rfl)
theorem dX1_split_81 : decode cX1_split 81 = .ok (.iload_n 1, 1) := dk_27 (dk_at dksX1_split_3 11 rfl rfl)
theorem dX1_split_82 : decode cX1_split 82 = .ok (.aaload, 1) := dk_50 (dk_at dksX1_split_3 12 rfl rfl)
theorem dX1_split_83 : decode cX1_split 83 = .ok (.iload_n 2, 1) := dk_28 (dk_at dksX1_split_3 13 rfl rfl)
theorem dX1_split_84 : decode cX1_split 84 = .ok (.iconst 1, 1) := dk_4 (dk_at dksX1_split_3 14 rfl rfl)
theorem dX1_split_85 : decode cX1_split 85 = .ok (.isub, 1) := dk_100 (dk_at dksX1_split_3 15 rfl rfl)
theorem dX1_split_86 : decode cX1_split 86 = .ok (.iaload, 1) := dk_46 (dk_at dksX1_split_3 16 rfl rfl)
theorem dX1_split_87 : decode cX1_split 87 = .ok (.aload_n 0, 1) := dk_42 (dk_at dksX1_split_3 17 rfl rfl)
theorem dX1_split_88 : decode cX1_split 88 = .ok (.getfield 88, 3) := dk_180 0 88 (dk_at dksX1_split_3 18 rfl rfl)
theorem dX1_split_91 : decode cX1_split 91 = .ok (.iload_n 1, 1) := dk_27 (dk_at dksX1_split_3 21 rfl rfl)
theorem dX1_split_92 : decode cX1_split 92 = .ok (.aaload, 1) := dk_50 (dk_at dksX1_split_3 22 rfl rfl)
theorem dX1_split_93 : decode cX1_split 93 = .ok (.iload_n 2, 1) := dk_28 (dk_at dksX1_split_3 23 rfl rfl)
theorem dX1_split_94 : decode cX1_split 94 = .ok (.iaload, 1) := dk_46 (dk_at dksX1_split_4 0 rfl rfl)
theorem dX1_split_95 : decode cX1_split 95 = .ok (.invokevirtual 214, 3) := dk_182 0 214 (dk_at dksX1_split_4 1 rfl rfl)
theorem dX1_split_98 : decode cX1_split 98 = .ok (.istore_n 3, 1) := dk_62 (dk_at dksX1_split_4 4 rfl rfl)
theorem dX1_split_99 : decode cX1_split 99 = .ok (.iload_n 3, 1) := dk_29 (dk_at dksX1_split_4 5 rfl rfl)
theorem dX1_split_100 : decode cX1_split 100 = .ok (.iconst (-1), 1) := dk_2 (dk_at dksX1_split_4 6 rfl rfl)
theorem dX1_split_101 : decode cX1_split 101 = .ok (.if_icmp .ne 19, 3) := dk_160 0 19 (dk_at dksX1_split_4 7 rfl rfl)
theorem dX1_split_104 : decode cX1_split 104 = .ok (.aload_n 0, 1) := dk_42 (dk_at dksX1_split_4 10 rfl rfl)
theorem dX1_split_105 : decode cX1_split 105 = .ok (.aload_n 0, 1) := dk_42 (dk_at dksX1_split_4 11 rfl rfl)
theorem dX1_split_106 : decode cX1_split 106 = .ok (.getfield 202, 3) := dk_180 0 202 (dk_at dksX1_split_4 12 rfl rfl)
theorem dX1_split_109 : decode cX1_split 109 = .ok (.putfield 205, 3) := dk_181 0 205 (dk_at dksX1_split_4 15 rfl rfl)
theorem dX1_split_112 : decode cX1_split 112 = .ok (.bipush (-10), 2) := dk_16 246 (dk_at dksX1_split_4 18 rfl rfl)
theorem dX1_split_114 : decode cX1_split 114 = .ok (.aload_n 0, 1) := dk_42 (dk_at dksX1_split_4 20 rfl rfl)
theorem dX1_split_115 : decode cX1_split 115 = .ok (.getfield 205, 3) := dk_180 0 205 (dk_at dksX1_split_4 21 rfl rfl)
theorem dX1_split_118 : decode cX1_split 118 = .ok (.isub, 1) := dk_100 (dk_at dksX1_split_5 0 rfl rfl)
theorem dX1_split_119 : decode cX1_split 119 = .ok (.ireturn, 1) := dk_172 (dk_at dksX1_split_5 1 rfl rfl)
theorem dX1_split_120 : decode cX1_split 120 = .ok (.iconst 0, 1) := dk_3 (dk_at dksX1_split_5 2 rfl rfl)
theorem dX1_split_121 : decode cX1_split 121 = .ok (.istore 4, 2) := dk_54 4 (dk_at dksX1_split_5 3 rfl rfl)
theorem dX1_split_123 : decode cX1_split 123 = .ok (.iload 4, 2) := dk_21 4 (dk_at dksX1_split_5 5 rfl rfl)
theorem dX1_split_125 : decode cX1_split 125 = .ok (.aload_n 0, 1) := dk_42 (dk_at dksX1_split_5 7 rfl rfl)
theorem dX1_split_126 : decode cX1_split 126 = .ok (.getfield 138, 3) := dk_180 0 138 (dk_at dksX1_split_5 8 rfl rfl)
theorem dX1_split_129 : decode cX1_split 129 = .ok (.if_icmp .ge 24, 3) := dk_162 0 24 (dk_at dksX1_split_5 11 rfl rfl)
theorem dX1_split_132 : decode cX1_split 132 = .ok (.aload_n 0, 1) := dk_42 (dk_at dksX1_split_5 14 rfl rfl)
theorem dX1_split_133 : decode cX1_split 133 = .ok (.aload_n 0, 1) := dk_42 (dk_at dksX1_split_5 15 rfl rfl)
theorem dX1_split_134 : decode cX1_split 134 = .ok (.getfield 88, 3) := dk_180 0 88 (dk_at dksX1_split_5 16 rfl rfl)
theorem dX1_split_137 : decode cX1_split 137 = .ok (.iload 4, 2) := dk_21 4 (dk_at dksX1_split_5 19 rfl rfl)
theorem dX1_split_139 : decode cX1_split 139 = .ok (.aaload, 1) := dk_50 (dk_at dksX1_split_5 21 rfl rfl)
theorem dX1_split_140 : decode cX1_split 140 = .ok (.iload_n 2, 1) := dk_28 (dk_at dksX1_split_5 22 rfl rfl)
theorem dX1_split_141 : decode cX1_split 141 = .ok (.iconst 1, 1) := dk_4 (dk_at dksX1_split_5 23 rfl rfl)
theorem dX1_split_142 : decode cX1_split 142 = .ok (.isub, 1) := dk_100 (dk_at dksX1_split_6 0 rfl rfl)
theorem dX1_split_143 : decode cX1_split 143 = .ok (.iload_n 3, 1) := dk_29 (dk_at dksX1_split_6 1 rfl rfl)
theorem dX1_split_144 : decode cX1_split 144 = .ok (.invokevirtual 217, 3) := dk_182 0 217 (dk_at dksX1_split_6 2 rfl rfl)
theorem dX1_split_147 : decode cX1_split 147 = .ok (.iinc 4 1, 3) := dk_132 4 1 (dk_at dksX1_split_6 5 rfl rfl)
theorem dX1_split_150 : decode cX1_split 150 = .ok (.goto (-27), 3) := dk_167 255 229 (dk_at dksX1_split_6 8 rfl rfl)
theorem dX1_split_153 : decode cX1_split 153 = .ok (.aload_n 0, 1) := dk_42 (dk_at dksX1_split_6 11 rfl rfl)
theorem dX1_split_154 : decode cX1_split 154 = .ok (.getfield 91, 3) := dk_180 0 91 (dk_at dksX1_split_6 12 rfl rfl)
theorem dX1_split_157 : decode cX1_split 157 = .ok (.aload_n 0, 1) := dk_42 (dk_at dksX1_split_6 15 rfl rfl)
theorem dX1_split_158 : decode cX1_split 158 = .ok (.getfield 202, 3) := dk_180 0 202 (dk_at dksX1_split_6 16 rfl rfl)
theorem dX1_split_161 : decode cX1_split 161 = .ok (.iload_n 2, 1) := dk_28 (dk_at dksX1_split_6 19 rfl rfl)
theorem dX1_split_162 : decode cX1_split 162 = .ok (.iconst 1, 1) := dk_4 (dk_at dksX1_split_6 20 rfl rfl)
theorem dX1_split_163 : decode cX1_split 163 = .ok (.isub, 1) := dk_100 (dk_at dksX1_split_6 21 rfl rfl)
theorem dX1_split_164 : decode cX1_split 164 = .ok (.iastore, 1) := dk_79 (dk_at dksX1_split_6 22 rfl rfl)
theorem dX1_split_165 : decode cX1_split 165 = .ok (.aload_n 0, 1) := dk_42 (dk_at dksX1_split_6 23 rfl rfl)
theorem dX1_split_166 : decode cX1_split 166 = .ok (.getfield 94, 3) := dk_180 0 94 (dk_at dksX1_split_7 0 rfl rfl)
theorem dX1_split_169 : decode cX1_split 169 = .ok (.aload_n 0, 1) := dk_42 (dk_at dksX1_split_7 3 rfl rfl)
theorem dX1_split_170 : decode cX1_split 170 = .ok (.dup, 1) := dk_89 (dk_at dksX1_split_7 4 rfl rfl)
theorem dX1_split_171 : decode cX1_split 171 = .ok (.getfield 202, 3) := dk_180 0 202 (dk_at dksX1_split_7 5 rfl rfl)
theorem dX1_split_174 : decode cX1_split 174 = .ok (.dup_x1, 1) := dk_90 (dk_at dksX1_split_7 8 rfl rfl)
theorem dX1_split_175 : decode cX1_split 175 = .ok (.iconst 1, 1) := dk_4 (dk_at dksX1_split_7 9 rfl rfl)
theorem dX1_split_176 : decode cX1_split 176 = .ok (.iadd, 1) := dk_96 (dk_at dksX1_split_7 10 rfl rfl)
theorem dX1_split_177 : decode cX1_split 177 = .ok (.putfield 202, 3) := dk_181 0 202 (dk_at dksX1_split_7 11 rfl rfl)
theorem dX1_split_180 : decode cX1_split 180 = .ok (.iload_n 3, 1) := dk_29 (dk_at dksX1_split_7 14 rfl rfl)
theorem dX1_split_181 : decode cX1_split 181 = .ok (.iastore, 1) := dk_79 (dk_at dksX1_split_7 15 rfl rfl)
theorem dX1_split_182 : decode cX1_split 182 = .ok (.iinc 2 (-1), 3) := dk_132 2 255 (dk_at dksX1_split_7 16 rfl rfl)
theorem dX1_split_185 : decode cX1_split 185 = .ok (.goto (-114), 3) := dk_167 255 142 (dk_at dksX1_split_7 19 rfl rfl)
theorem dX1_split_188 : decode cX1_split 188 = .ok (.iinc 1 1, 3) := dk_132 1 1 (dk_at dksX1_split_8 0 rfl rfl)
theorem dX1_split_191 : decode cX1_split 191 = .ok (.goto (-137), 3) := dk_167 255 119 (dk_at dksX1_split_8 3 rfl rfl)
theorem dX1_split_194 : decode cX1_split 194 = .ok (.iconst 0, 1) := dk_3 (dk_at dksX1_split_8 6 rfl rfl)
theorem dX1_split_195 : decode cX1_split 195 = .ok (.istore_n 1, 1) := dk_60 (dk_at dksX1_split_8 7 rfl rfl)
theorem dX1_split_196 : decode cX1_split 196 = .ok (.iload_n 1, 1) := dk_27 (dk_at dksX1_split_8 8 rfl rfl)
theorem dX1_split_197 : decode cX1_split 197 = .ok (.aload_n 0, 1) := dk_42 (dk_at dksX1_split_8 9 rfl rfl)
theorem dX1_split_198 : decode cX1_split 198 = .ok (.getfield 138, 3) := dk_180 0 138 (dk_at dksX1_split_8 10 rfl rfl)
theorem dX1_split_201 : decode cX1_split 201 = .ok (.if_icmp .ge 23, 3) := dk_162 0 23 (dk_at dksX1_split_8 13 rfl rfl)
theorem dX1_split_204 : decode cX1_split 204 = .ok (.aload_n 0, 1) := dk_42 (dk_at dksX1_split_8 16 rfl rfl)
theorem dX1_split_205 : decode cX1_split 205 = .ok (.getfield 97, 3) := dk_180 0 97 (dk_at dksX1_split_8 17 rfl rfl)
theorem dX1_split_208 : decode cX1_split 208 = .ok (.iload_n 1, 1) := dk_27 (dk_at dksX1_split_8 20 rfl rfl)
theorem dX1_split_209 : decode cX1_split 209 = .ok (.aload_n 0, 1) := dk_42 (dk_at dksX1_split_8 21 rfl rfl)
theorem dX1_split_210 : decode cX1_split 210 = .ok (.getfield 88, 3) := dk_180 0 88 (dk_at dksX1_split_9 0 rfl rfl)
theorem dX1_split_213 : decode cX1_split 213 = .ok (.iload_n 1, 1) := dk_27 (dk_at dksX1_split_9 3 rfl rfl)
theorem dX1_split_214 : decode cX1_split 214 = .ok (.aaload, 1) := dk_50 (dk_at dksX1_split_9 4 rfl rfl)
theorem dX1_split_215 : decode cX1_split 215 = .ok (.iload_n 1, 1) := dk_27 (dk_at dksX1_split_9 5 rfl rfl)
theorem dX1_split_216 : decode cX1_split 216 = .ok (.iaload, 1) := dk_46 (dk_at dksX1_split_9 6 rfl rfl)
theorem dX1_split_217 : decode cX1_split 217 = .ok (.iastore, 1) := dk_79 (dk_at dksX1_split_9 7 rfl rfl)
theorem dX1_split_218 : decode cX1_split 218 = .ok (.iinc 1 1, 3) := dk_132 1 1 (dk_at dksX1_split_9 8 rfl rfl)
theorem dX1_split_221 : decode cX1_split 221 = .ok (.goto (-25), 3) := dk_167 255 231 (dk_at dksX1_split_9 11 rfl rfl)
theorem dX1_split_224 : decode cX1_split 224 = .ok (.aload_n 0, 1) := dk_42 (dk_at dksX1_split_9 14 rfl rfl)
theorem dX1_split_225 : decode cX1_split 225 = .ok (.getfield 202, 3) := dk_180 0 202 (dk_at dksX1_split_9 15 rfl rfl)
theorem dX1_split_228 : decode cX1_split 228 = .ok (.ireturn, 1) := dk_172 (dk_at dksX1_split_9 18 rfl rfl)
abbrev cX1_turnFor : ByteArray := prog_1_method_20_code
def yX1_turnFor : MethodName := ⟨RX1, "turnFor", "(II)I"⟩
def dkwX1_turnFor_1 : List UInt8 := [133, 28, 133, 105, 97, 184, 0, 21, 154, 0, 5, 29, 172, 132, 3, 1, 167, 255, 218, 2, 172]
abbrev dktX1_turnFor_1 : List UInt8 := dkwX1_turnFor_1 ++ []
def dkwX1_turnFor_0 : List UInt8 := [3, 62, 29, 16, 96, 162, 0, 38, 42, 180, 0, 18, 29, 46, 133, 27, 133, 105, 42, 180, 0, 14, 29, 46]
abbrev dktX1_turnFor_0 : List UInt8 := dkwX1_turnFor_0 ++ dktX1_turnFor_1
theorem dksX1_turnFor_0 : cX1_turnFor.data.toList.drop 0 = dktX1_turnFor_0 := by decide +kernel
theorem dksX1_turnFor_1 : cX1_turnFor.data.toList.drop 24 = dktX1_turnFor_1 := dk_seg dksX1_turnFor_0 24 rfl rfl
theorem dX1_turnFor_0 : decode cX1_turnFor 0 = .ok (.iconst 0, 1) := dk_3 (dk_at dksX1_turnFor_0 0 rfl rfl)
theorem dX1_turnFor_1 : decode cX1_turnFor 1 = .ok (.istore_n 3, 1) := dk_62 (dk_at dksX1_turnFor_0 1 rfl rfl)
theorem dX1_turnFor_2 : decode cX1_turnFor 2 = .ok (.iload_n 3, 1) := dk_29 (dk_at dksX1_turnFor_0 2 rfl rfl)
theorem dX1_turnFor_3 : decode cX1_turnFor 3 = .ok (.bipush 96, 2) := dk_16 96 (dk_at dksX1_turnFor_0 3 rfl rfl)
theorem dX1_turnFor_5 : decode cX1_turnFor 5 = .ok (.if_icmp .ge 38, 3) := dk_162 0 38 (dk_at dksX1_turnFor_0 5 rfl rfl)
theorem dX1_turnFor_8 : decode cX1_turnFor 8 = .ok (.aload_n 0, 1) := dk_42 (dk_at dksX1_turnFor_0 8 rfl rfl)
theorem dX1_turnFor_9 : decode cX1_turnFor 9 = .ok (.getfield 18, 3) := dk_180 0 18 (dk_at dksX1_turnFor_0 9 rfl rfl)
theorem dX1_turnFor_12 : decode cX1_turnFor 12 = .ok (.iload_n 3, 1) := dk_29 (dk_at dksX1_turnFor_0 12 rfl rfl)
theorem dX1_turnFor_13 : decode cX1_turnFor 13 = .ok (.iaload, 1) := dk_46 (dk_at dksX1_turnFor_0 13 rfl rfl)
theorem dX1_turnFor_14 : decode cX1_turnFor 14 = .ok (.i2l, 1) := dk_133 (dk_at dksX1_turnFor_0 14 rfl rfl)
theorem dX1_turnFor_15 : decode cX1_turnFor 15 = .ok (.iload_n 1, 1) := dk_27 (dk_at dksX1_turnFor_0 15 rfl rfl)
theorem dX1_turnFor_16 : decode cX1_turnFor 16 = .ok (.i2l, 1) := dk_133 (dk_at dksX1_turnFor_0 16 rfl rfl)
theorem dX1_turnFor_17 : decode cX1_turnFor 17 = .ok (.lmul, 1) := dk_105 (dk_at dksX1_turnFor_0 17 rfl rfl)
theorem dX1_turnFor_18 : decode cX1_turnFor 18 = .ok (.aload_n 0, 1) := dk_42 (dk_at dksX1_turnFor_0 18 rfl rfl)
theorem dX1_turnFor_19 : decode cX1_turnFor 19 = .ok (.getfield 14, 3) := dk_180 0 14 (dk_at dksX1_turnFor_0 19 rfl rfl)
theorem dX1_turnFor_22 : decode cX1_turnFor 22 = .ok (.iload_n 3, 1) := dk_29 (dk_at dksX1_turnFor_0 22 rfl rfl)
theorem dX1_turnFor_23 : decode cX1_turnFor 23 = .ok (.iaload, 1) := dk_46 (dk_at dksX1_turnFor_0 23 rfl rfl)
theorem dX1_turnFor_24 : decode cX1_turnFor 24 = .ok (.i2l, 1) := dk_133 (dk_at dksX1_turnFor_1 0 rfl rfl)
theorem dX1_turnFor_25 : decode cX1_turnFor 25 = .ok (.iload_n 2, 1) := dk_28 (dk_at dksX1_turnFor_1 1 rfl rfl)
theorem dX1_turnFor_26 : decode cX1_turnFor 26 = .ok (.i2l, 1) := dk_133 (dk_at dksX1_turnFor_1 2 rfl rfl)
theorem dX1_turnFor_27 : decode cX1_turnFor 27 = .ok (.lmul, 1) := dk_105 (dk_at dksX1_turnFor_1 3 rfl rfl)
theorem dX1_turnFor_28 : decode cX1_turnFor 28 = .ok (.ladd, 1) := dk_97 (dk_at dksX1_turnFor_1 4 rfl rfl)
theorem dX1_turnFor_29 : decode cX1_turnFor 29 = .ok (.invokestatic 21, 3) := dk_184 0 21 (dk_at dksX1_turnFor_1 5 rfl rfl)
theorem dX1_turnFor_32 : decode cX1_turnFor 32 = .ok (.ifCond .ne 5, 3) := dk_154 0 5 (dk_at dksX1_turnFor_1 8 rfl rfl)
theorem dX1_turnFor_35 : decode cX1_turnFor 35 = .ok (.iload_n 3, 1) := dk_29 (dk_at dksX1_turnFor_1 11 rfl rfl)
theorem dX1_turnFor_36 : decode cX1_turnFor 36 = .ok (.ireturn, 1) := dk_172 (dk_at dksX1_turnFor_1 12 rfl rfl)
theorem dX1_turnFor_37 : decode cX1_turnFor 37 = .ok (.iinc 3 1, 3) := dk_132 3 1 (dk_at dksX1_turnFor_1 13 rfl rfl)
theorem dX1_turnFor_40 : decode cX1_turnFor 40 = .ok (.goto (-38), 3) := dk_167 255 218 (dk_at dksX1_turnFor_1 16 rfl rfl)
theorem dX1_turnFor_43 : decode cX1_turnFor 43 = .ok (.iconst (-1), 1) := dk_2 (dk_at dksX1_turnFor_1 19 rfl rfl)
theorem dX1_turnFor_44 : decode cX1_turnFor 44 = .ok (.ireturn, 1) := dk_172 (dk_at dksX1_turnFor_1 20 rfl rfl)
abbrev cX1_step : ByteArray := prog_1_method_22_code
def yX1_step : MethodName := ⟨RX1, "step", "(II)I"⟩
def dkwX1_step_3 : List UInt8 := [42, 180, 0, 91, 27, 46, 167, 0, 9, 42, 180, 0, 94, 27, 46, 172]
abbrev dktX1_step_3 : List UInt8 := dkwX1_step_3 ++ []
def dkwX1_step_2 : List UInt8 := [2, 172, 27, 3, 42, 180, 0, 202, 4, 100, 184, 0, 25, 154, 0, 7, 2, 167, 0, 22, 28, 154, 0, 12]
abbrev dktX1_step_2 : List UInt8 := dkwX1_step_2 ++ dktX1_step_3
def dkwX1_step_1 : List UInt8 := [27, 182, 0, 150, 153, 0, 20, 42, 180, 0, 205, 2, 160, 0, 12, 42, 180, 0, 97, 27, 46, 167, 0, 4]
abbrev dktX1_step_1 : List UInt8 := dkwX1_step_1 ++ dktX1_step_2
def dkwX1_step_0 : List UInt8 := [42, 180, 0, 198, 153, 0, 12, 28, 3, 5, 184, 0, 25, 154, 0, 5, 2, 172, 28, 5, 160, 0, 30, 42]
abbrev dktX1_step_0 : List UInt8 := dkwX1_step_0 ++ dktX1_step_1
theorem dksX1_step_0 : cX1_step.data.toList.drop 0 = dktX1_step_0 := by decide +kernel
theorem dksX1_step_1 : cX1_step.data.toList.drop 24 = dktX1_step_1 := dk_seg dksX1_step_0 24 rfl rfl
theorem dksX1_step_2 : cX1_step.data.toList.drop 48 = dktX1_step_2 := dk_seg dksX1_step_1 24 rfl rfl
theorem dksX1_step_3 : cX1_step.data.toList.drop 72 = dktX1_step_3 := dk_seg dksX1_step_2 24 rfl rfl
theorem dX1_step_0 : decode cX1_step 0 = .ok (.aload_n 0, 1) := dk_42 (dk_at dksX1_step_0 0 rfl rfl)
theorem dX1_step_1 : decode cX1_step 1 = .ok (.getfield 198, 3) := dk_180 0 198 (dk_at dksX1_step_0 1 rfl rfl)
theorem dX1_step_4 : decode cX1_step 4 = .ok (.ifCond .eq 12, 3) := dk_153 0 12 (dk_at dksX1_step_0 4 rfl rfl)
theorem dX1_step_7 : decode cX1_step 7 = .ok (.iload_n 2, 1) := dk_28 (dk_at dksX1_step_0 7 rfl rfl)
theorem dX1_step_8 : decode cX1_step 8 = .ok (.iconst 0, 1) := dk_3 (dk_at dksX1_step_0 8 rfl rfl)
theorem dX1_step_9 : decode cX1_step 9 = .ok (.iconst 2, 1) := dk_5 (dk_at dksX1_step_0 9 rfl rfl)
theorem dX1_step_10 : decode cX1_step 10 = .ok (.invokestatic 25, 3) := dk_184 0 25 (dk_at dksX1_step_0 10 rfl rfl)
theorem dX1_step_13 : decode cX1_step 13 = .ok (.ifCond .ne 5, 3) := dk_154 0 5 (dk_at dksX1_step_0 13 rfl rfl)
theorem dX1_step_16 : decode cX1_step 16 = .ok (.iconst (-1), 1) := dk_2 (dk_at dksX1_step_0 16 rfl rfl)
theorem dX1_step_17 : decode cX1_step 17 = .ok (.ireturn, 1) := dk_172 (dk_at dksX1_step_0 17 rfl rfl)
theorem dX1_step_18 : decode cX1_step 18 = .ok (.iload_n 2, 1) := dk_28 (dk_at dksX1_step_0 18 rfl rfl)
theorem dX1_step_19 : decode cX1_step 19 = .ok (.iconst 2, 1) := dk_5 (dk_at dksX1_step_0 19 rfl rfl)
theorem dX1_step_20 : decode cX1_step 20 = .ok (.if_icmp .ne 30, 3) := dk_160 0 30 (dk_at dksX1_step_0 20 rfl rfl)
theorem dX1_step_23 : decode cX1_step 23 = .ok (.aload_n 0, 1) := dk_42 (dk_at dksX1_step_0 23 rfl rfl)
theorem dX1_step_24 : decode cX1_step 24 = .ok (.iload_n 1, 1) := dk_27 (dk_at dksX1_step_1 0 rfl rfl)
theorem dX1_step_25 : decode cX1_step 25 = .ok (.invokevirtual 150, 3) := dk_182 0 150 (dk_at dksX1_step_1 1 rfl rfl)
theorem dX1_step_28 : decode cX1_step 28 = .ok (.ifCond .eq 20, 3) := dk_153 0 20 (dk_at dksX1_step_1 4 rfl rfl)
theorem dX1_step_31 : decode cX1_step 31 = .ok (.aload_n 0, 1) := dk_42 (dk_at dksX1_step_1 7 rfl rfl)
theorem dX1_step_32 : decode cX1_step 32 = .ok (.getfield 205, 3) := dk_180 0 205 (dk_at dksX1_step_1 8 rfl rfl)
theorem dX1_step_35 : decode cX1_step 35 = .ok (.iconst (-1), 1) := dk_2 (dk_at dksX1_step_1 11 rfl rfl)
theorem dX1_step_36 : decode cX1_step 36 = .ok (.if_icmp .ne 12, 3) := dk_160 0 12 (dk_at dksX1_step_1 12 rfl rfl)
theorem dX1_step_39 : decode cX1_step 39 = .ok (.aload_n 0, 1) := dk_42 (dk_at dksX1_step_1 15 rfl rfl)
theorem dX1_step_40 : decode cX1_step 40 = .ok (.getfield 97, 3) := dk_180 0 97 (dk_at dksX1_step_1 16 rfl rfl)
theorem dX1_step_43 : decode cX1_step 43 = .ok (.iload_n 1, 1) := dk_27 (dk_at dksX1_step_1 19 rfl rfl)
theorem dX1_step_44 : decode cX1_step 44 = .ok (.iaload, 1) := dk_46 (dk_at dksX1_step_1 20 rfl rfl)
theorem dX1_step_45 : decode cX1_step 45 = .ok (.goto 4, 3) := dk_167 0 4 (dk_at dksX1_step_1 21 rfl rfl)
theorem dX1_step_48 : decode cX1_step 48 = .ok (.iconst (-1), 1) := dk_2 (dk_at dksX1_step_2 0 rfl rfl)
theorem dX1_step_49 : decode cX1_step 49 = .ok (.ireturn, 1) := dk_172 (dk_at dksX1_step_2 1 rfl rfl)
theorem dX1_step_50 : decode cX1_step 50 = .ok (.iload_n 1, 1) := dk_27 (dk_at dksX1_step_2 2 rfl rfl)
theorem dX1_step_51 : decode cX1_step 51 = .ok (.iconst 0, 1) := dk_3 (dk_at dksX1_step_2 3 rfl rfl)
theorem dX1_step_52 : decode cX1_step 52 = .ok (.aload_n 0, 1) := dk_42 (dk_at dksX1_step_2 4 rfl rfl)
theorem dX1_step_53 : decode cX1_step 53 = .ok (.getfield 202, 3) := dk_180 0 202 (dk_at dksX1_step_2 5 rfl rfl)
theorem dX1_step_56 : decode cX1_step 56 = .ok (.iconst 1, 1) := dk_4 (dk_at dksX1_step_2 8 rfl rfl)
theorem dX1_step_57 : decode cX1_step 57 = .ok (.isub, 1) := dk_100 (dk_at dksX1_step_2 9 rfl rfl)
theorem dX1_step_58 : decode cX1_step 58 = .ok (.invokestatic 25, 3) := dk_184 0 25 (dk_at dksX1_step_2 10 rfl rfl)
theorem dX1_step_61 : decode cX1_step 61 = .ok (.ifCond .ne 7, 3) := dk_154 0 7 (dk_at dksX1_step_2 13 rfl rfl)
theorem dX1_step_64 : decode cX1_step 64 = .ok (.iconst (-1), 1) := dk_2 (dk_at dksX1_step_2 16 rfl rfl)
theorem dX1_step_65 : decode cX1_step 65 = .ok (.goto 22, 3) := dk_167 0 22 (dk_at dksX1_step_2 17 rfl rfl)
theorem dX1_step_68 : decode cX1_step 68 = .ok (.iload_n 2, 1) := dk_28 (dk_at dksX1_step_2 20 rfl rfl)
theorem dX1_step_69 : decode cX1_step 69 = .ok (.ifCond .ne 12, 3) := dk_154 0 12 (dk_at dksX1_step_2 21 rfl rfl)
theorem dX1_step_72 : decode cX1_step 72 = .ok (.aload_n 0, 1) := dk_42 (dk_at dksX1_step_3 0 rfl rfl)
theorem dX1_step_73 : decode cX1_step 73 = .ok (.getfield 91, 3) := dk_180 0 91 (dk_at dksX1_step_3 1 rfl rfl)
theorem dX1_step_76 : decode cX1_step 76 = .ok (.iload_n 1, 1) := dk_27 (dk_at dksX1_step_3 4 rfl rfl)
theorem dX1_step_77 : decode cX1_step 77 = .ok (.iaload, 1) := dk_46 (dk_at dksX1_step_3 5 rfl rfl)
theorem dX1_step_78 : decode cX1_step 78 = .ok (.goto 9, 3) := dk_167 0 9 (dk_at dksX1_step_3 6 rfl rfl)
theorem dX1_step_81 : decode cX1_step 81 = .ok (.aload_n 0, 1) := dk_42 (dk_at dksX1_step_3 9 rfl rfl)
theorem dX1_step_82 : decode cX1_step 82 = .ok (.getfield 94, 3) := dk_180 0 94 (dk_at dksX1_step_3 10 rfl rfl)
theorem dX1_step_85 : decode cX1_step 85 = .ok (.iload_n 1, 1) := dk_27 (dk_at dksX1_step_3 13 rfl rfl)
theorem dX1_step_86 : decode cX1_step 86 = .ok (.iaload, 1) := dk_46 (dk_at dksX1_step_3 14 rfl rfl)
theorem dX1_step_87 : decode cX1_step 87 = .ok (.ireturn, 1) := dk_172 (dk_at dksX1_step_3 15 rfl rfl)
abbrev cX1_undo : ByteArray := prog_1_method_23_code
def yX1_undo : MethodName := ⟨RX1, "undo", "()I"⟩
def dkwX1_undo_4 : List UInt8 := [16, 96, 42, 180, 0, 94, 28, 46, 100, 182, 0, 224, 132, 2, 255, 167, 255, 221, 42, 180, 0, 221, 172]
abbrev dktX1_undo_4 : List UInt8 := dkwX1_undo_4 ++ []
def dkwX1_undo_3 : List UInt8 := [4, 100, 61, 28, 155, 0, 37, 42, 180, 0, 94, 28, 46, 153, 0, 22, 42, 42, 180, 0, 91, 28, 46]
abbrev dktX1_undo_3 : List UInt8 := dkwX1_undo_3 ++ dktX1_undo_4
def dkwX1_undo_2 : List UInt8 := [132, 2, 1, 167, 255, 228, 27, 16, 10, 164, 0, 6, 16, 252, 172, 42, 3, 181, 0, 221, 42, 180, 0, 202]
abbrev dktX1_undo_2 : List UInt8 := dkwX1_undo_2 ++ dktX1_undo_3
def dkwX1_undo_1 : List UInt8 := [180, 0, 202, 162, 0, 26, 27, 42, 180, 0, 94, 28, 46, 154, 0, 7, 3, 167, 0, 4, 4, 96, 60]
abbrev dktX1_undo_1 : List UInt8 := dkwX1_undo_1 ++ dktX1_undo_2
def dkwX1_undo_0 : List UInt8 := [42, 180, 0, 198, 153, 0, 11, 42, 180, 0, 205, 2, 159, 0, 6, 16, 253, 172, 3, 60, 3, 61, 28, 42]
abbrev dktX1_undo_0 : List UInt8 := dkwX1_undo_0 ++ dktX1_undo_1
theorem dksX1_undo_0 : cX1_undo.data.toList.drop 0 = dktX1_undo_0 := by decide +kernel
theorem dksX1_undo_1 : cX1_undo.data.toList.drop 24 = dktX1_undo_1 := dk_seg dksX1_undo_0 24 rfl rfl
theorem dksX1_undo_2 : cX1_undo.data.toList.drop 47 = dktX1_undo_2 := dk_seg dksX1_undo_1 23 rfl rfl
theorem dksX1_undo_3 : cX1_undo.data.toList.drop 71 = dktX1_undo_3 := dk_seg dksX1_undo_2 24 rfl rfl
theorem dksX1_undo_4 : cX1_undo.data.toList.drop 94 = dktX1_undo_4 := dk_seg dksX1_undo_3 23 rfl rfl
theorem dX1_undo_0 : decode cX1_undo 0 = .ok (.aload_n 0, 1) := dk_42 (dk_at dksX1_undo_0 0 rfl rfl)
theorem dX1_undo_1 : decode cX1_undo 1 = .ok (.getfield 198, 3) := dk_180 0 198 (dk_at dksX1_undo_0 1 rfl rfl)
theorem dX1_undo_4 : decode cX1_undo 4 = .ok (.ifCond .eq 11, 3) := dk_153 0 11 (dk_at dksX1_undo_0 4 rfl rfl)
theorem dX1_undo_7 : decode cX1_undo 7 = .ok (.aload_n 0, 1) := dk_42 (dk_at dksX1_undo_0 7 rfl rfl)
theorem dX1_undo_8 : decode cX1_undo 8 = .ok (.getfield 205, 3) := dk_180 0 205 (dk_at dksX1_undo_0 8 rfl rfl)
theorem dX1_undo_11 : decode cX1_undo 11 = .ok (.iconst (-1), 1) := dk_2 (dk_at dksX1_undo_0 11 rfl rfl)
theorem dX1_undo_12 : decode cX1_undo 12 = .ok (.if_icmp .eq 6, 3) := dk_159 0 6 (dk_at dksX1_undo_0 12 rfl rfl)
theorem dX1_undo_15 : decode cX1_undo 15 = .ok (.bipush (-3), 2) := dk_16 253 (dk_at dksX1_undo_0 15 rfl rfl)
theorem dX1_undo_17 : decode cX1_undo 17 = .ok (.ireturn, 1) := dk_172 (dk_at dksX1_undo_0 17 rfl rfl)
theorem dX1_undo_18 : decode cX1_undo 18 = .ok (.iconst 0, 1) := dk_3 (dk_at dksX1_undo_0 18 rfl rfl)
theorem dX1_undo_19 : decode cX1_undo 19 = .ok (.istore_n 1, 1) := dk_60 (dk_at dksX1_undo_0 19 rfl rfl)
theorem dX1_undo_20 : decode cX1_undo 20 = .ok (.iconst 0, 1) := dk_3 (dk_at dksX1_undo_0 20 rfl rfl)
theorem dX1_undo_21 : decode cX1_undo 21 = .ok (.istore_n 2, 1) := dk_61 (dk_at dksX1_undo_0 21 rfl rfl)
theorem dX1_undo_22 : decode cX1_undo 22 = .ok (.iload_n 2, 1) := dk_28 (dk_at dksX1_undo_0 22 rfl rfl)
theorem dX1_undo_23 : decode cX1_undo 23 = .ok (.aload_n 0, 1) := dk_42 (dk_at dksX1_undo_0 23 rfl rfl)
theorem dX1_undo_24 : decode cX1_undo 24 = .ok (.getfield 202, 3) := dk_180 0 202 (dk_at dksX1_undo_1 0 rfl rfl)
theorem dX1_undo_27 : decode cX1_undo 27 = .ok (.if_icmp .ge 26, 3) := dk_162 0 26 (dk_at dksX1_undo_1 3 rfl rfl)
theorem dX1_undo_30 : decode cX1_undo 30 = .ok (.iload_n 1, 1) := dk_27 (dk_at dksX1_undo_1 6 rfl rfl)
theorem dX1_undo_31 : decode cX1_undo 31 = .ok (.aload_n 0, 1) := dk_42 (dk_at dksX1_undo_1 7 rfl rfl)
theorem dX1_undo_32 : decode cX1_undo 32 = .ok (.getfield 94, 3) := dk_180 0 94 (dk_at dksX1_undo_1 8 rfl rfl)
theorem dX1_undo_35 : decode cX1_undo 35 = .ok (.iload_n 2, 1) := dk_28 (dk_at dksX1_undo_1 11 rfl rfl)
theorem dX1_undo_36 : decode cX1_undo 36 = .ok (.iaload, 1) := dk_46 (dk_at dksX1_undo_1 12 rfl rfl)
theorem dX1_undo_37 : decode cX1_undo 37 = .ok (.ifCond .ne 7, 3) := dk_154 0 7 (dk_at dksX1_undo_1 13 rfl rfl)
theorem dX1_undo_40 : decode cX1_undo 40 = .ok (.iconst 0, 1) := dk_3 (dk_at dksX1_undo_1 16 rfl rfl)
theorem dX1_undo_41 : decode cX1_undo 41 = .ok (.goto 4, 3) := dk_167 0 4 (dk_at dksX1_undo_1 17 rfl rfl)
theorem dX1_undo_44 : decode cX1_undo 44 = .ok (.iconst 1, 1) := dk_4 (dk_at dksX1_undo_1 20 rfl rfl)
theorem dX1_undo_45 : decode cX1_undo 45 = .ok (.iadd, 1) := dk_96 (dk_at dksX1_undo_1 21 rfl rfl)
theorem dX1_undo_46 : decode cX1_undo 46 = .ok (.istore_n 1, 1) := dk_60 (dk_at dksX1_undo_1 22 rfl rfl)
theorem dX1_undo_47 : decode cX1_undo 47 = .ok (.iinc 2 1, 3) := dk_132 2 1 (dk_at dksX1_undo_2 0 rfl rfl)
theorem dX1_undo_50 : decode cX1_undo 50 = .ok (.goto (-28), 3) := dk_167 255 228 (dk_at dksX1_undo_2 3 rfl rfl)
theorem dX1_undo_53 : decode cX1_undo 53 = .ok (.iload_n 1, 1) := dk_27 (dk_at dksX1_undo_2 6 rfl rfl)
theorem dX1_undo_54 : decode cX1_undo 54 = .ok (.bipush 10, 2) := dk_16 10 (dk_at dksX1_undo_2 7 rfl rfl)
theorem dX1_undo_56 : decode cX1_undo 56 = .ok (.if_icmp .le 6, 3) := dk_164 0 6 (dk_at dksX1_undo_2 9 rfl rfl)
theorem dX1_undo_59 : decode cX1_undo 59 = .ok (.bipush (-4), 2) := dk_16 252 (dk_at dksX1_undo_2 12 rfl rfl)
theorem dX1_undo_61 : decode cX1_undo 61 = .ok (.ireturn, 1) := dk_172 (dk_at dksX1_undo_2 14 rfl rfl)
theorem dX1_undo_62 : decode cX1_undo 62 = .ok (.aload_n 0, 1) := dk_42 (dk_at dksX1_undo_2 15 rfl rfl)
theorem dX1_undo_63 : decode cX1_undo 63 = .ok (.iconst 0, 1) := dk_3 (dk_at dksX1_undo_2 16 rfl rfl)
theorem dX1_undo_64 : decode cX1_undo 64 = .ok (.putfield 221, 3) := dk_181 0 221 (dk_at dksX1_undo_2 17 rfl rfl)
theorem dX1_undo_67 : decode cX1_undo 67 = .ok (.aload_n 0, 1) := dk_42 (dk_at dksX1_undo_2 20 rfl rfl)
theorem dX1_undo_68 : decode cX1_undo 68 = .ok (.getfield 202, 3) := dk_180 0 202 (dk_at dksX1_undo_2 21 rfl rfl)
theorem dX1_undo_71 : decode cX1_undo 71 = .ok (.iconst 1, 1) := dk_4 (dk_at dksX1_undo_3 0 rfl rfl)
theorem dX1_undo_72 : decode cX1_undo 72 = .ok (.isub, 1) := dk_100 (dk_at dksX1_undo_3 1 rfl rfl)
theorem dX1_undo_73 : decode cX1_undo 73 = .ok (.istore_n 2, 1) := dk_61 (dk_at dksX1_undo_3 2 rfl rfl)
theorem dX1_undo_74 : decode cX1_undo 74 = .ok (.iload_n 2, 1) := dk_28 (dk_at dksX1_undo_3 3 rfl rfl)
theorem dX1_undo_75 : decode cX1_undo 75 = .ok (.ifCond .lt 37, 3) := dk_155 0 37 (dk_at dksX1_undo_3 4 rfl rfl)
theorem dX1_undo_78 : decode cX1_undo 78 = .ok (.aload_n 0, 1) := dk_42 (dk_at dksX1_undo_3 7 rfl rfl)
theorem dX1_undo_79 : decode cX1_undo 79 = .ok (.getfield 94, 3) := dk_180 0 94 (dk_at dksX1_undo_3 8 rfl rfl)
theorem dX1_undo_82 : decode cX1_undo 82 = .ok (.iload_n 2, 1) := dk_28 (dk_at dksX1_undo_3 11 rfl rfl)
theorem dX1_undo_83 : decode cX1_undo 83 = .ok (.iaload, 1) := dk_46 (dk_at dksX1_undo_3 12 rfl rfl)
theorem dX1_undo_84 : decode cX1_undo 84 = .ok (.ifCond .eq 22, 3) := dk_153 0 22 (dk_at dksX1_undo_3 13 rfl rfl)
theorem dX1_undo_87 : decode cX1_undo 87 = .ok (.aload_n 0, 1) := dk_42 (dk_at dksX1_undo_3 16 rfl rfl)
theorem dX1_undo_88 : decode cX1_undo 88 = .ok (.aload_n 0, 1) := dk_42 (dk_at dksX1_undo_3 17 rfl rfl)
theorem dX1_undo_89 : decode cX1_undo 89 = .ok (.getfield 91, 3) := dk_180 0 91 (dk_at dksX1_undo_3 18 rfl rfl)
theorem dX1_undo_92 : decode cX1_undo 92 = .ok (.iload_n 2, 1) := dk_28 (dk_at dksX1_undo_3 21 rfl rfl)
theorem dX1_undo_93 : decode cX1_undo 93 = .ok (.iaload, 1) := dk_46 (dk_at dksX1_undo_3 22 rfl rfl)
theorem dX1_undo_94 : decode cX1_undo 94 = .ok (.bipush 96, 2) := dk_16 96 (dk_at dksX1_undo_4 0 rfl rfl)
theorem dX1_undo_96 : decode cX1_undo 96 = .ok (.aload_n 0, 1) := dk_42 (dk_at dksX1_undo_4 2 rfl rfl)
theorem dX1_undo_97 : decode cX1_undo 97 = .ok (.getfield 94, 3) := dk_180 0 94 (dk_at dksX1_undo_4 3 rfl rfl)
theorem dX1_undo_100 : decode cX1_undo 100 = .ok (.iload_n 2, 1) := dk_28 (dk_at dksX1_undo_4 6 rfl rfl)
theorem dX1_undo_101 : decode cX1_undo 101 = .ok (.iaload, 1) := dk_46 (dk_at dksX1_undo_4 7 rfl rfl)
theorem dX1_undo_102 : decode cX1_undo 102 = .ok (.isub, 1) := dk_100 (dk_at dksX1_undo_4 8 rfl rfl)
theorem dX1_undo_103 : decode cX1_undo 103 = .ok (.invokevirtual 224, 3) := dk_182 0 224 (dk_at dksX1_undo_4 9 rfl rfl)
theorem dX1_undo_106 : decode cX1_undo 106 = .ok (.iinc 2 (-1), 3) := dk_132 2 255 (dk_at dksX1_undo_4 12 rfl rfl)
theorem dX1_undo_109 : decode cX1_undo 109 = .ok (.goto (-35), 3) := dk_167 255 221 (dk_at dksX1_undo_4 15 rfl rfl)
theorem dX1_undo_112 : decode cX1_undo 112 = .ok (.aload_n 0, 1) := dk_42 (dk_at dksX1_undo_4 18 rfl rfl)
theorem dX1_undo_113 : decode cX1_undo 113 = .ok (.getfield 221, 3) := dk_180 0 221 (dk_at dksX1_undo_4 19 rfl rfl)
theorem dX1_undo_116 : decode cX1_undo 116 = .ok (.ireturn, 1) := dk_172 (dk_at dksX1_undo_4 22 rfl rfl)
abbrev cX1_adds : ByteArray := prog_1_method_24_code
def yX1_adds : MethodName := ⟨RX1, "adds", "(II)V"⟩
def dkwX1_adds_1 : List UInt8 := [181, 0, 221, 28, 184, 0, 29, 79, 177]
abbrev dktX1_adds_1 : List UInt8 := dkwX1_adds_1 ++ []
def dkwX1_adds_0 : List UInt8 := [42, 180, 0, 100, 42, 180, 0, 221, 27, 79, 42, 180, 0, 103, 42, 89, 180, 0, 221, 90, 4, 96]
abbrev dktX1_adds_0 : List UInt8 := dkwX1_adds_0 ++ dktX1_adds_1
theorem dksX1_adds_0 : cX1_adds.data.toList.drop 0 = dktX1_adds_0 := by decide +kernel
theorem dksX1_adds_1 : cX1_adds.data.toList.drop 22 = dktX1_adds_1 := dk_seg dksX1_adds_0 22 rfl rfl
theorem dX1_adds_0 : decode cX1_adds 0 = .ok (.aload_n 0, 1) := dk_42 (dk_at dksX1_adds_0 0 rfl rfl)
theorem dX1_adds_1 : decode cX1_adds 1 = .ok (.getfield 100, 3) := dk_180 0 100 (dk_at dksX1_adds_0 1 rfl rfl)
theorem dX1_adds_4 : decode cX1_adds 4 = .ok (.aload_n 0, 1) := dk_42 (dk_at dksX1_adds_0 4 rfl rfl)
theorem dX1_adds_5 : decode cX1_adds 5 = .ok (.getfield 221, 3) := dk_180 0 221 (dk_at dksX1_adds_0 5 rfl rfl)
theorem dX1_adds_8 : decode cX1_adds 8 = .ok (.iload_n 1, 1) := dk_27 (dk_at dksX1_adds_0 8 rfl rfl)
theorem dX1_adds_9 : decode cX1_adds 9 = .ok (.iastore, 1) := dk_79 (dk_at dksX1_adds_0 9 rfl rfl)
theorem dX1_adds_10 : decode cX1_adds 10 = .ok (.aload_n 0, 1) := dk_42 (dk_at dksX1_adds_0 10 rfl rfl)
theorem dX1_adds_11 : decode cX1_adds 11 = .ok (.getfield 103, 3) := dk_180 0 103 (dk_at dksX1_adds_0 11 rfl rfl)
theorem dX1_adds_14 : decode cX1_adds 14 = .ok (.aload_n 0, 1) := dk_42 (dk_at dksX1_adds_0 14 rfl rfl)
theorem dX1_adds_15 : decode cX1_adds 15 = .ok (.dup, 1) := dk_89 (dk_at dksX1_adds_0 15 rfl rfl)
theorem dX1_adds_16 : decode cX1_adds 16 = .ok (.getfield 221, 3) := dk_180 0 221 (dk_at dksX1_adds_0 16 rfl rfl)
theorem dX1_adds_19 : decode cX1_adds 19 = .ok (.dup_x1, 1) := dk_90 (dk_at dksX1_adds_0 19 rfl rfl)
theorem dX1_adds_20 : decode cX1_adds 20 = .ok (.iconst 1, 1) := dk_4 (dk_at dksX1_adds_0 20 rfl rfl)
theorem dX1_adds_21 : decode cX1_adds 21 = .ok (.iadd, 1) := dk_96 (dk_at dksX1_adds_0 21 rfl rfl)
theorem dX1_adds_22 : decode cX1_adds 22 = .ok (.putfield 221, 3) := dk_181 0 221 (dk_at dksX1_adds_1 0 rfl rfl)
theorem dX1_adds_25 : decode cX1_adds 25 = .ok (.iload_n 2, 1) := dk_28 (dk_at dksX1_adds_1 3 rfl rfl)
theorem dX1_adds_26 : decode cX1_adds 26 = .ok (.invokestatic 29, 3) := dk_184 0 29 (dk_at dksX1_adds_1 4 rfl rfl)
theorem dX1_adds_29 : decode cX1_adds 29 = .ok (.iastore, 1) := dk_79 (dk_at dksX1_adds_1 7 rfl rfl)
theorem dX1_adds_30 : decode cX1_adds 30 = .ok (.return_, 1) := dk_177 (dk_at dksX1_adds_1 8 rfl rfl)
abbrev cX1_work : ByteArray := prog_1_method_25_code
def yX1_work : MethodName := ⟨RX1, "work", "(II)I"⟩
def dkwX1_work_1 : List UInt8 := [167, 0, 22, 28, 154, 0, 12, 42, 180, 0, 100, 27, 46, 167, 0, 9, 42, 180, 0, 103, 27, 46, 172]
abbrev dktX1_work_1 : List UInt8 := dkwX1_work_1 ++ []
def dkwX1_work_0 : List UInt8 := [27, 3, 42, 180, 0, 221, 4, 100, 184, 0, 25, 153, 0, 12, 28, 3, 4, 184, 0, 25, 154, 0, 7, 2]
abbrev dktX1_work_0 : List UInt8 := dkwX1_work_0 ++ dktX1_work_1
theorem dksX1_work_0 : cX1_work.data.toList.drop 0 = dktX1_work_0 := by decide +kernel
theorem dksX1_work_1 : cX1_work.data.toList.drop 24 = dktX1_work_1 := dk_seg dksX1_work_0 24 rfl rfl
theorem dX1_work_0 : decode cX1_work 0 = .ok (.iload_n 1, 1) := dk_27 (dk_at dksX1_work_0 0 rfl rfl)
theorem dX1_work_1 : decode cX1_work 1 = .ok (.iconst 0, 1) := dk_3 (dk_at dksX1_work_0 1 rfl rfl)
theorem dX1_work_2 : decode cX1_work 2 = .ok (.aload_n 0, 1) := dk_42 (dk_at dksX1_work_0 2 rfl rfl)
theorem dX1_work_3 : decode cX1_work 3 = .ok (.getfield 221, 3) := dk_180 0 221 (dk_at dksX1_work_0 3 rfl rfl)
theorem dX1_work_6 : decode cX1_work 6 = .ok (.iconst 1, 1) := dk_4 (dk_at dksX1_work_0 6 rfl rfl)
theorem dX1_work_7 : decode cX1_work 7 = .ok (.isub, 1) := dk_100 (dk_at dksX1_work_0 7 rfl rfl)
theorem dX1_work_8 : decode cX1_work 8 = .ok (.invokestatic 25, 3) := dk_184 0 25 (dk_at dksX1_work_0 8 rfl rfl)
theorem dX1_work_11 : decode cX1_work 11 = .ok (.ifCond .eq 12, 3) := dk_153 0 12 (dk_at dksX1_work_0 11 rfl rfl)
theorem dX1_work_14 : decode cX1_work 14 = .ok (.iload_n 2, 1) := dk_28 (dk_at dksX1_work_0 14 rfl rfl)
theorem dX1_work_15 : decode cX1_work 15 = .ok (.iconst 0, 1) := dk_3 (dk_at dksX1_work_0 15 rfl rfl)
theorem dX1_work_16 : decode cX1_work 16 = .ok (.iconst 1, 1) := dk_4 (dk_at dksX1_work_0 16 rfl rfl)
theorem dX1_work_17 : decode cX1_work 17 = .ok (.invokestatic 25, 3) := dk_184 0 25 (dk_at dksX1_work_0 17 rfl rfl)
theorem dX1_work_20 : decode cX1_work 20 = .ok (.ifCond .ne 7, 3) := dk_154 0 7 (dk_at dksX1_work_0 20 rfl rfl)
theorem dX1_work_23 : decode cX1_work 23 = .ok (.iconst (-1), 1) := dk_2 (dk_at dksX1_work_0 23 rfl rfl)
theorem dX1_work_24 : decode cX1_work 24 = .ok (.goto 22, 3) := dk_167 0 22 (dk_at dksX1_work_1 0 rfl rfl)
theorem dX1_work_27 : decode cX1_work 27 = .ok (.iload_n 2, 1) := dk_28 (dk_at dksX1_work_1 3 rfl rfl)
theorem dX1_work_28 : decode cX1_work 28 = .ok (.ifCond .ne 12, 3) := dk_154 0 12 (dk_at dksX1_work_1 4 rfl rfl)
theorem dX1_work_31 : decode cX1_work 31 = .ok (.aload_n 0, 1) := dk_42 (dk_at dksX1_work_1 7 rfl rfl)
theorem dX1_work_32 : decode cX1_work 32 = .ok (.getfield 100, 3) := dk_180 0 100 (dk_at dksX1_work_1 8 rfl rfl)
theorem dX1_work_35 : decode cX1_work 35 = .ok (.iload_n 1, 1) := dk_27 (dk_at dksX1_work_1 11 rfl rfl)
theorem dX1_work_36 : decode cX1_work 36 = .ok (.iaload, 1) := dk_46 (dk_at dksX1_work_1 12 rfl rfl)
theorem dX1_work_37 : decode cX1_work 37 = .ok (.goto 9, 3) := dk_167 0 9 (dk_at dksX1_work_1 13 rfl rfl)
theorem dX1_work_40 : decode cX1_work 40 = .ok (.aload_n 0, 1) := dk_42 (dk_at dksX1_work_1 16 rfl rfl)
theorem dX1_work_41 : decode cX1_work 41 = .ok (.getfield 103, 3) := dk_180 0 103 (dk_at dksX1_work_1 17 rfl rfl)
theorem dX1_work_44 : decode cX1_work 44 = .ok (.iload_n 1, 1) := dk_27 (dk_at dksX1_work_1 20 rfl rfl)
theorem dX1_work_45 : decode cX1_work 45 = .ok (.iaload, 1) := dk_46 (dk_at dksX1_work_1 21 rfl rfl)
theorem dX1_work_46 : decode cX1_work 46 = .ok (.ireturn, 1) := dk_172 (dk_at dksX1_work_1 22 rfl rfl)
abbrev cX1_lay : ByteArray := prog_1_method_32_code
def yX1_lay : MethodName := ⟨RX1, "lay", "()I"⟩
def dkwX1_lay_1 : List UInt8 := [27, 172, 132, 1, 1, 167, 255, 229, 16, 251, 172]
abbrev dktX1_lay_1 : List UInt8 := dkwX1_lay_1 ++ []
def dkwX1_lay_0 : List UInt8 := [3, 60, 27, 16, 12, 163, 0, 27, 42, 27, 182, 0, 254, 154, 0, 6, 167, 0, 10, 42, 27, 182, 1, 1]
abbrev dktX1_lay_0 : List UInt8 := dkwX1_lay_0 ++ dktX1_lay_1
theorem dksX1_lay_0 : cX1_lay.data.toList.drop 0 = dktX1_lay_0 := by decide +kernel
theorem dksX1_lay_1 : cX1_lay.data.toList.drop 24 = dktX1_lay_1 := dk_seg dksX1_lay_0 24 rfl rfl
theorem dX1_lay_0 : decode cX1_lay 0 = .ok (.iconst 0, 1) := dk_3 (dk_at dksX1_lay_0 0 rfl rfl)
theorem dX1_lay_1 : decode cX1_lay 1 = .ok (.istore_n 1, 1) := dk_60 (dk_at dksX1_lay_0 1 rfl rfl)
theorem dX1_lay_2 : decode cX1_lay 2 = .ok (.iload_n 1, 1) := dk_27 (dk_at dksX1_lay_0 2 rfl rfl)
theorem dX1_lay_3 : decode cX1_lay 3 = .ok (.bipush 12, 2) := dk_16 12 (dk_at dksX1_lay_0 3 rfl rfl)
theorem dX1_lay_5 : decode cX1_lay 5 = .ok (.if_icmp .gt 27, 3) := dk_163 0 27 (dk_at dksX1_lay_0 5 rfl rfl)
theorem dX1_lay_8 : decode cX1_lay 8 = .ok (.aload_n 0, 1) := dk_42 (dk_at dksX1_lay_0 8 rfl rfl)
theorem dX1_lay_9 : decode cX1_lay 9 = .ok (.iload_n 1, 1) := dk_27 (dk_at dksX1_lay_0 9 rfl rfl)
theorem dX1_lay_10 : decode cX1_lay 10 = .ok (.invokevirtual 254, 3) := dk_182 0 254 (dk_at dksX1_lay_0 10 rfl rfl)
theorem dX1_lay_13 : decode cX1_lay 13 = .ok (.ifCond .ne 6, 3) := dk_154 0 6 (dk_at dksX1_lay_0 13 rfl rfl)
theorem dX1_lay_16 : decode cX1_lay 16 = .ok (.goto 10, 3) := dk_167 0 10 (dk_at dksX1_lay_0 16 rfl rfl)
theorem dX1_lay_19 : decode cX1_lay 19 = .ok (.aload_n 0, 1) := dk_42 (dk_at dksX1_lay_0 19 rfl rfl)
theorem dX1_lay_20 : decode cX1_lay 20 = .ok (.iload_n 1, 1) := dk_27 (dk_at dksX1_lay_0 20 rfl rfl)
theorem dX1_lay_21 : decode cX1_lay 21 = .ok (.invokevirtual 257, 3) := dk_182 1 1 (dk_at dksX1_lay_0 21 rfl rfl)
theorem dX1_lay_24 : decode cX1_lay 24 = .ok (.iload_n 1, 1) := dk_27 (dk_at dksX1_lay_1 0 rfl rfl)
theorem dX1_lay_25 : decode cX1_lay 25 = .ok (.ireturn, 1) := dk_172 (dk_at dksX1_lay_1 1 rfl rfl)
theorem dX1_lay_26 : decode cX1_lay 26 = .ok (.iinc 1 1, 3) := dk_132 1 1 (dk_at dksX1_lay_1 2 rfl rfl)
theorem dX1_lay_29 : decode cX1_lay 29 = .ok (.goto (-27), 3) := dk_167 255 229 (dk_at dksX1_lay_1 5 rfl rfl)
theorem dX1_lay_32 : decode cX1_lay 32 = .ok (.bipush (-5), 2) := dk_16 251 (dk_at dksX1_lay_1 8 rfl rfl)
theorem dX1_lay_34 : decode cX1_lay 34 = .ok (.ireturn, 1) := dk_172 (dk_at dksX1_lay_1 10 rfl rfl)
abbrev cX1_fits : ByteArray := prog_1_method_30_code
def yX1_fits : MethodName := ⟨RX1, "fits", "(I)Z"⟩
def dkwX1_fits_6 : List UInt8 := [167, 255, 222, 132, 3, 255, 167, 255, 209, 42, 180, 0, 108, 3, 50, 3, 51, 172]
abbrev dktX1_fits_6 : List UInt8 := dkwX1_fits_6 ++ []
def dkwX1_fits_5 : List UInt8 := [29, 50, 21, 4, 42, 29, 21, 4, 182, 0, 251, 2, 159, 0, 7, 4, 167, 0, 4, 3, 84, 132, 4, 1]
abbrev dktX1_fits_5 : List UInt8 := dkwX1_fits_5 ++ dktX1_fits_6
def dkwX1_fits_4 : List UInt8 := [167, 255, 230, 27, 4, 100, 62, 29, 155, 0, 49, 3, 54, 4, 21, 4, 28, 163, 0, 34, 42, 180, 0, 108]
abbrev dktX1_fits_4 : List UInt8 := dkwX1_fits_4 ++ dktX1_fits_5
def dkwX1_fits_3 : List UInt8 := [163, 0, 27, 42, 180, 0, 108, 27, 50, 29, 29, 28, 160, 0, 7, 4, 167, 0, 4, 3, 84, 132, 3, 1]
abbrev dktX1_fits_3 : List UInt8 := dkwX1_fits_3 ++ dktX1_fits_4
def dkwX1_fits_2 : List UInt8 := [167, 255, 222, 132, 2, 1, 167, 255, 206, 4, 42, 180, 0, 221, 120, 4, 100, 61, 3, 62, 29, 28]
abbrev dktX1_fits_2 : List UInt8 := dkwX1_fits_2 ++ dktX1_fits_3
def dkwX1_fits_1 : List UInt8 := [180, 0, 143, 28, 42, 180, 0, 138, 104, 29, 96, 50, 180, 0, 171, 158, 0, 5, 3, 172, 132, 3, 2]
abbrev dktX1_fits_1 : List UInt8 := dkwX1_fits_1 ++ dktX1_fits_2
def dkwX1_fits_0 : List UInt8 := [27, 61, 28, 16, 12, 162, 0, 50, 28, 5, 112, 62, 29, 42, 180, 0, 138, 4, 100, 162, 0, 30, 42]
abbrev dktX1_fits_0 : List UInt8 := dkwX1_fits_0 ++ dktX1_fits_1
theorem dksX1_fits_0 : cX1_fits.data.toList.drop 0 = dktX1_fits_0 := by decide +kernel
theorem dksX1_fits_1 : cX1_fits.data.toList.drop 23 = dktX1_fits_1 := dk_seg dksX1_fits_0 23 rfl rfl
theorem dksX1_fits_2 : cX1_fits.data.toList.drop 46 = dktX1_fits_2 := dk_seg dksX1_fits_1 23 rfl rfl
theorem dksX1_fits_3 : cX1_fits.data.toList.drop 68 = dktX1_fits_3 := dk_seg dksX1_fits_2 22 rfl rfl
theorem dksX1_fits_4 : cX1_fits.data.toList.drop 92 = dktX1_fits_4 := dk_seg dksX1_fits_3 24 rfl rfl
theorem dksX1_fits_5 : cX1_fits.data.toList.drop 116 = dktX1_fits_5 := dk_seg dksX1_fits_4 24 rfl rfl
theorem dksX1_fits_6 : cX1_fits.data.toList.drop 140 = dktX1_fits_6 := dk_seg dksX1_fits_5 24 rfl rfl
theorem dX1_fits_0 : decode cX1_fits 0 = .ok (.iload_n 1, 1) := dk_27 (dk_at dksX1_fits_0 0 rfl rfl)
theorem dX1_fits_1 : decode cX1_fits 1 = .ok (.istore_n 2, 1) := dk_61 (dk_at dksX1_fits_0 1 rfl rfl)
theorem dX1_fits_2 : decode cX1_fits 2 = .ok (.iload_n 2, 1) := dk_28 (dk_at dksX1_fits_0 2 rfl rfl)
theorem dX1_fits_3 : decode cX1_fits 3 = .ok (.bipush 12, 2) := dk_16 12 (dk_at dksX1_fits_0 3 rfl rfl)
theorem dX1_fits_5 : decode cX1_fits 5 = .ok (.if_icmp .ge 50, 3) := dk_162 0 50 (dk_at dksX1_fits_0 5 rfl rfl)
theorem dX1_fits_8 : decode cX1_fits 8 = .ok (.iload_n 2, 1) := dk_28 (dk_at dksX1_fits_0 8 rfl rfl)
theorem dX1_fits_9 : decode cX1_fits 9 = .ok (.iconst 2, 1) := dk_5 (dk_at dksX1_fits_0 9 rfl rfl)
theorem dX1_fits_10 : decode cX1_fits 10 = .ok (.irem, 1) := dk_112 (dk_at dksX1_fits_0 10 rfl rfl)
theorem dX1_fits_11 : decode cX1_fits 11 = .ok (.istore_n 3, 1) := dk_62 (dk_at dksX1_fits_0 11 rfl rfl)
theorem dX1_fits_12 : decode cX1_fits 12 = .ok (.iload_n 3, 1) := dk_29 (dk_at dksX1_fits_0 12 rfl rfl)
theorem dX1_fits_13 : decode cX1_fits 13 = .ok (.aload_n 0, 1) := dk_42 (dk_at dksX1_fits_0 13 rfl rfl)
theorem dX1_fits_14 : decode cX1_fits 14 = .ok (.getfield 138, 3) := dk_180 0 138 (dk_at dksX1_fits_0 14 rfl rfl)
theorem dX1_fits_17 : decode cX1_fits 17 = .ok (.iconst 1, 1) := dk_4 (dk_at dksX1_fits_0 17 rfl rfl)
theorem dX1_fits_18 : decode cX1_fits 18 = .ok (.isub, 1) := dk_100 (dk_at dksX1_fits_0 18 rfl rfl)
theorem dX1_fits_19 : decode cX1_fits 19 = .ok (.if_icmp .ge 30, 3) := dk_162 0 30 (dk_at dksX1_fits_0 19 rfl rfl)
theorem dX1_fits_22 : decode cX1_fits 22 = .ok (.aload_n 0, 1) := dk_42 (dk_at dksX1_fits_0 22 rfl rfl)
theorem dX1_fits_23 : decode cX1_fits 23 = .ok (.getfield 143, 3) := dk_180 0 143 (dk_at dksX1_fits_1 0 rfl rfl)
theorem dX1_fits_26 : decode cX1_fits 26 = .ok (.iload_n 2, 1) := dk_28 (dk_at dksX1_fits_1 3 rfl rfl)
theorem dX1_fits_27 : decode cX1_fits 27 = .ok (.aload_n 0, 1) := dk_42 (dk_at dksX1_fits_1 4 rfl rfl)
theorem dX1_fits_28 : decode cX1_fits 28 = .ok (.getfield 138, 3) := dk_180 0 138 (dk_at dksX1_fits_1 5 rfl rfl)
theorem dX1_fits_31 : decode cX1_fits 31 = .ok (.imul, 1) := dk_104 (dk_at dksX1_fits_1 8 rfl rfl)
theorem dX1_fits_32 : decode cX1_fits 32 = .ok (.iload_n 3, 1) := dk_29 (dk_at dksX1_fits_1 9 rfl rfl)
theorem dX1_fits_33 : decode cX1_fits 33 = .ok (.iadd, 1) := dk_96 (dk_at dksX1_fits_1 10 rfl rfl)
theorem dX1_fits_34 : decode cX1_fits 34 = .ok (.aaload, 1) := dk_50 (dk_at dksX1_fits_1 11 rfl rfl)
theorem dX1_fits_35 : decode cX1_fits 35 = .ok (.getfield 171, 3) := dk_180 0 171 (dk_at dksX1_fits_1 12 rfl rfl)
theorem dX1_fits_38 : decode cX1_fits 38 = .ok (.ifCond .le 5, 3) := dk_158 0 5 (dk_at dksX1_fits_1 15 rfl rfl)
theorem dX1_fits_41 : decode cX1_fits 41 = .ok (.iconst 0, 1) := dk_3 (dk_at dksX1_fits_1 18 rfl rfl)
theorem dX1_fits_42 : decode cX1_fits 42 = .ok (.ireturn, 1) := dk_172 (dk_at dksX1_fits_1 19 rfl rfl)
theorem dX1_fits_43 : decode cX1_fits 43 = .ok (.iinc 3 2, 3) := dk_132 3 2 (dk_at dksX1_fits_1 20 rfl rfl)
theorem dX1_fits_46 : decode cX1_fits 46 = .ok (.goto (-34), 3) := dk_167 255 222 (dk_at dksX1_fits_2 0 rfl rfl)
theorem dX1_fits_49 : decode cX1_fits 49 = .ok (.iinc 2 1, 3) := dk_132 2 1 (dk_at dksX1_fits_2 3 rfl rfl)
theorem dX1_fits_52 : decode cX1_fits 52 = .ok (.goto (-50), 3) := dk_167 255 206 (dk_at dksX1_fits_2 6 rfl rfl)
theorem dX1_fits_55 : decode cX1_fits 55 = .ok (.iconst 1, 1) := dk_4 (dk_at dksX1_fits_2 9 rfl rfl)
theorem dX1_fits_56 : decode cX1_fits 56 = .ok (.aload_n 0, 1) := dk_42 (dk_at dksX1_fits_2 10 rfl rfl)
theorem dX1_fits_57 : decode cX1_fits 57 = .ok (.getfield 221, 3) := dk_180 0 221 (dk_at dksX1_fits_2 11 rfl rfl)
theorem dX1_fits_60 : decode cX1_fits 60 = .ok (.ishl, 1) := dk_120 (dk_at dksX1_fits_2 14 rfl rfl)
theorem dX1_fits_61 : decode cX1_fits 61 = .ok (.iconst 1, 1) := dk_4 (dk_at dksX1_fits_2 15 rfl rfl)
theorem dX1_fits_62 : decode cX1_fits 62 = .ok (.isub, 1) := dk_100 (dk_at dksX1_fits_2 16 rfl rfl)
theorem dX1_fits_63 : decode cX1_fits 63 = .ok (.istore_n 2, 1) := dk_61 (dk_at dksX1_fits_2 17 rfl rfl)
theorem dX1_fits_64 : decode cX1_fits 64 = .ok (.iconst 0, 1) := dk_3 (dk_at dksX1_fits_2 18 rfl rfl)
theorem dX1_fits_65 : decode cX1_fits 65 = .ok (.istore_n 3, 1) := dk_62 (dk_at dksX1_fits_2 19 rfl rfl)
theorem dX1_fits_66 : decode cX1_fits 66 = .ok (.iload_n 3, 1) := dk_29 (dk_at dksX1_fits_2 20 rfl rfl)
theorem dX1_fits_67 : decode cX1_fits 67 = .ok (.iload_n 2, 1) := dk_28 (dk_at dksX1_fits_2 21 rfl rfl)
theorem dX1_fits_68 : decode cX1_fits 68 = .ok (.if_icmp .gt 27, 3) := dk_163 0 27 (dk_at dksX1_fits_3 0 rfl rfl)
theorem dX1_fits_71 : decode cX1_fits 71 = .ok (.aload_n 0, 1) := dk_42 (dk_at dksX1_fits_3 3 rfl rfl)
theorem dX1_fits_72 : decode cX1_fits 72 = .ok (.getfield 108, 3) := dk_180 0 108 (dk_at dksX1_fits_3 4 rfl rfl)
theorem dX1_fits_75 : decode cX1_fits 75 = .ok (.iload_n 1, 1) := dk_27 (dk_at dksX1_fits_3 7 rfl rfl)
theorem dX1_fits_76 : decode cX1_fits 76 = .ok (.aaload, 1) := dk_50 (dk_at dksX1_fits_3 8 rfl rfl)
theorem dX1_fits_77 : decode cX1_fits 77 = .ok (.iload_n 3, 1) := dk_29 (dk_at dksX1_fits_3 9 rfl rfl)
theorem dX1_fits_78 : decode cX1_fits 78 = .ok (.iload_n 3, 1) := dk_29 (dk_at dksX1_fits_3 10 rfl rfl)
theorem dX1_fits_79 : decode cX1_fits 79 = .ok (.iload_n 2, 1) := dk_28 (dk_at dksX1_fits_3 11 rfl rfl)
theorem dX1_fits_80 : decode cX1_fits 80 = .ok (.if_icmp .ne 7, 3) := dk_160 0 7 (dk_at dksX1_fits_3 12 rfl rfl)
theorem dX1_fits_83 : decode cX1_fits 83 = .ok (.iconst 1, 1) := dk_4 (dk_at dksX1_fits_3 15 rfl rfl)
theorem dX1_fits_84 : decode cX1_fits 84 = .ok (.goto 4, 3) := dk_167 0 4 (dk_at dksX1_fits_3 16 rfl rfl)
theorem dX1_fits_87 : decode cX1_fits 87 = .ok (.iconst 0, 1) := dk_3 (dk_at dksX1_fits_3 19 rfl rfl)
theorem dX1_fits_88 : decode cX1_fits 88 = .ok (.bastore, 1) := dk_84 (dk_at dksX1_fits_3 20 rfl rfl)
theorem dX1_fits_89 : decode cX1_fits 89 = .ok (.iinc 3 1, 3) := dk_132 3 1 (dk_at dksX1_fits_3 21 rfl rfl)
theorem dX1_fits_92 : decode cX1_fits 92 = .ok (.goto (-26), 3) := dk_167 255 230 (dk_at dksX1_fits_4 0 rfl rfl)
theorem dX1_fits_95 : decode cX1_fits 95 = .ok (.iload_n 1, 1) := dk_27 (dk_at dksX1_fits_4 3 rfl rfl)
theorem dX1_fits_96 : decode cX1_fits 96 = .ok (.iconst 1, 1) := dk_4 (dk_at dksX1_fits_4 4 rfl rfl)
theorem dX1_fits_97 : decode cX1_fits 97 = .ok (.isub, 1) := dk_100 (dk_at dksX1_fits_4 5 rfl rfl)
theorem dX1_fits_98 : decode cX1_fits 98 = .ok (.istore_n 3, 1) := dk_62 (dk_at dksX1_fits_4 6 rfl rfl)
theorem dX1_fits_99 : decode cX1_fits 99 = .ok (.iload_n 3, 1) := dk_29 (dk_at dksX1_fits_4 7 rfl rfl)
theorem dX1_fits_100 : decode cX1_fits 100 = .ok (.ifCond .lt 49, 3) := dk_155 0 49 (dk_at dksX1_fits_4 8 rfl rfl)
theorem dX1_fits_103 : decode cX1_fits 103 = .ok (.iconst 0, 1) := dk_3 (dk_at dksX1_fits_4 11 rfl rfl)
theorem dX1_fits_104 : decode cX1_fits 104 = .ok (.istore 4, 2) := dk_54 4 (dk_at dksX1_fits_4 12 rfl rfl)
theorem dX1_fits_106 : decode cX1_fits 106 = .ok (.iload 4, 2) := dk_21 4 (dk_at dksX1_fits_4 14 rfl rfl)
theorem dX1_fits_108 : decode cX1_fits 108 = .ok (.iload_n 2, 1) := dk_28 (dk_at dksX1_fits_4 16 rfl rfl)
theorem dX1_fits_109 : decode cX1_fits 109 = .ok (.if_icmp .gt 34, 3) := dk_163 0 34 (dk_at dksX1_fits_4 17 rfl rfl)
theorem dX1_fits_112 : decode cX1_fits 112 = .ok (.aload_n 0, 1) := dk_42 (dk_at dksX1_fits_4 20 rfl rfl)
theorem dX1_fits_113 : decode cX1_fits 113 = .ok (.getfield 108, 3) := dk_180 0 108 (dk_at dksX1_fits_4 21 rfl rfl)
theorem dX1_fits_116 : decode cX1_fits 116 = .ok (.iload_n 3, 1) := dk_29 (dk_at dksX1_fits_5 0 rfl rfl)
theorem dX1_fits_117 : decode cX1_fits 117 = .ok (.aaload, 1) := dk_50 (dk_at dksX1_fits_5 1 rfl rfl)
theorem dX1_fits_118 : decode cX1_fits 118 = .ok (.iload 4, 2) := dk_21 4 (dk_at dksX1_fits_5 2 rfl rfl)
theorem dX1_fits_120 : decode cX1_fits 120 = .ok (.aload_n 0, 1) := dk_42 (dk_at dksX1_fits_5 4 rfl rfl)
theorem dX1_fits_121 : decode cX1_fits 121 = .ok (.iload_n 3, 1) := dk_29 (dk_at dksX1_fits_5 5 rfl rfl)
theorem dX1_fits_122 : decode cX1_fits 122 = .ok (.iload 4, 2) := dk_21 4 (dk_at dksX1_fits_5 6 rfl rfl)
theorem dX1_fits_124 : decode cX1_fits 124 = .ok (.invokevirtual 251, 3) := dk_182 0 251 (dk_at dksX1_fits_5 8 rfl rfl)
theorem dX1_fits_127 : decode cX1_fits 127 = .ok (.iconst (-1), 1) := dk_2 (dk_at dksX1_fits_5 11 rfl rfl)
theorem dX1_fits_128 : decode cX1_fits 128 = .ok (.if_icmp .eq 7, 3) := dk_159 0 7 (dk_at dksX1_fits_5 12 rfl rfl)
theorem dX1_fits_131 : decode cX1_fits 131 = .ok (.iconst 1, 1) := dk_4 (dk_at dksX1_fits_5 15 rfl rfl)
theorem dX1_fits_132 : decode cX1_fits 132 = .ok (.goto 4, 3) := dk_167 0 4 (dk_at dksX1_fits_5 16 rfl rfl)
theorem dX1_fits_135 : decode cX1_fits 135 = .ok (.iconst 0, 1) := dk_3 (dk_at dksX1_fits_5 19 rfl rfl)
theorem dX1_fits_136 : decode cX1_fits 136 = .ok (.bastore, 1) := dk_84 (dk_at dksX1_fits_5 20 rfl rfl)
theorem dX1_fits_137 : decode cX1_fits 137 = .ok (.iinc 4 1, 3) := dk_132 4 1 (dk_at dksX1_fits_5 21 rfl rfl)
theorem dX1_fits_140 : decode cX1_fits 140 = .ok (.goto (-34), 3) := dk_167 255 222 (dk_at dksX1_fits_6 0 rfl rfl)
theorem dX1_fits_143 : decode cX1_fits 143 = .ok (.iinc 3 (-1), 3) := dk_132 3 255 (dk_at dksX1_fits_6 3 rfl rfl)
theorem dX1_fits_146 : decode cX1_fits 146 = .ok (.goto (-47), 3) := dk_167 255 209 (dk_at dksX1_fits_6 6 rfl rfl)
theorem dX1_fits_149 : decode cX1_fits 149 = .ok (.aload_n 0, 1) := dk_42 (dk_at dksX1_fits_6 9 rfl rfl)
theorem dX1_fits_150 : decode cX1_fits 150 = .ok (.getfield 108, 3) := dk_180 0 108 (dk_at dksX1_fits_6 10 rfl rfl)
theorem dX1_fits_153 : decode cX1_fits 153 = .ok (.iconst 0, 1) := dk_3 (dk_at dksX1_fits_6 13 rfl rfl)
theorem dX1_fits_154 : decode cX1_fits 154 = .ok (.aaload, 1) := dk_50 (dk_at dksX1_fits_6 14 rfl rfl)
theorem dX1_fits_155 : decode cX1_fits 155 = .ok (.iconst 0, 1) := dk_3 (dk_at dksX1_fits_6 15 rfl rfl)
theorem dX1_fits_156 : decode cX1_fits 156 = .ok (.baload, 1) := dk_51 (dk_at dksX1_fits_6 16 rfl rfl)
theorem dX1_fits_157 : decode cX1_fits 157 = .ok (.ireturn, 1) := dk_172 (dk_at dksX1_fits_6 17 rfl rfl)
abbrev cX1_choose : ByteArray := prog_1_method_29_code
def yX1_choose : MethodName := ⟨RX1, "choose", "(II)I"⟩
def dkwX1_choose_3 : List UInt8 := [29, 126, 54, 5, 167, 255, 212]
abbrev dktX1_choose_3 : List UInt8 := dkwX1_choose_3 ++ []
def dkwX1_choose_2 : List UInt8 := [96, 50, 28, 21, 5, 128, 51, 153, 0, 6, 21, 5, 172, 21, 5, 154, 0, 5, 2, 172, 21, 5, 4, 100]
abbrev dktX1_choose_2 : List UInt8 := dkwX1_choose_2 ++ dktX1_choose_3
def dkwX1_choose_1 : List UInt8 := [180, 0, 241, 54, 4, 29, 54, 5, 21, 5, 21, 4, 126, 21, 4, 160, 0, 22, 42, 180, 0, 108, 27, 4]
abbrev dktX1_choose_1 : List UInt8 := dkwX1_choose_1 ++ dktX1_choose_2
def dkwX1_choose_0 : List UInt8 := [42, 27, 28, 182, 0, 248, 42, 180, 0, 241, 2, 160, 0, 5, 2, 172, 42, 180, 0, 238, 62, 42]
abbrev dktX1_choose_0 : List UInt8 := dkwX1_choose_0 ++ dktX1_choose_1
theorem dksX1_choose_0 : cX1_choose.data.toList.drop 0 = dktX1_choose_0 := by decide +kernel
theorem dksX1_choose_1 : cX1_choose.data.toList.drop 22 = dktX1_choose_1 := dk_seg dksX1_choose_0 22 rfl rfl
theorem dksX1_choose_2 : cX1_choose.data.toList.drop 46 = dktX1_choose_2 := dk_seg dksX1_choose_1 24 rfl rfl
theorem dksX1_choose_3 : cX1_choose.data.toList.drop 70 = dktX1_choose_3 := dk_seg dksX1_choose_2 24 rfl rfl
theorem dX1_choose_0 : decode cX1_choose 0 = .ok (.aload_n 0, 1) := dk_42 (dk_at dksX1_choose_0 0 rfl rfl)
theorem dX1_choose_1 : decode cX1_choose 1 = .ok (.iload_n 1, 1) := dk_27 (dk_at dksX1_choose_0 1 rfl rfl)
theorem dX1_choose_2 : decode cX1_choose 2 = .ok (.iload_n 2, 1) := dk_28 (dk_at dksX1_choose_0 2 rfl rfl)
theorem dX1_choose_3 : decode cX1_choose 3 = .ok (.invokevirtual 248, 3) := dk_182 0 248 (dk_at dksX1_choose_0 3 rfl rfl)
theorem dX1_choose_6 : decode cX1_choose 6 = .ok (.aload_n 0, 1) := dk_42 (dk_at dksX1_choose_0 6 rfl rfl)
theorem dX1_choose_7 : decode cX1_choose 7 = .ok (.getfield 241, 3) := dk_180 0 241 (dk_at dksX1_choose_0 7 rfl rfl)
theorem dX1_choose_10 : decode cX1_choose 10 = .ok (.iconst (-1), 1) := dk_2 (dk_at dksX1_choose_0 10 rfl rfl)
theorem dX1_choose_11 : decode cX1_choose 11 = .ok (.if_icmp .ne 5, 3) := dk_160 0 5 (dk_at dksX1_choose_0 11 rfl rfl)
theorem dX1_choose_14 : decode cX1_choose 14 = .ok (.iconst (-1), 1) := dk_2 (dk_at dksX1_choose_0 14 rfl rfl)
theorem dX1_choose_15 : decode cX1_choose 15 = .ok (.ireturn, 1) := dk_172 (dk_at dksX1_choose_0 15 rfl rfl)
theorem dX1_choose_16 : decode cX1_choose 16 = .ok (.aload_n 0, 1) := dk_42 (dk_at dksX1_choose_0 16 rfl rfl)
theorem dX1_choose_17 : decode cX1_choose 17 = .ok (.getfield 238, 3) := dk_180 0 238 (dk_at dksX1_choose_0 17 rfl rfl)
theorem dX1_choose_20 : decode cX1_choose 20 = .ok (.istore_n 3, 1) := dk_62 (dk_at dksX1_choose_0 20 rfl rfl)
theorem dX1_choose_21 : decode cX1_choose 21 = .ok (.aload_n 0, 1) := dk_42 (dk_at dksX1_choose_0 21 rfl rfl)
theorem dX1_choose_22 : decode cX1_choose 22 = .ok (.getfield 241, 3) := dk_180 0 241 (dk_at dksX1_choose_1 0 rfl rfl)
theorem dX1_choose_25 : decode cX1_choose 25 = .ok (.istore 4, 2) := dk_54 4 (dk_at dksX1_choose_1 3 rfl rfl)
theorem dX1_choose_27 : decode cX1_choose 27 = .ok (.iload_n 3, 1) := dk_29 (dk_at dksX1_choose_1 5 rfl rfl)
theorem dX1_choose_28 : decode cX1_choose 28 = .ok (.istore 5, 2) := dk_54 5 (dk_at dksX1_choose_1 6 rfl rfl)
theorem dX1_choose_30 : decode cX1_choose 30 = .ok (.iload 5, 2) := dk_21 5 (dk_at dksX1_choose_1 8 rfl rfl)
theorem dX1_choose_32 : decode cX1_choose 32 = .ok (.iload 4, 2) := dk_21 4 (dk_at dksX1_choose_1 10 rfl rfl)
theorem dX1_choose_34 : decode cX1_choose 34 = .ok (.iand, 1) := dk_126 (dk_at dksX1_choose_1 12 rfl rfl)
theorem dX1_choose_35 : decode cX1_choose 35 = .ok (.iload 4, 2) := dk_21 4 (dk_at dksX1_choose_1 13 rfl rfl)
theorem dX1_choose_37 : decode cX1_choose 37 = .ok (.if_icmp .ne 22, 3) := dk_160 0 22 (dk_at dksX1_choose_1 15 rfl rfl)
theorem dX1_choose_40 : decode cX1_choose 40 = .ok (.aload_n 0, 1) := dk_42 (dk_at dksX1_choose_1 18 rfl rfl)
theorem dX1_choose_41 : decode cX1_choose 41 = .ok (.getfield 108, 3) := dk_180 0 108 (dk_at dksX1_choose_1 19 rfl rfl)
theorem dX1_choose_44 : decode cX1_choose 44 = .ok (.iload_n 1, 1) := dk_27 (dk_at dksX1_choose_1 22 rfl rfl)
theorem dX1_choose_45 : decode cX1_choose 45 = .ok (.iconst 1, 1) := dk_4 (dk_at dksX1_choose_1 23 rfl rfl)
theorem dX1_choose_46 : decode cX1_choose 46 = .ok (.iadd, 1) := dk_96 (dk_at dksX1_choose_2 0 rfl rfl)
theorem dX1_choose_47 : decode cX1_choose 47 = .ok (.aaload, 1) := dk_50 (dk_at dksX1_choose_2 1 rfl rfl)
theorem dX1_choose_48 : decode cX1_choose 48 = .ok (.iload_n 2, 1) := dk_28 (dk_at dksX1_choose_2 2 rfl rfl)
theorem dX1_choose_49 : decode cX1_choose 49 = .ok (.iload 5, 2) := dk_21 5 (dk_at dksX1_choose_2 3 rfl rfl)
theorem dX1_choose_51 : decode cX1_choose 51 = .ok (.ior, 1) := dk_128 (dk_at dksX1_choose_2 5 rfl rfl)
theorem dX1_choose_52 : decode cX1_choose 52 = .ok (.baload, 1) := dk_51 (dk_at dksX1_choose_2 6 rfl rfl)
theorem dX1_choose_53 : decode cX1_choose 53 = .ok (.ifCond .eq 6, 3) := dk_153 0 6 (dk_at dksX1_choose_2 7 rfl rfl)
theorem dX1_choose_56 : decode cX1_choose 56 = .ok (.iload 5, 2) := dk_21 5 (dk_at dksX1_choose_2 10 rfl rfl)
theorem dX1_choose_58 : decode cX1_choose 58 = .ok (.ireturn, 1) := dk_172 (dk_at dksX1_choose_2 12 rfl rfl)
theorem dX1_choose_59 : decode cX1_choose 59 = .ok (.iload 5, 2) := dk_21 5 (dk_at dksX1_choose_2 13 rfl rfl)
theorem dX1_choose_61 : decode cX1_choose 61 = .ok (.ifCond .ne 5, 3) := dk_154 0 5 (dk_at dksX1_choose_2 15 rfl rfl)
theorem dX1_choose_64 : decode cX1_choose 64 = .ok (.iconst (-1), 1) := dk_2 (dk_at dksX1_choose_2 18 rfl rfl)
theorem dX1_choose_65 : decode cX1_choose 65 = .ok (.ireturn, 1) := dk_172 (dk_at dksX1_choose_2 19 rfl rfl)
theorem dX1_choose_66 : decode cX1_choose 66 = .ok (.iload 5, 2) := dk_21 5 (dk_at dksX1_choose_2 20 rfl rfl)
theorem dX1_choose_68 : decode cX1_choose 68 = .ok (.iconst 1, 1) := dk_4 (dk_at dksX1_choose_2 22 rfl rfl)
theorem dX1_choose_69 : decode cX1_choose 69 = .ok (.isub, 1) := dk_100 (dk_at dksX1_choose_2 23 rfl rfl)
theorem dX1_choose_70 : decode cX1_choose 70 = .ok (.iload_n 3, 1) := dk_29 (dk_at dksX1_choose_3 0 rfl rfl)
theorem dX1_choose_71 : decode cX1_choose 71 = .ok (.iand, 1) := dk_126 (dk_at dksX1_choose_3 1 rfl rfl)
theorem dX1_choose_72 : decode cX1_choose 72 = .ok (.istore 5, 2) := dk_54 5 (dk_at dksX1_choose_3 2 rfl rfl)
theorem dX1_choose_74 : decode cX1_choose 74 = .ok (.goto (-44), 3) := dk_167 255 212 (dk_at dksX1_choose_3 4 rfl rfl)
abbrev cX1_look : ByteArray := prog_1_method_28_code
def yX1_look : MethodName := ⟨RX1, "look", "(II)V"⟩
def dkwX1_look_5 : List UInt8 := [132, 3, 2, 167, 255, 149, 177]
abbrev dktX1_look_5 : List UInt8 := dkwX1_look_5 ++ []
def dkwX1_look_4 : List UInt8 := [180, 0, 241, 2, 160, 0, 7, 2, 167, 0, 12, 42, 180, 0, 241, 4, 21, 5, 120, 128, 181, 0, 241]
abbrev dktX1_look_4 : List UInt8 := dkwX1_look_4 ++ dktX1_look_5
def dkwX1_look_3 : List UInt8 := [25, 4, 182, 0, 167, 153, 0, 42, 25, 4, 180, 0, 171, 158, 0, 34, 42, 21, 5, 2, 159, 0, 11, 42]
abbrev dktX1_look_3 : List UInt8 := dkwX1_look_3 ++ dktX1_look_4
def dkwX1_look_2 : List UInt8 := [42, 89, 180, 0, 238, 21, 5, 2, 160, 0, 7, 3, 167, 0, 7, 4, 21, 5, 120, 128, 181, 0, 238]
abbrev dktX1_look_2 : List UInt8 := dkwX1_look_2 ++ dktX1_look_3
def dkwX1_look_1 : List UInt8 := [42, 180, 0, 143, 27, 42, 180, 0, 138, 104, 29, 96, 50, 58, 4, 42, 25, 4, 28, 182, 0, 244, 54, 5]
abbrev dktX1_look_1 : List UInt8 := dkwX1_look_1 ++ dktX1_look_2
def dkwX1_look_0 : List UInt8 := [42, 3, 181, 0, 238, 42, 3, 181, 0, 241, 27, 5, 112, 62, 29, 42, 180, 0, 138, 4, 100, 162, 0, 103]
abbrev dktX1_look_0 : List UInt8 := dkwX1_look_0 ++ dktX1_look_1
theorem dksX1_look_0 : cX1_look.data.toList.drop 0 = dktX1_look_0 := by decide +kernel
theorem dksX1_look_1 : cX1_look.data.toList.drop 24 = dktX1_look_1 := dk_seg dksX1_look_0 24 rfl rfl
theorem dksX1_look_2 : cX1_look.data.toList.drop 48 = dktX1_look_2 := dk_seg dksX1_look_1 24 rfl rfl
theorem dksX1_look_3 : cX1_look.data.toList.drop 71 = dktX1_look_3 := dk_seg dksX1_look_2 23 rfl rfl
theorem dksX1_look_4 : cX1_look.data.toList.drop 95 = dktX1_look_4 := dk_seg dksX1_look_3 24 rfl rfl
theorem dksX1_look_5 : cX1_look.data.toList.drop 118 = dktX1_look_5 := dk_seg dksX1_look_4 23 rfl rfl
theorem dX1_look_0 : decode cX1_look 0 = .ok (.aload_n 0, 1) := dk_42 (dk_at dksX1_look_0 0 rfl rfl)
theorem dX1_look_1 : decode cX1_look 1 = .ok (.iconst 0, 1) := dk_3 (dk_at dksX1_look_0 1 rfl rfl)
theorem dX1_look_2 : decode cX1_look 2 = .ok (.putfield 238, 3) := dk_181 0 238 (dk_at dksX1_look_0 2 rfl rfl)
theorem dX1_look_5 : decode cX1_look 5 = .ok (.aload_n 0, 1) := dk_42 (dk_at dksX1_look_0 5 rfl rfl)
theorem dX1_look_6 : decode cX1_look 6 = .ok (.iconst 0, 1) := dk_3 (dk_at dksX1_look_0 6 rfl rfl)
theorem dX1_look_7 : decode cX1_look 7 = .ok (.putfield 241, 3) := dk_181 0 241 (dk_at dksX1_look_0 7 rfl rfl)
theorem dX1_look_10 : decode cX1_look 10 = .ok (.iload_n 1, 1) := dk_27 (dk_at dksX1_look_0 10 rfl rfl)
theorem dX1_look_11 : decode cX1_look 11 = .ok (.iconst 2, 1) := dk_5 (dk_at dksX1_look_0 11 rfl rfl)
theorem dX1_look_12 : decode cX1_look 12 = .ok (.irem, 1) := dk_112 (dk_at dksX1_look_0 12 rfl rfl)
theorem dX1_look_13 : decode cX1_look 13 = .ok (.istore_n 3, 1) := dk_62 (dk_at dksX1_look_0 13 rfl rfl)
theorem dX1_look_14 : decode cX1_look 14 = .ok (.iload_n 3, 1) := dk_29 (dk_at dksX1_look_0 14 rfl rfl)
theorem dX1_look_15 : decode cX1_look 15 = .ok (.aload_n 0, 1) := dk_42 (dk_at dksX1_look_0 15 rfl rfl)
theorem dX1_look_16 : decode cX1_look 16 = .ok (.getfield 138, 3) := dk_180 0 138 (dk_at dksX1_look_0 16 rfl rfl)
theorem dX1_look_19 : decode cX1_look 19 = .ok (.iconst 1, 1) := dk_4 (dk_at dksX1_look_0 19 rfl rfl)
theorem dX1_look_20 : decode cX1_look 20 = .ok (.isub, 1) := dk_100 (dk_at dksX1_look_0 20 rfl rfl)
theorem dX1_look_21 : decode cX1_look 21 = .ok (.if_icmp .ge 103, 3) := dk_162 0 103 (dk_at dksX1_look_0 21 rfl rfl)
theorem dX1_look_24 : decode cX1_look 24 = .ok (.aload_n 0, 1) := dk_42 (dk_at dksX1_look_1 0 rfl rfl)
theorem dX1_look_25 : decode cX1_look 25 = .ok (.getfield 143, 3) := dk_180 0 143 (dk_at dksX1_look_1 1 rfl rfl)
theorem dX1_look_28 : decode cX1_look 28 = .ok (.iload_n 1, 1) := dk_27 (dk_at dksX1_look_1 4 rfl rfl)
theorem dX1_look_29 : decode cX1_look 29 = .ok (.aload_n 0, 1) := dk_42 (dk_at dksX1_look_1 5 rfl rfl)
theorem dX1_look_30 : decode cX1_look 30 = .ok (.getfield 138, 3) := dk_180 0 138 (dk_at dksX1_look_1 6 rfl rfl)
theorem dX1_look_33 : decode cX1_look 33 = .ok (.imul, 1) := dk_104 (dk_at dksX1_look_1 9 rfl rfl)
theorem dX1_look_34 : decode cX1_look 34 = .ok (.iload_n 3, 1) := dk_29 (dk_at dksX1_look_1 10 rfl rfl)
theorem dX1_look_35 : decode cX1_look 35 = .ok (.iadd, 1) := dk_96 (dk_at dksX1_look_1 11 rfl rfl)
theorem dX1_look_36 : decode cX1_look 36 = .ok (.aaload, 1) := dk_50 (dk_at dksX1_look_1 12 rfl rfl)
theorem dX1_look_37 : decode cX1_look 37 = .ok (.astore 4, 2) := dk_58 4 (dk_at dksX1_look_1 13 rfl rfl)
theorem dX1_look_39 : decode cX1_look 39 = .ok (.aload_n 0, 1) := dk_42 (dk_at dksX1_look_1 15 rfl rfl)
theorem dX1_look_40 : decode cX1_look 40 = .ok (.aload 4, 2) := dk_25 4 (dk_at dksX1_look_1 16 rfl rfl)
theorem dX1_look_42 : decode cX1_look 42 = .ok (.iload_n 2, 1) := dk_28 (dk_at dksX1_look_1 18 rfl rfl)
theorem dX1_look_43 : decode cX1_look 43 = .ok (.invokevirtual 244, 3) := dk_182 0 244 (dk_at dksX1_look_1 19 rfl rfl)
theorem dX1_look_46 : decode cX1_look 46 = .ok (.istore 5, 2) := dk_54 5 (dk_at dksX1_look_1 22 rfl rfl)
theorem dX1_look_48 : decode cX1_look 48 = .ok (.aload_n 0, 1) := dk_42 (dk_at dksX1_look_2 0 rfl rfl)
theorem dX1_look_49 : decode cX1_look 49 = .ok (.dup, 1) := dk_89 (dk_at dksX1_look_2 1 rfl rfl)
theorem dX1_look_50 : decode cX1_look 50 = .ok (.getfield 238, 3) := dk_180 0 238 (dk_at dksX1_look_2 2 rfl rfl)
theorem dX1_look_53 : decode cX1_look 53 = .ok (.iload 5, 2) := dk_21 5 (dk_at dksX1_look_2 5 rfl rfl)
theorem dX1_look_55 : decode cX1_look 55 = .ok (.iconst (-1), 1) := dk_2 (dk_at dksX1_look_2 7 rfl rfl)
theorem dX1_look_56 : decode cX1_look 56 = .ok (.if_icmp .ne 7, 3) := dk_160 0 7 (dk_at dksX1_look_2 8 rfl rfl)
theorem dX1_look_59 : decode cX1_look 59 = .ok (.iconst 0, 1) := dk_3 (dk_at dksX1_look_2 11 rfl rfl)
theorem dX1_look_60 : decode cX1_look 60 = .ok (.goto 7, 3) := dk_167 0 7 (dk_at dksX1_look_2 12 rfl rfl)
theorem dX1_look_63 : decode cX1_look 63 = .ok (.iconst 1, 1) := dk_4 (dk_at dksX1_look_2 15 rfl rfl)
theorem dX1_look_64 : decode cX1_look 64 = .ok (.iload 5, 2) := dk_21 5 (dk_at dksX1_look_2 16 rfl rfl)
theorem dX1_look_66 : decode cX1_look 66 = .ok (.ishl, 1) := dk_120 (dk_at dksX1_look_2 18 rfl rfl)
theorem dX1_look_67 : decode cX1_look 67 = .ok (.ior, 1) := dk_128 (dk_at dksX1_look_2 19 rfl rfl)
theorem dX1_look_68 : decode cX1_look 68 = .ok (.putfield 238, 3) := dk_181 0 238 (dk_at dksX1_look_2 20 rfl rfl)
theorem dX1_look_71 : decode cX1_look 71 = .ok (.aload 4, 2) := dk_25 4 (dk_at dksX1_look_3 0 rfl rfl)
theorem dX1_look_73 : decode cX1_look 73 = .ok (.invokevirtual 167, 3) := dk_182 0 167 (dk_at dksX1_look_3 2 rfl rfl)
theorem dX1_look_76 : decode cX1_look 76 = .ok (.ifCond .eq 42, 3) := dk_153 0 42 (dk_at dksX1_look_3 5 rfl rfl)
theorem dX1_look_79 : decode cX1_look 79 = .ok (.aload 4, 2) := dk_25 4 (dk_at dksX1_look_3 8 rfl rfl)
theorem dX1_look_81 : decode cX1_look 81 = .ok (.getfield 171, 3) := dk_180 0 171 (dk_at dksX1_look_3 10 rfl rfl)
theorem dX1_look_84 : decode cX1_look 84 = .ok (.ifCond .le 34, 3) := dk_158 0 34 (dk_at dksX1_look_3 13 rfl rfl)
theorem dX1_look_87 : decode cX1_look 87 = .ok (.aload_n 0, 1) := dk_42 (dk_at dksX1_look_3 16 rfl rfl)
theorem dX1_look_88 : decode cX1_look 88 = .ok (.iload 5, 2) := dk_21 5 (dk_at dksX1_look_3 17 rfl rfl)
theorem dX1_look_90 : decode cX1_look 90 = .ok (.iconst (-1), 1) := dk_2 (dk_at dksX1_look_3 19 rfl rfl)
theorem dX1_look_91 : decode cX1_look 91 = .ok (.if_icmp .eq 11, 3) := dk_159 0 11 (dk_at dksX1_look_3 20 rfl rfl)
theorem dX1_look_94 : decode cX1_look 94 = .ok (.aload_n 0, 1) := dk_42 (dk_at dksX1_look_3 23 rfl rfl)
theorem dX1_look_95 : decode cX1_look 95 = .ok (.getfield 241, 3) := dk_180 0 241 (dk_at dksX1_look_4 0 rfl rfl)
theorem dX1_look_98 : decode cX1_look 98 = .ok (.iconst (-1), 1) := dk_2 (dk_at dksX1_look_4 3 rfl rfl)
theorem dX1_look_99 : decode cX1_look 99 = .ok (.if_icmp .ne 7, 3) := dk_160 0 7 (dk_at dksX1_look_4 4 rfl rfl)
theorem dX1_look_102 : decode cX1_look 102 = .ok (.iconst (-1), 1) := dk_2 (dk_at dksX1_look_4 7 rfl rfl)
theorem dX1_look_103 : decode cX1_look 103 = .ok (.goto 12, 3) := dk_167 0 12 (dk_at dksX1_look_4 8 rfl rfl)
theorem dX1_look_106 : decode cX1_look 106 = .ok (.aload_n 0, 1) := dk_42 (dk_at dksX1_look_4 11 rfl rfl)
theorem dX1_look_107 : decode cX1_look 107 = .ok (.getfield 241, 3) := dk_180 0 241 (dk_at dksX1_look_4 12 rfl rfl)
theorem dX1_look_110 : decode cX1_look 110 = .ok (.iconst 1, 1) := dk_4 (dk_at dksX1_look_4 15 rfl rfl)
theorem dX1_look_111 : decode cX1_look 111 = .ok (.iload 5, 2) := dk_21 5 (dk_at dksX1_look_4 16 rfl rfl)
theorem dX1_look_113 : decode cX1_look 113 = .ok (.ishl, 1) := dk_120 (dk_at dksX1_look_4 18 rfl rfl)
theorem dX1_look_114 : decode cX1_look 114 = .ok (.ior, 1) := dk_128 (dk_at dksX1_look_4 19 rfl rfl)
theorem dX1_look_115 : decode cX1_look 115 = .ok (.putfield 241, 3) := dk_181 0 241 (dk_at dksX1_look_4 20 rfl rfl)
theorem dX1_look_118 : decode cX1_look 118 = .ok (.iinc 3 2, 3) := dk_132 3 2 (dk_at dksX1_look_5 0 rfl rfl)
theorem dX1_look_121 : decode cX1_look 121 = .ok (.goto (-107), 3) := dk_167 255 149 (dk_at dksX1_look_5 3 rfl rfl)
theorem dX1_look_124 : decode cX1_look 124 = .ok (.return_, 1) := dk_177 (dk_at dksX1_look_5 6 rfl rfl)
abbrev cX1_nextAt : ByteArray := prog_1_method_27_code
def yX1_nextAt : MethodName := ⟨RX1, "nextAt", "(LLightPlate$Cell;I)I"⟩
def dkwX1_nextAt_4 : List UInt8 := [172, 132, 3, 1, 167, 255, 158, 2, 172]
abbrev dktX1_nextAt_4 : List UInt8 := dkwX1_nextAt_4 ++ []
def dkwX1_nextAt_3 : List UInt8 := [182, 0, 167, 153, 0, 16, 43, 180, 0, 171, 42, 180, 0, 103, 29, 46, 160, 0, 7, 29, 167, 0, 4, 2]
abbrev dktX1_nextAt_3 : List UInt8 := dkwX1_nextAt_3 ++ dktX1_nextAt_4
def dkwX1_nextAt_2 : List UInt8 := [4, 126, 154, 0, 15, 42, 21, 4, 29, 182, 0, 234, 153, 0, 5, 2, 172, 132, 4, 1, 167, 255, 226, 43]
abbrev dktX1_nextAt_2 : List UInt8 := dkwX1_nextAt_2 ++ dktX1_nextAt_3
def dkwX1_nextAt_1 : List UInt8 := [46, 43, 180, 0, 231, 159, 0, 6, 167, 0, 65, 3, 54, 4, 21, 4, 29, 162, 0, 30, 28, 21, 4, 122]
abbrev dktX1_nextAt_1 : List UInt8 := dkwX1_nextAt_1 ++ dktX1_nextAt_2
def dkwX1_nextAt_0 : List UInt8 := [3, 62, 29, 42, 180, 0, 221, 162, 0, 96, 28, 29, 122, 4, 126, 4, 159, 0, 81, 42, 180, 0, 100, 29]
abbrev dktX1_nextAt_0 : List UInt8 := dkwX1_nextAt_0 ++ dktX1_nextAt_1
theorem dksX1_nextAt_0 : cX1_nextAt.data.toList.drop 0 = dktX1_nextAt_0 := by decide +kernel
theorem dksX1_nextAt_1 : cX1_nextAt.data.toList.drop 24 = dktX1_nextAt_1 := dk_seg dksX1_nextAt_0 24 rfl rfl
theorem dksX1_nextAt_2 : cX1_nextAt.data.toList.drop 48 = dktX1_nextAt_2 := dk_seg dksX1_nextAt_1 24 rfl rfl
theorem dksX1_nextAt_3 : cX1_nextAt.data.toList.drop 72 = dktX1_nextAt_3 := dk_seg dksX1_nextAt_2 24 rfl rfl
theorem dksX1_nextAt_4 : cX1_nextAt.data.toList.drop 96 = dktX1_nextAt_4 := dk_seg dksX1_nextAt_3 24 rfl rfl
theorem dX1_nextAt_0 : decode cX1_nextAt 0 = .ok (.iconst 0, 1) := dk_3 (dk_at dksX1_nextAt_0 0 rfl rfl)
theorem dX1_nextAt_1 : decode cX1_nextAt 1 = .ok (.istore_n 3, 1) := dk_62 (dk_at dksX1_nextAt_0 1 rfl rfl)
theorem dX1_nextAt_2 : decode cX1_nextAt 2 = .ok (.iload_n 3, 1) := dk_29 (dk_at dksX1_nextAt_0 2 rfl rfl)
theorem dX1_nextAt_3 : decode cX1_nextAt 3 = .ok (.aload_n 0, 1) := dk_42 (dk_at dksX1_nextAt_0 3 rfl rfl)
theorem dX1_nextAt_4 : decode cX1_nextAt 4 = .ok (.getfield 221, 3) := dk_180 0 221 (dk_at dksX1_nextAt_0 4 rfl rfl)
theorem dX1_nextAt_7 : decode cX1_nextAt 7 = .ok (.if_icmp .ge 96, 3) := dk_162 0 96 (dk_at dksX1_nextAt_0 7 rfl rfl)
theorem dX1_nextAt_10 : decode cX1_nextAt 10 = .ok (.iload_n 2, 1) := dk_28 (dk_at dksX1_nextAt_0 10 rfl rfl)
theorem dX1_nextAt_11 : decode cX1_nextAt 11 = .ok (.iload_n 3, 1) := dk_29 (dk_at dksX1_nextAt_0 11 rfl rfl)
theorem dX1_nextAt_12 : decode cX1_nextAt 12 = .ok (.ishr, 1) := dk_122 (dk_at dksX1_nextAt_0 12 rfl rfl)
theorem dX1_nextAt_13 : decode cX1_nextAt 13 = .ok (.iconst 1, 1) := dk_4 (dk_at dksX1_nextAt_0 13 rfl rfl)
theorem dX1_nextAt_14 : decode cX1_nextAt 14 = .ok (.iand, 1) := dk_126 (dk_at dksX1_nextAt_0 14 rfl rfl)
theorem dX1_nextAt_15 : decode cX1_nextAt 15 = .ok (.iconst 1, 1) := dk_4 (dk_at dksX1_nextAt_0 15 rfl rfl)
theorem dX1_nextAt_16 : decode cX1_nextAt 16 = .ok (.if_icmp .eq 81, 3) := dk_159 0 81 (dk_at dksX1_nextAt_0 16 rfl rfl)
theorem dX1_nextAt_19 : decode cX1_nextAt 19 = .ok (.aload_n 0, 1) := dk_42 (dk_at dksX1_nextAt_0 19 rfl rfl)
theorem dX1_nextAt_20 : decode cX1_nextAt 20 = .ok (.getfield 100, 3) := dk_180 0 100 (dk_at dksX1_nextAt_0 20 rfl rfl)
theorem dX1_nextAt_23 : decode cX1_nextAt 23 = .ok (.iload_n 3, 1) := dk_29 (dk_at dksX1_nextAt_0 23 rfl rfl)
theorem dX1_nextAt_24 : decode cX1_nextAt 24 = .ok (.iaload, 1) := dk_46 (dk_at dksX1_nextAt_1 0 rfl rfl)
theorem dX1_nextAt_25 : decode cX1_nextAt 25 = .ok (.aload_n 1, 1) := dk_43 (dk_at dksX1_nextAt_1 1 rfl rfl)
theorem dX1_nextAt_26 : decode cX1_nextAt 26 = .ok (.getfield 231, 3) := dk_180 0 231 (dk_at dksX1_nextAt_1 2 rfl rfl)
theorem dX1_nextAt_29 : decode cX1_nextAt 29 = .ok (.if_icmp .eq 6, 3) := dk_159 0 6 (dk_at dksX1_nextAt_1 5 rfl rfl)
theorem dX1_nextAt_32 : decode cX1_nextAt 32 = .ok (.goto 65, 3) := dk_167 0 65 (dk_at dksX1_nextAt_1 8 rfl rfl)
theorem dX1_nextAt_35 : decode cX1_nextAt 35 = .ok (.iconst 0, 1) := dk_3 (dk_at dksX1_nextAt_1 11 rfl rfl)
theorem dX1_nextAt_36 : decode cX1_nextAt 36 = .ok (.istore 4, 2) := dk_54 4 (dk_at dksX1_nextAt_1 12 rfl rfl)
theorem dX1_nextAt_38 : decode cX1_nextAt 38 = .ok (.iload 4, 2) := dk_21 4 (dk_at dksX1_nextAt_1 14 rfl rfl)
theorem dX1_nextAt_40 : decode cX1_nextAt 40 = .ok (.iload_n 3, 1) := dk_29 (dk_at dksX1_nextAt_1 16 rfl rfl)
theorem dX1_nextAt_41 : decode cX1_nextAt 41 = .ok (.if_icmp .ge 30, 3) := dk_162 0 30 (dk_at dksX1_nextAt_1 17 rfl rfl)
theorem dX1_nextAt_44 : decode cX1_nextAt 44 = .ok (.iload_n 2, 1) := dk_28 (dk_at dksX1_nextAt_1 20 rfl rfl)
theorem dX1_nextAt_45 : decode cX1_nextAt 45 = .ok (.iload 4, 2) := dk_21 4 (dk_at dksX1_nextAt_1 21 rfl rfl)
theorem dX1_nextAt_47 : decode cX1_nextAt 47 = .ok (.ishr, 1) := dk_122 (dk_at dksX1_nextAt_1 23 rfl rfl)
theorem dX1_nextAt_48 : decode cX1_nextAt 48 = .ok (.iconst 1, 1) := dk_4 (dk_at dksX1_nextAt_2 0 rfl rfl)
theorem dX1_nextAt_49 : decode cX1_nextAt 49 = .ok (.iand, 1) := dk_126 (dk_at dksX1_nextAt_2 1 rfl rfl)
theorem dX1_nextAt_50 : decode cX1_nextAt 50 = .ok (.ifCond .ne 15, 3) := dk_154 0 15 (dk_at dksX1_nextAt_2 2 rfl rfl)
theorem dX1_nextAt_53 : decode cX1_nextAt 53 = .ok (.aload_n 0, 1) := dk_42 (dk_at dksX1_nextAt_2 5 rfl rfl)
theorem dX1_nextAt_54 : decode cX1_nextAt 54 = .ok (.iload 4, 2) := dk_21 4 (dk_at dksX1_nextAt_2 6 rfl rfl)
theorem dX1_nextAt_56 : decode cX1_nextAt 56 = .ok (.iload_n 3, 1) := dk_29 (dk_at dksX1_nextAt_2 8 rfl rfl)
theorem dX1_nextAt_57 : decode cX1_nextAt 57 = .ok (.invokevirtual 234, 3) := dk_182 0 234 (dk_at dksX1_nextAt_2 9 rfl rfl)
theorem dX1_nextAt_60 : decode cX1_nextAt 60 = .ok (.ifCond .eq 5, 3) := dk_153 0 5 (dk_at dksX1_nextAt_2 12 rfl rfl)
theorem dX1_nextAt_63 : decode cX1_nextAt 63 = .ok (.iconst (-1), 1) := dk_2 (dk_at dksX1_nextAt_2 15 rfl rfl)
theorem dX1_nextAt_64 : decode cX1_nextAt 64 = .ok (.ireturn, 1) := dk_172 (dk_at dksX1_nextAt_2 16 rfl rfl)
theorem dX1_nextAt_65 : decode cX1_nextAt 65 = .ok (.iinc 4 1, 3) := dk_132 4 1 (dk_at dksX1_nextAt_2 17 rfl rfl)
theorem dX1_nextAt_68 : decode cX1_nextAt 68 = .ok (.goto (-30), 3) := dk_167 255 226 (dk_at dksX1_nextAt_2 20 rfl rfl)
theorem dX1_nextAt_71 : decode cX1_nextAt 71 = .ok (.aload_n 1, 1) := dk_43 (dk_at dksX1_nextAt_2 23 rfl rfl)
theorem dX1_nextAt_72 : decode cX1_nextAt 72 = .ok (.invokevirtual 167, 3) := dk_182 0 167 (dk_at dksX1_nextAt_3 0 rfl rfl)
theorem dX1_nextAt_75 : decode cX1_nextAt 75 = .ok (.ifCond .eq 16, 3) := dk_153 0 16 (dk_at dksX1_nextAt_3 3 rfl rfl)
theorem dX1_nextAt_78 : decode cX1_nextAt 78 = .ok (.aload_n 1, 1) := dk_43 (dk_at dksX1_nextAt_3 6 rfl rfl)
theorem dX1_nextAt_79 : decode cX1_nextAt 79 = .ok (.getfield 171, 3) := dk_180 0 171 (dk_at dksX1_nextAt_3 7 rfl rfl)
theorem dX1_nextAt_82 : decode cX1_nextAt 82 = .ok (.aload_n 0, 1) := dk_42 (dk_at dksX1_nextAt_3 10 rfl rfl)
theorem dX1_nextAt_83 : decode cX1_nextAt 83 = .ok (.getfield 103, 3) := dk_180 0 103 (dk_at dksX1_nextAt_3 11 rfl rfl)
theorem dX1_nextAt_86 : decode cX1_nextAt 86 = .ok (.iload_n 3, 1) := dk_29 (dk_at dksX1_nextAt_3 14 rfl rfl)
theorem dX1_nextAt_87 : decode cX1_nextAt 87 = .ok (.iaload, 1) := dk_46 (dk_at dksX1_nextAt_3 15 rfl rfl)
theorem dX1_nextAt_88 : decode cX1_nextAt 88 = .ok (.if_icmp .ne 7, 3) := dk_160 0 7 (dk_at dksX1_nextAt_3 16 rfl rfl)
theorem dX1_nextAt_91 : decode cX1_nextAt 91 = .ok (.iload_n 3, 1) := dk_29 (dk_at dksX1_nextAt_3 19 rfl rfl)
theorem dX1_nextAt_92 : decode cX1_nextAt 92 = .ok (.goto 4, 3) := dk_167 0 4 (dk_at dksX1_nextAt_3 20 rfl rfl)
theorem dX1_nextAt_95 : decode cX1_nextAt 95 = .ok (.iconst (-1), 1) := dk_2 (dk_at dksX1_nextAt_3 23 rfl rfl)
theorem dX1_nextAt_96 : decode cX1_nextAt 96 = .ok (.ireturn, 1) := dk_172 (dk_at dksX1_nextAt_4 0 rfl rfl)
theorem dX1_nextAt_97 : decode cX1_nextAt 97 = .ok (.iinc 3 1, 3) := dk_132 3 1 (dk_at dksX1_nextAt_4 1 rfl rfl)
theorem dX1_nextAt_100 : decode cX1_nextAt 100 = .ok (.goto (-98), 3) := dk_167 255 158 (dk_at dksX1_nextAt_4 4 rfl rfl)
theorem dX1_nextAt_103 : decode cX1_nextAt 103 = .ok (.iconst (-1), 1) := dk_2 (dk_at dksX1_nextAt_4 7 rfl rfl)
theorem dX1_nextAt_104 : decode cX1_nextAt 104 = .ok (.ireturn, 1) := dk_172 (dk_at dksX1_nextAt_4 8 rfl rfl)
abbrev cX1_areNear : ByteArray := prog_1_method_26_code
def yX1_areNear : MethodName := ⟨RX1, "areNear", "(II)Z"⟩
def dkwX1_areNear_1 : List UInt8 := [3, 172]
abbrev dktX1_areNear_1 : List UInt8 := dkwX1_areNear_1 ++ []
def dkwX1_areNear_0 : List UInt8 := [42, 180, 0, 100, 27, 46, 42, 180, 0, 100, 28, 46, 100, 184, 0, 228, 5, 162, 0, 7, 4, 167, 0, 4]
abbrev dktX1_areNear_0 : List UInt8 := dkwX1_areNear_0 ++ dktX1_areNear_1
theorem dksX1_areNear_0 : cX1_areNear.data.toList.drop 0 = dktX1_areNear_0 := by decide +kernel
theorem dksX1_areNear_1 : cX1_areNear.data.toList.drop 24 = dktX1_areNear_1 := dk_seg dksX1_areNear_0 24 rfl rfl
theorem dX1_areNear_0 : decode cX1_areNear 0 = .ok (.aload_n 0, 1) := dk_42 (dk_at dksX1_areNear_0 0 rfl rfl)
theorem dX1_areNear_1 : decode cX1_areNear 1 = .ok (.getfield 100, 3) := dk_180 0 100 (dk_at dksX1_areNear_0 1 rfl rfl)
theorem dX1_areNear_4 : decode cX1_areNear 4 = .ok (.iload_n 1, 1) := dk_27 (dk_at dksX1_areNear_0 4 rfl rfl)
theorem dX1_areNear_5 : decode cX1_areNear 5 = .ok (.iaload, 1) := dk_46 (dk_at dksX1_areNear_0 5 rfl rfl)
theorem dX1_areNear_6 : decode cX1_areNear 6 = .ok (.aload_n 0, 1) := dk_42 (dk_at dksX1_areNear_0 6 rfl rfl)
theorem dX1_areNear_7 : decode cX1_areNear 7 = .ok (.getfield 100, 3) := dk_180 0 100 (dk_at dksX1_areNear_0 7 rfl rfl)
theorem dX1_areNear_10 : decode cX1_areNear 10 = .ok (.iload_n 2, 1) := dk_28 (dk_at dksX1_areNear_0 10 rfl rfl)
theorem dX1_areNear_11 : decode cX1_areNear 11 = .ok (.iaload, 1) := dk_46 (dk_at dksX1_areNear_0 11 rfl rfl)
theorem dX1_areNear_12 : decode cX1_areNear 12 = .ok (.isub, 1) := dk_100 (dk_at dksX1_areNear_0 12 rfl rfl)
theorem dX1_areNear_13 : decode cX1_areNear 13 = .ok (.invokestatic 228, 3) := dk_184 0 228 (dk_at dksX1_areNear_0 13 rfl rfl)
theorem dX1_areNear_16 : decode cX1_areNear 16 = .ok (.iconst 2, 1) := dk_5 (dk_at dksX1_areNear_0 16 rfl rfl)
theorem dX1_areNear_17 : decode cX1_areNear 17 = .ok (.if_icmp .ge 7, 3) := dk_162 0 7 (dk_at dksX1_areNear_0 17 rfl rfl)
theorem dX1_areNear_20 : decode cX1_areNear 20 = .ok (.iconst 1, 1) := dk_4 (dk_at dksX1_areNear_0 20 rfl rfl)
theorem dX1_areNear_21 : decode cX1_areNear 21 = .ok (.goto 4, 3) := dk_167 0 4 (dk_at dksX1_areNear_0 21 rfl rfl)
theorem dX1_areNear_24 : decode cX1_areNear 24 = .ok (.iconst 0, 1) := dk_3 (dk_at dksX1_areNear_1 0 rfl rfl)
theorem dX1_areNear_25 : decode cX1_areNear 25 = .ok (.ireturn, 1) := dk_172 (dk_at dksX1_areNear_1 1 rfl rfl)
abbrev cX1_put : ByteArray := prog_1_method_31_code
def yX1_put : MethodName := ⟨RX1, "put", "(I)V"⟩
def dkwX1_put_6 : List UInt8 := [132, 5, 1, 167, 255, 184, 28, 21, 4, 128, 61, 132, 3, 1, 167, 255, 157, 177]
abbrev dktX1_put_6 : List UInt8 := dkwX1_put_6 ++ []
def dkwX1_put_5 : List UInt8 := [198, 0, 23, 25, 6, 182, 0, 167, 154, 0, 15, 25, 6, 42, 180, 0, 103, 21, 5, 46, 181, 0, 164]
abbrev dktX1_put_5 : List UInt8 := dkwX1_put_5 ++ dktX1_put_6
def dkwX1_put_4 : List UInt8 := [180, 0, 143, 29, 42, 180, 0, 138, 104, 42, 180, 0, 100, 21, 5, 46, 96, 50, 58, 6, 25, 6]
abbrev dktX1_put_4 : List UInt8 := dkwX1_put_4 ++ dktX1_put_5
def dkwX1_put_3 : List UInt8 := [21, 5, 42, 180, 0, 221, 162, 0, 69, 21, 4, 21, 5, 122, 4, 126, 154, 0, 7, 1, 167, 0, 22, 42]
abbrev dktX1_put_3 : List UInt8 := dkwX1_put_3 ++ dktX1_put_4
def dkwX1_put_2 : List UInt8 := [167, 255, 222, 3, 61, 3, 62, 29, 27, 162, 0, 100, 42, 29, 28, 182, 0, 251, 54, 4, 3, 54, 5]
abbrev dktX1_put_2 : List UInt8 := dkwX1_put_2 ++ dktX1_put_3
def dkwX1_put_1 : List UInt8 := [25, 5, 198, 0, 17, 25, 5, 182, 0, 167, 154, 0, 9, 25, 5, 3, 181, 0, 164, 132, 4, 1]
abbrev dktX1_put_1 : List UInt8 := dkwX1_put_1 ++ dktX1_put_2
def dkwX1_put_0 : List UInt8 := [42, 180, 0, 143, 77, 44, 190, 62, 3, 54, 4, 21, 4, 29, 162, 0, 34, 44, 21, 4, 50, 58, 5]
abbrev dktX1_put_0 : List UInt8 := dkwX1_put_0 ++ dktX1_put_1
theorem dksX1_put_0 : cX1_put.data.toList.drop 0 = dktX1_put_0 := by decide +kernel
theorem dksX1_put_1 : cX1_put.data.toList.drop 23 = dktX1_put_1 := dk_seg dksX1_put_0 23 rfl rfl
theorem dksX1_put_2 : cX1_put.data.toList.drop 45 = dktX1_put_2 := dk_seg dksX1_put_1 22 rfl rfl
theorem dksX1_put_3 : cX1_put.data.toList.drop 68 = dktX1_put_3 := dk_seg dksX1_put_2 23 rfl rfl
theorem dksX1_put_4 : cX1_put.data.toList.drop 92 = dktX1_put_4 := dk_seg dksX1_put_3 24 rfl rfl
theorem dksX1_put_5 : cX1_put.data.toList.drop 114 = dktX1_put_5 := dk_seg dksX1_put_4 22 rfl rfl
theorem dksX1_put_6 : cX1_put.data.toList.drop 137 = dktX1_put_6 := dk_seg dksX1_put_5 23 rfl rfl
theorem dX1_put_0 : decode cX1_put 0 = .ok (.aload_n 0, 1) := dk_42 (dk_at dksX1_put_0 0 rfl rfl)
theorem dX1_put_1 : decode cX1_put 1 = .ok (.getfield 143, 3) := dk_180 0 143 (dk_at dksX1_put_0 1 rfl rfl)
theorem dX1_put_4 : decode cX1_put 4 = .ok (.astore_n 2, 1) := dk_77 (dk_at dksX1_put_0 4 rfl rfl)
theorem dX1_put_5 : decode cX1_put 5 = .ok (.aload_n 2, 1) := dk_44 (dk_at dksX1_put_0 5 rfl rfl)
theorem dX1_put_6 : decode cX1_put 6 = .ok (.arraylength, 1) := dk_190 (dk_at dksX1_put_0 6 rfl rfl)
theorem dX1_put_7 : decode cX1_put 7 = .ok (.istore_n 3, 1) := dk_62 (dk_at dksX1_put_0 7 rfl rfl)
theorem dX1_put_8 : decode cX1_put 8 = .ok (.iconst 0, 1) := dk_3 (dk_at dksX1_put_0 8 rfl rfl)
theorem dX1_put_9 : decode cX1_put 9 = .ok (.istore 4, 2) := dk_54 4 (dk_at dksX1_put_0 9 rfl rfl)
theorem dX1_put_11 : decode cX1_put 11 = .ok (.iload 4, 2) := dk_21 4 (dk_at dksX1_put_0 11 rfl rfl)
theorem dX1_put_13 : decode cX1_put 13 = .ok (.iload_n 3, 1) := dk_29 (dk_at dksX1_put_0 13 rfl rfl)
theorem dX1_put_14 : decode cX1_put 14 = .ok (.if_icmp .ge 34, 3) := dk_162 0 34 (dk_at dksX1_put_0 14 rfl rfl)
theorem dX1_put_17 : decode cX1_put 17 = .ok (.aload_n 2, 1) := dk_44 (dk_at dksX1_put_0 17 rfl rfl)
theorem dX1_put_18 : decode cX1_put 18 = .ok (.iload 4, 2) := dk_21 4 (dk_at dksX1_put_0 18 rfl rfl)
theorem dX1_put_20 : decode cX1_put 20 = .ok (.aaload, 1) := dk_50 (dk_at dksX1_put_0 20 rfl rfl)
theorem dX1_put_21 : decode cX1_put 21 = .ok (.astore 5, 2) := dk_58 5 (dk_at dksX1_put_0 21 rfl rfl)
theorem dX1_put_23 : decode cX1_put 23 = .ok (.aload 5, 2) := dk_25 5 (dk_at dksX1_put_1 0 rfl rfl)
theorem dX1_put_25 : decode cX1_put 25 = .ok (.ifnull 17, 3) := dk_198 0 17 (dk_at dksX1_put_1 2 rfl rfl)
theorem dX1_put_28 : decode cX1_put 28 = .ok (.aload 5, 2) := dk_25 5 (dk_at dksX1_put_1 5 rfl rfl)
theorem dX1_put_30 : decode cX1_put 30 = .ok (.invokevirtual 167, 3) := dk_182 0 167 (dk_at dksX1_put_1 7 rfl rfl)
theorem dX1_put_33 : decode cX1_put 33 = .ok (.ifCond .ne 9, 3) := dk_154 0 9 (dk_at dksX1_put_1 10 rfl rfl)
theorem dX1_put_36 : decode cX1_put 36 = .ok (.aload 5, 2) := dk_25 5 (dk_at dksX1_put_1 13 rfl rfl)
theorem dX1_put_38 : decode cX1_put 38 = .ok (.iconst 0, 1) := dk_3 (dk_at dksX1_put_1 15 rfl rfl)
theorem dX1_put_39 : decode cX1_put 39 = .ok (.putfield 164, 3) := dk_181 0 164 (dk_at dksX1_put_1 16 rfl rfl)
theorem dX1_put_42 : decode cX1_put 42 = .ok (.iinc 4 1, 3) := dk_132 4 1 (dk_at dksX1_put_1 19 rfl rfl)
theorem dX1_put_45 : decode cX1_put 45 = .ok (.goto (-34), 3) := dk_167 255 222 (dk_at dksX1_put_2 0 rfl rfl)
theorem dX1_put_48 : decode cX1_put 48 = .ok (.iconst 0, 1) := dk_3 (dk_at dksX1_put_2 3 rfl rfl)
theorem dX1_put_49 : decode cX1_put 49 = .ok (.istore_n 2, 1) := dk_61 (dk_at dksX1_put_2 4 rfl rfl)
theorem dX1_put_50 : decode cX1_put 50 = .ok (.iconst 0, 1) := dk_3 (dk_at dksX1_put_2 5 rfl rfl)
theorem dX1_put_51 : decode cX1_put 51 = .ok (.istore_n 3, 1) := dk_62 (dk_at dksX1_put_2 6 rfl rfl)
theorem dX1_put_52 : decode cX1_put 52 = .ok (.iload_n 3, 1) := dk_29 (dk_at dksX1_put_2 7 rfl rfl)
theorem dX1_put_53 : decode cX1_put 53 = .ok (.iload_n 1, 1) := dk_27 (dk_at dksX1_put_2 8 rfl rfl)
theorem dX1_put_54 : decode cX1_put 54 = .ok (.if_icmp .ge 100, 3) := dk_162 0 100 (dk_at dksX1_put_2 9 rfl rfl)
theorem dX1_put_57 : decode cX1_put 57 = .ok (.aload_n 0, 1) := dk_42 (dk_at dksX1_put_2 12 rfl rfl)
theorem dX1_put_58 : decode cX1_put 58 = .ok (.iload_n 3, 1) := dk_29 (dk_at dksX1_put_2 13 rfl rfl)
theorem dX1_put_59 : decode cX1_put 59 = .ok (.iload_n 2, 1) := dk_28 (dk_at dksX1_put_2 14 rfl rfl)
theorem dX1_put_60 : decode cX1_put 60 = .ok (.invokevirtual 251, 3) := dk_182 0 251 (dk_at dksX1_put_2 15 rfl rfl)
theorem dX1_put_63 : decode cX1_put 63 = .ok (.istore 4, 2) := dk_54 4 (dk_at dksX1_put_2 18 rfl rfl)
theorem dX1_put_65 : decode cX1_put 65 = .ok (.iconst 0, 1) := dk_3 (dk_at dksX1_put_2 20 rfl rfl)
theorem dX1_put_66 : decode cX1_put 66 = .ok (.istore 5, 2) := dk_54 5 (dk_at dksX1_put_2 21 rfl rfl)
theorem dX1_put_68 : decode cX1_put 68 = .ok (.iload 5, 2) := dk_21 5 (dk_at dksX1_put_3 0 rfl rfl)
theorem dX1_put_70 : decode cX1_put 70 = .ok (.aload_n 0, 1) := dk_42 (dk_at dksX1_put_3 2 rfl rfl)
theorem dX1_put_71 : decode cX1_put 71 = .ok (.getfield 221, 3) := dk_180 0 221 (dk_at dksX1_put_3 3 rfl rfl)
theorem dX1_put_74 : decode cX1_put 74 = .ok (.if_icmp .ge 69, 3) := dk_162 0 69 (dk_at dksX1_put_3 6 rfl rfl)
theorem dX1_put_77 : decode cX1_put 77 = .ok (.iload 4, 2) := dk_21 4 (dk_at dksX1_put_3 9 rfl rfl)
theorem dX1_put_79 : decode cX1_put 79 = .ok (.iload 5, 2) := dk_21 5 (dk_at dksX1_put_3 11 rfl rfl)
theorem dX1_put_81 : decode cX1_put 81 = .ok (.ishr, 1) := dk_122 (dk_at dksX1_put_3 13 rfl rfl)
theorem dX1_put_82 : decode cX1_put 82 = .ok (.iconst 1, 1) := dk_4 (dk_at dksX1_put_3 14 rfl rfl)
theorem dX1_put_83 : decode cX1_put 83 = .ok (.iand, 1) := dk_126 (dk_at dksX1_put_3 15 rfl rfl)
theorem dX1_put_84 : decode cX1_put 84 = .ok (.ifCond .ne 7, 3) := dk_154 0 7 (dk_at dksX1_put_3 16 rfl rfl)
theorem dX1_put_87 : decode cX1_put 87 = .ok (.aconst_null, 1) := dk_1 (dk_at dksX1_put_3 19 rfl rfl)
theorem dX1_put_88 : decode cX1_put 88 = .ok (.goto 22, 3) := dk_167 0 22 (dk_at dksX1_put_3 20 rfl rfl)
theorem dX1_put_91 : decode cX1_put 91 = .ok (.aload_n 0, 1) := dk_42 (dk_at dksX1_put_3 23 rfl rfl)
theorem dX1_put_92 : decode cX1_put 92 = .ok (.getfield 143, 3) := dk_180 0 143 (dk_at dksX1_put_4 0 rfl rfl)
theorem dX1_put_95 : decode cX1_put 95 = .ok (.iload_n 3, 1) := dk_29 (dk_at dksX1_put_4 3 rfl rfl)
theorem dX1_put_96 : decode cX1_put 96 = .ok (.aload_n 0, 1) := dk_42 (dk_at dksX1_put_4 4 rfl rfl)
theorem dX1_put_97 : decode cX1_put 97 = .ok (.getfield 138, 3) := dk_180 0 138 (dk_at dksX1_put_4 5 rfl rfl)
theorem dX1_put_100 : decode cX1_put 100 = .ok (.imul, 1) := dk_104 (dk_at dksX1_put_4 8 rfl rfl)
theorem dX1_put_101 : decode cX1_put 101 = .ok (.aload_n 0, 1) := dk_42 (dk_at dksX1_put_4 9 rfl rfl)
theorem dX1_put_102 : decode cX1_put 102 = .ok (.getfield 100, 3) := dk_180 0 100 (dk_at dksX1_put_4 10 rfl rfl)
theorem dX1_put_105 : decode cX1_put 105 = .ok (.iload 5, 2) := dk_21 5 (dk_at dksX1_put_4 13 rfl rfl)
theorem dX1_put_107 : decode cX1_put 107 = .ok (.iaload, 1) := dk_46 (dk_at dksX1_put_4 15 rfl rfl)
theorem dX1_put_108 : decode cX1_put 108 = .ok (.iadd, 1) := dk_96 (dk_at dksX1_put_4 16 rfl rfl)
theorem dX1_put_109 : decode cX1_put 109 = .ok (.aaload, 1) := dk_50 (dk_at dksX1_put_4 17 rfl rfl)
theorem dX1_put_110 : decode cX1_put 110 = .ok (.astore 6, 2) := dk_58 6 (dk_at dksX1_put_4 18 rfl rfl)
theorem dX1_put_112 : decode cX1_put 112 = .ok (.aload 6, 2) := dk_25 6 (dk_at dksX1_put_4 20 rfl rfl)
theorem dX1_put_114 : decode cX1_put 114 = .ok (.ifnull 23, 3) := dk_198 0 23 (dk_at dksX1_put_5 0 rfl rfl)
theorem dX1_put_117 : decode cX1_put 117 = .ok (.aload 6, 2) := dk_25 6 (dk_at dksX1_put_5 3 rfl rfl)
theorem dX1_put_119 : decode cX1_put 119 = .ok (.invokevirtual 167, 3) := dk_182 0 167 (dk_at dksX1_put_5 5 rfl rfl)
theorem dX1_put_122 : decode cX1_put 122 = .ok (.ifCond .ne 15, 3) := dk_154 0 15 (dk_at dksX1_put_5 8 rfl rfl)
theorem dX1_put_125 : decode cX1_put 125 = .ok (.aload 6, 2) := dk_25 6 (dk_at dksX1_put_5 11 rfl rfl)
theorem dX1_put_127 : decode cX1_put 127 = .ok (.aload_n 0, 1) := dk_42 (dk_at dksX1_put_5 13 rfl rfl)
theorem dX1_put_128 : decode cX1_put 128 = .ok (.getfield 103, 3) := dk_180 0 103 (dk_at dksX1_put_5 14 rfl rfl)
theorem dX1_put_131 : decode cX1_put 131 = .ok (.iload 5, 2) := dk_21 5 (dk_at dksX1_put_5 17 rfl rfl)
theorem dX1_put_133 : decode cX1_put 133 = .ok (.iaload, 1) := dk_46 (dk_at dksX1_put_5 19 rfl rfl)
theorem dX1_put_134 : decode cX1_put 134 = .ok (.putfield 164, 3) := dk_181 0 164 (dk_at dksX1_put_5 20 rfl rfl)
theorem dX1_put_137 : decode cX1_put 137 = .ok (.iinc 5 1, 3) := dk_132 5 1 (dk_at dksX1_put_6 0 rfl rfl)
theorem dX1_put_140 : decode cX1_put 140 = .ok (.goto (-72), 3) := dk_167 255 184 (dk_at dksX1_put_6 3 rfl rfl)
theorem dX1_put_143 : decode cX1_put 143 = .ok (.iload_n 2, 1) := dk_28 (dk_at dksX1_put_6 6 rfl rfl)
theorem dX1_put_144 : decode cX1_put 144 = .ok (.iload 4, 2) := dk_21 4 (dk_at dksX1_put_6 7 rfl rfl)
theorem dX1_put_146 : decode cX1_put 146 = .ok (.ior, 1) := dk_128 (dk_at dksX1_put_6 9 rfl rfl)
theorem dX1_put_147 : decode cX1_put 147 = .ok (.istore_n 2, 1) := dk_61 (dk_at dksX1_put_6 10 rfl rfl)
theorem dX1_put_148 : decode cX1_put 148 = .ok (.iinc 3 1, 3) := dk_132 3 1 (dk_at dksX1_put_6 11 rfl rfl)
theorem dX1_put_151 : decode cX1_put 151 = .ok (.goto (-99), 3) := dk_167 255 157 (dk_at dksX1_put_6 14 rfl rfl)
theorem dX1_put_154 : decode cX1_put 154 = .ok (.return_, 1) := dk_177 (dk_at dksX1_put_6 17 rfl rfl)
abbrev cX1_feed : ByteArray := prog_1_method_33_code
def yX1_feed : MethodName := ⟨RX1, "feed", "(JI)I"⟩
def dkwX1_feed_3 : List UInt8 := [172]
abbrev dktX1_feed_3 : List UInt8 := dkwX1_feed_3 ++ []
def dkwX1_feed_2 : List UInt8 := [96, 181, 1, 5, 31, 16, 8, 21, 4, 104, 123, 136, 145, 84, 132, 4, 255, 167, 255, 223, 42, 180, 1, 5]
abbrev dktX1_feed_2 : List UInt8 := dkwX1_feed_2 ++ dktX1_feed_3
def dkwX1_feed_1 : List UInt8 := [16, 252, 172, 29, 4, 100, 54, 4, 21, 4, 155, 0, 34, 42, 180, 0, 111, 42, 89, 180, 1, 5, 90, 4]
abbrev dktX1_feed_1 : List UInt8 := dkwX1_feed_1 ++ dktX1_feed_2
def dkwX1_feed_0 : List UInt8 := [29, 4, 16, 8, 184, 0, 25, 154, 0, 6, 16, 254, 172, 42, 180, 1, 5, 29, 96, 16, 100, 164, 0, 6]
abbrev dktX1_feed_0 : List UInt8 := dkwX1_feed_0 ++ dktX1_feed_1
theorem dksX1_feed_0 : cX1_feed.data.toList.drop 0 = dktX1_feed_0 := by decide +kernel
theorem dksX1_feed_1 : cX1_feed.data.toList.drop 24 = dktX1_feed_1 := dk_seg dksX1_feed_0 24 rfl rfl
theorem dksX1_feed_2 : cX1_feed.data.toList.drop 48 = dktX1_feed_2 := dk_seg dksX1_feed_1 24 rfl rfl
theorem dksX1_feed_3 : cX1_feed.data.toList.drop 72 = dktX1_feed_3 := dk_seg dksX1_feed_2 24 rfl rfl
theorem dX1_feed_0 : decode cX1_feed 0 = .ok (.iload_n 3, 1) := dk_29 (dk_at dksX1_feed_0 0 rfl rfl)
theorem dX1_feed_1 : decode cX1_feed 1 = .ok (.iconst 1, 1) := dk_4 (dk_at dksX1_feed_0 1 rfl rfl)
theorem dX1_feed_2 : decode cX1_feed 2 = .ok (.bipush 8, 2) := dk_16 8 (dk_at dksX1_feed_0 2 rfl rfl)
theorem dX1_feed_4 : decode cX1_feed 4 = .ok (.invokestatic 25, 3) := dk_184 0 25 (dk_at dksX1_feed_0 4 rfl rfl)
theorem dX1_feed_7 : decode cX1_feed 7 = .ok (.ifCond .ne 6, 3) := dk_154 0 6 (dk_at dksX1_feed_0 7 rfl rfl)
theorem dX1_feed_10 : decode cX1_feed 10 = .ok (.bipush (-2), 2) := dk_16 254 (dk_at dksX1_feed_0 10 rfl rfl)
theorem dX1_feed_12 : decode cX1_feed 12 = .ok (.ireturn, 1) := dk_172 (dk_at dksX1_feed_0 12 rfl rfl)
theorem dX1_feed_13 : decode cX1_feed 13 = .ok (.aload_n 0, 1) := dk_42 (dk_at dksX1_feed_0 13 rfl rfl)
theorem dX1_feed_14 : decode cX1_feed 14 = .ok (.getfield 261, 3) := dk_180 1 5 (dk_at dksX1_feed_0 14 rfl rfl)
theorem dX1_feed_17 : decode cX1_feed 17 = .ok (.iload_n 3, 1) := dk_29 (dk_at dksX1_feed_0 17 rfl rfl)
theorem dX1_feed_18 : decode cX1_feed 18 = .ok (.iadd, 1) := dk_96 (dk_at dksX1_feed_0 18 rfl rfl)
theorem dX1_feed_19 : decode cX1_feed 19 = .ok (.bipush 100, 2) := dk_16 100 (dk_at dksX1_feed_0 19 rfl rfl)
theorem dX1_feed_21 : decode cX1_feed 21 = .ok (.if_icmp .le 6, 3) := dk_164 0 6 (dk_at dksX1_feed_0 21 rfl rfl)
theorem dX1_feed_24 : decode cX1_feed 24 = .ok (.bipush (-4), 2) := dk_16 252 (dk_at dksX1_feed_1 0 rfl rfl)
theorem dX1_feed_26 : decode cX1_feed 26 = .ok (.ireturn, 1) := dk_172 (dk_at dksX1_feed_1 2 rfl rfl)
theorem dX1_feed_27 : decode cX1_feed 27 = .ok (.iload_n 3, 1) := dk_29 (dk_at dksX1_feed_1 3 rfl rfl)
theorem dX1_feed_28 : decode cX1_feed 28 = .ok (.iconst 1, 1) := dk_4 (dk_at dksX1_feed_1 4 rfl rfl)
theorem dX1_feed_29 : decode cX1_feed 29 = .ok (.isub, 1) := dk_100 (dk_at dksX1_feed_1 5 rfl rfl)
theorem dX1_feed_30 : decode cX1_feed 30 = .ok (.istore 4, 2) := dk_54 4 (dk_at dksX1_feed_1 6 rfl rfl)
theorem dX1_feed_32 : decode cX1_feed 32 = .ok (.iload 4, 2) := dk_21 4 (dk_at dksX1_feed_1 8 rfl rfl)
theorem dX1_feed_34 : decode cX1_feed 34 = .ok (.ifCond .lt 34, 3) := dk_155 0 34 (dk_at dksX1_feed_1 10 rfl rfl)
theorem dX1_feed_37 : decode cX1_feed 37 = .ok (.aload_n 0, 1) := dk_42 (dk_at dksX1_feed_1 13 rfl rfl)
theorem dX1_feed_38 : decode cX1_feed 38 = .ok (.getfield 111, 3) := dk_180 0 111 (dk_at dksX1_feed_1 14 rfl rfl)
theorem dX1_feed_41 : decode cX1_feed 41 = .ok (.aload_n 0, 1) := dk_42 (dk_at dksX1_feed_1 17 rfl rfl)
theorem dX1_feed_42 : decode cX1_feed 42 = .ok (.dup, 1) := dk_89 (dk_at dksX1_feed_1 18 rfl rfl)
theorem dX1_feed_43 : decode cX1_feed 43 = .ok (.getfield 261, 3) := dk_180 1 5 (dk_at dksX1_feed_1 19 rfl rfl)
theorem dX1_feed_46 : decode cX1_feed 46 = .ok (.dup_x1, 1) := dk_90 (dk_at dksX1_feed_1 22 rfl rfl)
theorem dX1_feed_47 : decode cX1_feed 47 = .ok (.iconst 1, 1) := dk_4 (dk_at dksX1_feed_1 23 rfl rfl)
theorem dX1_feed_48 : decode cX1_feed 48 = .ok (.iadd, 1) := dk_96 (dk_at dksX1_feed_2 0 rfl rfl)
theorem dX1_feed_49 : decode cX1_feed 49 = .ok (.putfield 261, 3) := dk_181 1 5 (dk_at dksX1_feed_2 1 rfl rfl)
theorem dX1_feed_52 : decode cX1_feed 52 = .ok (.lload_n 1, 1) := dk_31 (dk_at dksX1_feed_2 4 rfl rfl)
theorem dX1_feed_53 : decode cX1_feed 53 = .ok (.bipush 8, 2) := dk_16 8 (dk_at dksX1_feed_2 5 rfl rfl)
theorem dX1_feed_55 : decode cX1_feed 55 = .ok (.iload 4, 2) := dk_21 4 (dk_at dksX1_feed_2 7 rfl rfl)
theorem dX1_feed_57 : decode cX1_feed 57 = .ok (.imul, 1) := dk_104 (dk_at dksX1_feed_2 9 rfl rfl)
theorem dX1_feed_58 : decode cX1_feed 58 = .ok (.lshr, 1) := dk_123 (dk_at dksX1_feed_2 10 rfl rfl)
theorem dX1_feed_59 : decode cX1_feed 59 = .ok (.l2i, 1) := dk_136 (dk_at dksX1_feed_2 11 rfl rfl)
theorem dX1_feed_60 : decode cX1_feed 60 = .ok (.i2b, 1) := dk_145 (dk_at dksX1_feed_2 12 rfl rfl)
theorem dX1_feed_61 : decode cX1_feed 61 = .ok (.bastore, 1) := dk_84 (dk_at dksX1_feed_2 13 rfl rfl)
theorem dX1_feed_62 : decode cX1_feed 62 = .ok (.iinc 4 (-1), 3) := dk_132 4 255 (dk_at dksX1_feed_2 14 rfl rfl)
theorem dX1_feed_65 : decode cX1_feed 65 = .ok (.goto (-33), 3) := dk_167 255 223 (dk_at dksX1_feed_2 17 rfl rfl)
theorem dX1_feed_68 : decode cX1_feed 68 = .ok (.aload_n 0, 1) := dk_42 (dk_at dksX1_feed_2 20 rfl rfl)
theorem dX1_feed_69 : decode cX1_feed 69 = .ok (.getfield 261, 3) := dk_180 1 5 (dk_at dksX1_feed_2 21 rfl rfl)
theorem dX1_feed_72 : decode cX1_feed 72 = .ok (.ireturn, 1) := dk_172 (dk_at dksX1_feed_3 0 rfl rfl)
abbrev cX1_program : ByteArray := prog_1_method_34_code
def yX1_program : MethodName := ⟨RX1, "program", "()I"⟩
def dkwX1_program_2 : List UInt8 := [180, 1, 25, 100, 61, 42, 3, 181, 1, 5, 28, 172, 78, 42, 3, 181, 1, 5, 45, 191]
abbrev dktX1_program_2 : List UInt8 := dkwX1_program_2 ++ []
def dkwX1_program_1 : List UInt8 := [42, 180, 0, 221, 61, 42, 3, 181, 1, 5, 28, 172, 76, 17, 252, 24, 43, 180, 1, 22, 104, 43]
abbrev dktX1_program_1 : List UInt8 := dkwX1_program_1 ++ dktX1_program_2
def dkwX1_program_0 : List UInt8 := [42, 180, 0, 118, 182, 1, 8, 76, 42, 3, 181, 0, 221, 43, 182, 1, 12, 158, 0, 7, 43, 182, 1, 17]
abbrev dktX1_program_0 : List UInt8 := dkwX1_program_0 ++ dktX1_program_1
theorem dksX1_program_0 : cX1_program.data.toList.drop 0 = dktX1_program_0 := by decide +kernel
theorem dksX1_program_1 : cX1_program.data.toList.drop 24 = dktX1_program_1 := dk_seg dksX1_program_0 24 rfl rfl
theorem dksX1_program_2 : cX1_program.data.toList.drop 46 = dktX1_program_2 := dk_seg dksX1_program_1 22 rfl rfl
theorem dX1_program_0 : decode cX1_program 0 = .ok (.aload_n 0, 1) := dk_42 (dk_at dksX1_program_0 0 rfl rfl)
theorem dX1_program_1 : decode cX1_program 1 = .ok (.getfield 118, 3) := dk_180 0 118 (dk_at dksX1_program_0 1 rfl rfl)
theorem dX1_program_4 : decode cX1_program 4 = .ok (.invokevirtual 264, 3) := dk_182 1 8 (dk_at dksX1_program_0 4 rfl rfl)
theorem dX1_program_7 : decode cX1_program 7 = .ok (.astore_n 1, 1) := dk_76 (dk_at dksX1_program_0 7 rfl rfl)
theorem dX1_program_8 : decode cX1_program 8 = .ok (.aload_n 0, 1) := dk_42 (dk_at dksX1_program_0 8 rfl rfl)
theorem dX1_program_9 : decode cX1_program 9 = .ok (.iconst 0, 1) := dk_3 (dk_at dksX1_program_0 9 rfl rfl)
theorem dX1_program_10 : decode cX1_program 10 = .ok (.putfield 221, 3) := dk_181 0 221 (dk_at dksX1_program_0 10 rfl rfl)
theorem dX1_program_13 : decode cX1_program 13 = .ok (.aload_n 1, 1) := dk_43 (dk_at dksX1_program_0 13 rfl rfl)
theorem dX1_program_14 : decode cX1_program 14 = .ok (.invokevirtual 268, 3) := dk_182 1 12 (dk_at dksX1_program_0 14 rfl rfl)
theorem dX1_program_17 : decode cX1_program 17 = .ok (.ifCond .le 7, 3) := dk_158 0 7 (dk_at dksX1_program_0 17 rfl rfl)
theorem dX1_program_20 : decode cX1_program 20 = .ok (.aload_n 1, 1) := dk_43 (dk_at dksX1_program_0 20 rfl rfl)
theorem dX1_program_21 : decode cX1_program 21 = .ok (.invokevirtual 273, 3) := dk_182 1 17 (dk_at dksX1_program_0 21 rfl rfl)
theorem dX1_program_24 : decode cX1_program 24 = .ok (.aload_n 0, 1) := dk_42 (dk_at dksX1_program_1 0 rfl rfl)
theorem dX1_program_25 : decode cX1_program 25 = .ok (.getfield 221, 3) := dk_180 0 221 (dk_at dksX1_program_1 1 rfl rfl)
theorem dX1_program_28 : decode cX1_program 28 = .ok (.istore_n 2, 1) := dk_61 (dk_at dksX1_program_1 4 rfl rfl)
theorem dX1_program_29 : decode cX1_program 29 = .ok (.aload_n 0, 1) := dk_42 (dk_at dksX1_program_1 5 rfl rfl)
theorem dX1_program_30 : decode cX1_program 30 = .ok (.iconst 0, 1) := dk_3 (dk_at dksX1_program_1 6 rfl rfl)
theorem dX1_program_31 : decode cX1_program 31 = .ok (.putfield 261, 3) := dk_181 1 5 (dk_at dksX1_program_1 7 rfl rfl)
theorem dX1_program_34 : decode cX1_program 34 = .ok (.iload_n 2, 1) := dk_28 (dk_at dksX1_program_1 10 rfl rfl)
theorem dX1_program_35 : decode cX1_program 35 = .ok (.ireturn, 1) := dk_172 (dk_at dksX1_program_1 11 rfl rfl)
theorem dX1_program_36 : decode cX1_program 36 = .ok (.astore_n 1, 1) := dk_76 (dk_at dksX1_program_1 12 rfl rfl)
theorem dX1_program_37 : decode cX1_program 37 = .ok (.sipush (-1000), 3) := dk_17 252 24 (dk_at dksX1_program_1 13 rfl rfl)
theorem dX1_program_40 : decode cX1_program 40 = .ok (.aload_n 1, 1) := dk_43 (dk_at dksX1_program_1 16 rfl rfl)
theorem dX1_program_41 : decode cX1_program 41 = .ok (.getfield 278, 3) := dk_180 1 22 (dk_at dksX1_program_1 17 rfl rfl)
theorem dX1_program_44 : decode cX1_program 44 = .ok (.imul, 1) := dk_104 (dk_at dksX1_program_1 20 rfl rfl)
theorem dX1_program_45 : decode cX1_program 45 = .ok (.aload_n 1, 1) := dk_43 (dk_at dksX1_program_1 21 rfl rfl)
theorem dX1_program_46 : decode cX1_program 46 = .ok (.getfield 281, 3) := dk_180 1 25 (dk_at dksX1_program_2 0 rfl rfl)
theorem dX1_program_49 : decode cX1_program 49 = .ok (.isub, 1) := dk_100 (dk_at dksX1_program_2 3 rfl rfl)
theorem dX1_program_50 : decode cX1_program 50 = .ok (.istore_n 2, 1) := dk_61 (dk_at dksX1_program_2 4 rfl rfl)
theorem dX1_program_51 : decode cX1_program 51 = .ok (.aload_n 0, 1) := dk_42 (dk_at dksX1_program_2 5 rfl rfl)
theorem dX1_program_52 : decode cX1_program 52 = .ok (.iconst 0, 1) := dk_3 (dk_at dksX1_program_2 6 rfl rfl)
theorem dX1_program_53 : decode cX1_program 53 = .ok (.putfield 261, 3) := dk_181 1 5 (dk_at dksX1_program_2 7 rfl rfl)
theorem dX1_program_56 : decode cX1_program 56 = .ok (.iload_n 2, 1) := dk_28 (dk_at dksX1_program_2 10 rfl rfl)
theorem dX1_program_57 : decode cX1_program 57 = .ok (.ireturn, 1) := dk_172 (dk_at dksX1_program_2 11 rfl rfl)
theorem dX1_program_58 : decode cX1_program 58 = .ok (.astore_n 3, 1) := dk_78 (dk_at dksX1_program_2 12 rfl rfl)
theorem dX1_program_59 : decode cX1_program 59 = .ok (.aload_n 0, 1) := dk_42 (dk_at dksX1_program_2 13 rfl rfl)
theorem dX1_program_60 : decode cX1_program 60 = .ok (.iconst 0, 1) := dk_3 (dk_at dksX1_program_2 14 rfl rfl)
theorem dX1_program_61 : decode cX1_program 61 = .ok (.putfield 261, 3) := dk_181 1 5 (dk_at dksX1_program_2 15 rfl rfl)
theorem dX1_program_64 : decode cX1_program 64 = .ok (.aload_n 3, 1) := dk_45 (dk_at dksX1_program_2 18 rfl rfl)
theorem dX1_program_65 : decode cX1_program 65 = .ok (.athrow, 1) := dk_191 (dk_at dksX1_program_2 19 rfl rfl)
abbrev cX1_creep : ByteArray := prog_1_method_36_code
def yX1_creep : MethodName := ⟨RX1, "creep", "(I)I"⟩
def dkwX1_creep_1 : List UInt8 := [172]
abbrev dktX1_creep_1 : List UInt8 := dkwX1_creep_1 ++ []
def dkwX1_creep_0 : List UInt8 := [27, 4, 16, 99, 184, 0, 25, 154, 0, 6, 16, 254, 172, 42, 180, 0, 46, 61, 42, 27, 181, 0, 46, 28]
abbrev dktX1_creep_0 : List UInt8 := dkwX1_creep_0 ++ dktX1_creep_1
theorem dksX1_creep_0 : cX1_creep.data.toList.drop 0 = dktX1_creep_0 := by decide +kernel
theorem dksX1_creep_1 : cX1_creep.data.toList.drop 24 = dktX1_creep_1 := dk_seg dksX1_creep_0 24 rfl rfl
theorem dX1_creep_0 : decode cX1_creep 0 = .ok (.iload_n 1, 1) := dk_27 (dk_at dksX1_creep_0 0 rfl rfl)
theorem dX1_creep_1 : decode cX1_creep 1 = .ok (.iconst 1, 1) := dk_4 (dk_at dksX1_creep_0 1 rfl rfl)
theorem dX1_creep_2 : decode cX1_creep 2 = .ok (.bipush 99, 2) := dk_16 99 (dk_at dksX1_creep_0 2 rfl rfl)
theorem dX1_creep_4 : decode cX1_creep 4 = .ok (.invokestatic 25, 3) := dk_184 0 25 (dk_at dksX1_creep_0 4 rfl rfl)
theorem dX1_creep_7 : decode cX1_creep 7 = .ok (.ifCond .ne 6, 3) := dk_154 0 6 (dk_at dksX1_creep_0 7 rfl rfl)
theorem dX1_creep_10 : decode cX1_creep 10 = .ok (.bipush (-2), 2) := dk_16 254 (dk_at dksX1_creep_0 10 rfl rfl)
theorem dX1_creep_12 : decode cX1_creep 12 = .ok (.ireturn, 1) := dk_172 (dk_at dksX1_creep_0 12 rfl rfl)
theorem dX1_creep_13 : decode cX1_creep 13 = .ok (.aload_n 0, 1) := dk_42 (dk_at dksX1_creep_0 13 rfl rfl)
theorem dX1_creep_14 : decode cX1_creep 14 = .ok (.getfield 46, 3) := dk_180 0 46 (dk_at dksX1_creep_0 14 rfl rfl)
theorem dX1_creep_17 : decode cX1_creep 17 = .ok (.istore_n 2, 1) := dk_61 (dk_at dksX1_creep_0 17 rfl rfl)
theorem dX1_creep_18 : decode cX1_creep 18 = .ok (.aload_n 0, 1) := dk_42 (dk_at dksX1_creep_0 18 rfl rfl)
theorem dX1_creep_19 : decode cX1_creep 19 = .ok (.iload_n 1, 1) := dk_27 (dk_at dksX1_creep_0 19 rfl rfl)
theorem dX1_creep_20 : decode cX1_creep 20 = .ok (.putfield 46, 3) := dk_181 0 46 (dk_at dksX1_creep_0 20 rfl rfl)
theorem dX1_creep_23 : decode cX1_creep 23 = .ok (.iload_n 2, 1) := dk_28 (dk_at dksX1_creep_0 23 rfl rfl)
theorem dX1_creep_24 : decode cX1_creep 24 = .ok (.ireturn, 1) := dk_172 (dk_at dksX1_creep_1 0 rfl rfl)
abbrev cX1_offset : ByteArray := prog_1_method_37_code
def yX1_offset : MethodName := ⟨RX1, "offset", "(III)I"⟩
def dkwX1_offset_1 : List UInt8 := [154, 0, 6, 16, 254, 172, 25, 4, 180, 1, 47, 54, 5, 25, 4, 29, 181, 1, 47, 21, 5, 172]
abbrev dktX1_offset_1 : List UInt8 := dkwX1_offset_1 ++ []
def dkwX1_offset_0 : List UInt8 := [42, 27, 28, 182, 0, 154, 58, 4, 25, 4, 199, 0, 5, 2, 172, 29, 16, 248, 16, 8, 184, 0, 25]
abbrev dktX1_offset_0 : List UInt8 := dkwX1_offset_0 ++ dktX1_offset_1
theorem dksX1_offset_0 : cX1_offset.data.toList.drop 0 = dktX1_offset_0 := by decide +kernel
theorem dksX1_offset_1 : cX1_offset.data.toList.drop 23 = dktX1_offset_1 := dk_seg dksX1_offset_0 23 rfl rfl
theorem dX1_offset_0 : decode cX1_offset 0 = .ok (.aload_n 0, 1) := dk_42 (dk_at dksX1_offset_0 0 rfl rfl)
theorem dX1_offset_1 : decode cX1_offset 1 = .ok (.iload_n 1, 1) := dk_27 (dk_at dksX1_offset_0 1 rfl rfl)
theorem dX1_offset_2 : decode cX1_offset 2 = .ok (.iload_n 2, 1) := dk_28 (dk_at dksX1_offset_0 2 rfl rfl)
theorem dX1_offset_3 : decode cX1_offset 3 = .ok (.invokevirtual 154, 3) := dk_182 0 154 (dk_at dksX1_offset_0 3 rfl rfl)
theorem dX1_offset_6 : decode cX1_offset 6 = .ok (.astore 4, 2) := dk_58 4 (dk_at dksX1_offset_0 6 rfl rfl)
theorem dX1_offset_8 : decode cX1_offset 8 = .ok (.aload 4, 2) := dk_25 4 (dk_at dksX1_offset_0 8 rfl rfl)
theorem dX1_offset_10 : decode cX1_offset 10 = .ok (.ifnonnull 5, 3) := dk_199 0 5 (dk_at dksX1_offset_0 10 rfl rfl)
theorem dX1_offset_13 : decode cX1_offset 13 = .ok (.iconst (-1), 1) := dk_2 (dk_at dksX1_offset_0 13 rfl rfl)
theorem dX1_offset_14 : decode cX1_offset 14 = .ok (.ireturn, 1) := dk_172 (dk_at dksX1_offset_0 14 rfl rfl)
theorem dX1_offset_15 : decode cX1_offset 15 = .ok (.iload_n 3, 1) := dk_29 (dk_at dksX1_offset_0 15 rfl rfl)
theorem dX1_offset_16 : decode cX1_offset 16 = .ok (.bipush (-8), 2) := dk_16 248 (dk_at dksX1_offset_0 16 rfl rfl)
theorem dX1_offset_18 : decode cX1_offset 18 = .ok (.bipush 8, 2) := dk_16 8 (dk_at dksX1_offset_0 18 rfl rfl)
theorem dX1_offset_20 : decode cX1_offset 20 = .ok (.invokestatic 25, 3) := dk_184 0 25 (dk_at dksX1_offset_0 20 rfl rfl)
theorem dX1_offset_23 : decode cX1_offset 23 = .ok (.ifCond .ne 6, 3) := dk_154 0 6 (dk_at dksX1_offset_1 0 rfl rfl)
theorem dX1_offset_26 : decode cX1_offset 26 = .ok (.bipush (-2), 2) := dk_16 254 (dk_at dksX1_offset_1 3 rfl rfl)
theorem dX1_offset_28 : decode cX1_offset 28 = .ok (.ireturn, 1) := dk_172 (dk_at dksX1_offset_1 5 rfl rfl)
theorem dX1_offset_29 : decode cX1_offset 29 = .ok (.aload 4, 2) := dk_25 4 (dk_at dksX1_offset_1 6 rfl rfl)
theorem dX1_offset_31 : decode cX1_offset 31 = .ok (.getfield 303, 3) := dk_180 1 47 (dk_at dksX1_offset_1 8 rfl rfl)
theorem dX1_offset_34 : decode cX1_offset 34 = .ok (.istore 5, 2) := dk_54 5 (dk_at dksX1_offset_1 11 rfl rfl)
theorem dX1_offset_36 : decode cX1_offset 36 = .ok (.aload 4, 2) := dk_25 4 (dk_at dksX1_offset_1 13 rfl rfl)
theorem dX1_offset_38 : decode cX1_offset 38 = .ok (.iload_n 3, 1) := dk_29 (dk_at dksX1_offset_1 15 rfl rfl)
theorem dX1_offset_39 : decode cX1_offset 39 = .ok (.putfield 303, 3) := dk_181 1 47 (dk_at dksX1_offset_1 16 rfl rfl)
theorem dX1_offset_42 : decode cX1_offset 42 = .ok (.iload 5, 2) := dk_21 5 (dk_at dksX1_offset_1 19 rfl rfl)
theorem dX1_offset_44 : decode cX1_offset 44 = .ok (.ireturn, 1) := dk_172 (dk_at dksX1_offset_1 21 rfl rfl)
abbrev cX1_run : ByteArray := prog_1_method_38_code
def yX1_run : MethodName := ⟨RX1, "run", "(J)I"⟩
def dkwX1_run_5 : List UInt8 := [182, 1, 59, 42, 180, 0, 125, 25, 5, 182, 1, 60, 87, 25, 5, 180, 1, 64, 172]
abbrev dktX1_run_5 : List UInt8 := dkwX1_run_5 ++ []
def dkwX1_run_4 : List UInt8 := [25, 5, 180, 1, 56, 3, 42, 180, 0, 138, 184, 0, 208, 42, 180, 0, 62, 25, 5, 180, 1, 56]
abbrev dktX1_run_4 : List UInt8 := dkwX1_run_4 ++ dktX1_run_5
def dkwX1_run_3 : List UInt8 := [16, 254, 172, 42, 180, 0, 125, 182, 1, 28, 16, 40, 160, 0, 6, 16, 252, 172, 25, 5, 180, 1, 53, 3]
abbrev dktX1_run_3 : List UInt8 := dkwX1_run_3 ++ dktX1_run_4
def dkwX1_run_2 : List UInt8 := [20, 0, 3, 109, 66, 132, 6, 1, 167, 255, 224, 31, 9, 148, 155, 0, 9, 33, 9, 148, 158, 0, 6]
abbrev dktX1_run_2 : List UInt8 := dkwX1_run_2 ++ dktX1_run_3
def dkwX1_run_1 : List UInt8 := [42, 180, 0, 138, 162, 0, 29, 25, 5, 180, 1, 53, 21, 6, 33, 20, 0, 3, 113, 136, 79, 33]
abbrev dktX1_run_1 : List UInt8 := dkwX1_run_1 ++ dktX1_run_2
def dkwX1_run_0 : List UInt8 := [31, 66, 187, 1, 48, 89, 42, 42, 180, 0, 125, 182, 1, 28, 183, 1, 50, 58, 5, 3, 54, 6, 21, 6]
abbrev dktX1_run_0 : List UInt8 := dkwX1_run_0 ++ dktX1_run_1
theorem dksX1_run_0 : cX1_run.data.toList.drop 0 = dktX1_run_0 := by decide +kernel
theorem dksX1_run_1 : cX1_run.data.toList.drop 24 = dktX1_run_1 := dk_seg dksX1_run_0 24 rfl rfl
theorem dksX1_run_2 : cX1_run.data.toList.drop 46 = dktX1_run_2 := dk_seg dksX1_run_1 22 rfl rfl
theorem dksX1_run_3 : cX1_run.data.toList.drop 69 = dktX1_run_3 := dk_seg dksX1_run_2 23 rfl rfl
theorem dksX1_run_4 : cX1_run.data.toList.drop 93 = dktX1_run_4 := dk_seg dksX1_run_3 24 rfl rfl
theorem dksX1_run_5 : cX1_run.data.toList.drop 115 = dktX1_run_5 := dk_seg dksX1_run_4 22 rfl rfl
theorem dX1_run_0 : decode cX1_run 0 = .ok (.lload_n 1, 1) := dk_31 (dk_at dksX1_run_0 0 rfl rfl)
theorem dX1_run_1 : decode cX1_run 1 = .ok (.lstore_n 3, 1) := dk_66 (dk_at dksX1_run_0 1 rfl rfl)
theorem dX1_run_2 : decode cX1_run 2 = .ok (.new 304, 3) := dk_187 1 48 (dk_at dksX1_run_0 2 rfl rfl)
theorem dX1_run_5 : decode cX1_run 5 = .ok (.dup, 1) := dk_89 (dk_at dksX1_run_0 5 rfl rfl)
theorem dX1_run_6 : decode cX1_run 6 = .ok (.aload_n 0, 1) := dk_42 (dk_at dksX1_run_0 6 rfl rfl)
theorem dX1_run_7 : decode cX1_run 7 = .ok (.aload_n 0, 1) := dk_42 (dk_at dksX1_run_0 7 rfl rfl)
theorem dX1_run_8 : decode cX1_run 8 = .ok (.getfield 125, 3) := dk_180 0 125 (dk_at dksX1_run_0 8 rfl rfl)
theorem dX1_run_11 : decode cX1_run 11 = .ok (.invokevirtual 284, 3) := dk_182 1 28 (dk_at dksX1_run_0 11 rfl rfl)
theorem dX1_run_14 : decode cX1_run 14 = .ok (.invokespecial 306, 3) := dk_183 1 50 (dk_at dksX1_run_0 14 rfl rfl)
theorem dX1_run_17 : decode cX1_run 17 = .ok (.astore 5, 2) := dk_58 5 (dk_at dksX1_run_0 17 rfl rfl)
theorem dX1_run_19 : decode cX1_run 19 = .ok (.iconst 0, 1) := dk_3 (dk_at dksX1_run_0 19 rfl rfl)
theorem dX1_run_20 : decode cX1_run 20 = .ok (.istore 6, 2) := dk_54 6 (dk_at dksX1_run_0 20 rfl rfl)
theorem dX1_run_22 : decode cX1_run 22 = .ok (.iload 6, 2) := dk_21 6 (dk_at dksX1_run_0 22 rfl rfl)
theorem dX1_run_24 : decode cX1_run 24 = .ok (.aload_n 0, 1) := dk_42 (dk_at dksX1_run_1 0 rfl rfl)
theorem dX1_run_25 : decode cX1_run 25 = .ok (.getfield 138, 3) := dk_180 0 138 (dk_at dksX1_run_1 1 rfl rfl)
theorem dX1_run_28 : decode cX1_run 28 = .ok (.if_icmp .ge 29, 3) := dk_162 0 29 (dk_at dksX1_run_1 4 rfl rfl)
theorem dX1_run_31 : decode cX1_run 31 = .ok (.aload 5, 2) := dk_25 5 (dk_at dksX1_run_1 7 rfl rfl)
theorem dX1_run_33 : decode cX1_run 33 = .ok (.getfield 309, 3) := dk_180 1 53 (dk_at dksX1_run_1 9 rfl rfl)
theorem dX1_run_36 : decode cX1_run 36 = .ok (.iload 6, 2) := dk_21 6 (dk_at dksX1_run_1 12 rfl rfl)
theorem dX1_run_38 : decode cX1_run 38 = .ok (.lload_n 3, 1) := dk_33 (dk_at dksX1_run_1 14 rfl rfl)
theorem dX1_run_39 : decode cX1_run 39 = .ok (.ldc2_w 3, 3) := dk_20 0 3 (dk_at dksX1_run_1 15 rfl rfl)
theorem dX1_run_42 : decode cX1_run 42 = .ok (.lrem, 1) := dk_113 (dk_at dksX1_run_1 18 rfl rfl)
theorem dX1_run_43 : decode cX1_run 43 = .ok (.l2i, 1) := dk_136 (dk_at dksX1_run_1 19 rfl rfl)
theorem dX1_run_44 : decode cX1_run 44 = .ok (.iastore, 1) := dk_79 (dk_at dksX1_run_1 20 rfl rfl)
theorem dX1_run_45 : decode cX1_run 45 = .ok (.lload_n 3, 1) := dk_33 (dk_at dksX1_run_1 21 rfl rfl)
theorem dX1_run_46 : decode cX1_run 46 = .ok (.ldc2_w 3, 3) := dk_20 0 3 (dk_at dksX1_run_2 0 rfl rfl)
theorem dX1_run_49 : decode cX1_run 49 = .ok (.ldiv, 1) := dk_109 (dk_at dksX1_run_2 3 rfl rfl)
theorem dX1_run_50 : decode cX1_run 50 = .ok (.lstore_n 3, 1) := dk_66 (dk_at dksX1_run_2 4 rfl rfl)
theorem dX1_run_51 : decode cX1_run 51 = .ok (.iinc 6 1, 3) := dk_132 6 1 (dk_at dksX1_run_2 5 rfl rfl)
theorem dX1_run_54 : decode cX1_run 54 = .ok (.goto (-32), 3) := dk_167 255 224 (dk_at dksX1_run_2 8 rfl rfl)
theorem dX1_run_57 : decode cX1_run 57 = .ok (.lload_n 1, 1) := dk_31 (dk_at dksX1_run_2 11 rfl rfl)
theorem dX1_run_58 : decode cX1_run 58 = .ok (.lconst 0, 1) := dk_9 (dk_at dksX1_run_2 12 rfl rfl)
theorem dX1_run_59 : decode cX1_run 59 = .ok (.lcmp, 1) := dk_148 (dk_at dksX1_run_2 13 rfl rfl)
theorem dX1_run_60 : decode cX1_run 60 = .ok (.ifCond .lt 9, 3) := dk_155 0 9 (dk_at dksX1_run_2 14 rfl rfl)
theorem dX1_run_63 : decode cX1_run 63 = .ok (.lload_n 3, 1) := dk_33 (dk_at dksX1_run_2 17 rfl rfl)
theorem dX1_run_64 : decode cX1_run 64 = .ok (.lconst 0, 1) := dk_9 (dk_at dksX1_run_2 18 rfl rfl)
theorem dX1_run_65 : decode cX1_run 65 = .ok (.lcmp, 1) := dk_148 (dk_at dksX1_run_2 19 rfl rfl)
theorem dX1_run_66 : decode cX1_run 66 = .ok (.ifCond .le 6, 3) := dk_158 0 6 (dk_at dksX1_run_2 20 rfl rfl)
theorem dX1_run_69 : decode cX1_run 69 = .ok (.bipush (-2), 2) := dk_16 254 (dk_at dksX1_run_3 0 rfl rfl)
theorem dX1_run_71 : decode cX1_run 71 = .ok (.ireturn, 1) := dk_172 (dk_at dksX1_run_3 2 rfl rfl)
theorem dX1_run_72 : decode cX1_run 72 = .ok (.aload_n 0, 1) := dk_42 (dk_at dksX1_run_3 3 rfl rfl)
theorem dX1_run_73 : decode cX1_run 73 = .ok (.getfield 125, 3) := dk_180 0 125 (dk_at dksX1_run_3 4 rfl rfl)
theorem dX1_run_76 : decode cX1_run 76 = .ok (.invokevirtual 284, 3) := dk_182 1 28 (dk_at dksX1_run_3 7 rfl rfl)
theorem dX1_run_79 : decode cX1_run 79 = .ok (.bipush 40, 2) := dk_16 40 (dk_at dksX1_run_3 10 rfl rfl)
theorem dX1_run_81 : decode cX1_run 81 = .ok (.if_icmp .ne 6, 3) := dk_160 0 6 (dk_at dksX1_run_3 12 rfl rfl)
theorem dX1_run_84 : decode cX1_run 84 = .ok (.bipush (-4), 2) := dk_16 252 (dk_at dksX1_run_3 15 rfl rfl)
theorem dX1_run_86 : decode cX1_run 86 = .ok (.ireturn, 1) := dk_172 (dk_at dksX1_run_3 17 rfl rfl)
theorem dX1_run_87 : decode cX1_run 87 = .ok (.aload 5, 2) := dk_25 5 (dk_at dksX1_run_3 18 rfl rfl)
theorem dX1_run_89 : decode cX1_run 89 = .ok (.getfield 309, 3) := dk_180 1 53 (dk_at dksX1_run_3 20 rfl rfl)
theorem dX1_run_92 : decode cX1_run 92 = .ok (.iconst 0, 1) := dk_3 (dk_at dksX1_run_3 23 rfl rfl)
theorem dX1_run_93 : decode cX1_run 93 = .ok (.aload 5, 2) := dk_25 5 (dk_at dksX1_run_4 0 rfl rfl)
theorem dX1_run_95 : decode cX1_run 95 = .ok (.getfield 312, 3) := dk_180 1 56 (dk_at dksX1_run_4 2 rfl rfl)
theorem dX1_run_98 : decode cX1_run 98 = .ok (.iconst 0, 1) := dk_3 (dk_at dksX1_run_4 5 rfl rfl)
theorem dX1_run_99 : decode cX1_run 99 = .ok (.aload_n 0, 1) := dk_42 (dk_at dksX1_run_4 6 rfl rfl)
theorem dX1_run_100 : decode cX1_run 100 = .ok (.getfield 138, 3) := dk_180 0 138 (dk_at dksX1_run_4 7 rfl rfl)
theorem dX1_run_103 : decode cX1_run 103 = .ok (.invokestatic 208, 3) := dk_184 0 208 (dk_at dksX1_run_4 10 rfl rfl)
theorem dX1_run_106 : decode cX1_run 106 = .ok (.aload_n 0, 1) := dk_42 (dk_at dksX1_run_4 13 rfl rfl)
theorem dX1_run_107 : decode cX1_run 107 = .ok (.getfield 62, 3) := dk_180 0 62 (dk_at dksX1_run_4 14 rfl rfl)
theorem dX1_run_110 : decode cX1_run 110 = .ok (.aload 5, 2) := dk_25 5 (dk_at dksX1_run_4 17 rfl rfl)
theorem dX1_run_112 : decode cX1_run 112 = .ok (.getfield 312, 3) := dk_180 1 56 (dk_at dksX1_run_4 19 rfl rfl)
theorem dX1_run_115 : decode cX1_run 115 = .ok (.invokevirtual 315, 3) := dk_182 1 59 (dk_at dksX1_run_5 0 rfl rfl)
theorem dX1_run_118 : decode cX1_run 118 = .ok (.aload_n 0, 1) := dk_42 (dk_at dksX1_run_5 3 rfl rfl)
theorem dX1_run_119 : decode cX1_run 119 = .ok (.getfield 125, 3) := dk_180 0 125 (dk_at dksX1_run_5 4 rfl rfl)
theorem dX1_run_122 : decode cX1_run 122 = .ok (.aload 5, 2) := dk_25 5 (dk_at dksX1_run_5 7 rfl rfl)
theorem dX1_run_124 : decode cX1_run 124 = .ok (.invokevirtual 316, 3) := dk_182 1 60 (dk_at dksX1_run_5 9 rfl rfl)
theorem dX1_run_127 : decode cX1_run 127 = .ok (.pop, 1) := dk_87 (dk_at dksX1_run_5 12 rfl rfl)
theorem dX1_run_128 : decode cX1_run 128 = .ok (.aload 5, 2) := dk_25 5 (dk_at dksX1_run_5 13 rfl rfl)
theorem dX1_run_130 : decode cX1_run 130 = .ok (.getfield 320, 3) := dk_180 1 64 (dk_at dksX1_run_5 15 rfl rfl)
theorem dX1_run_133 : decode cX1_run 133 = .ok (.ireturn, 1) := dk_172 (dk_at dksX1_run_5 18 rfl rfl)
abbrev cX1_out : ByteArray := prog_1_method_40_code
def yX1_out : MethodName := ⟨RX1, "out", "(II)I"⟩
def dkwX1_out_1 : List UInt8 := [27, 182, 1, 31, 192, 1, 48, 180, 1, 56, 28, 46, 172]
abbrev dktX1_out_1 : List UInt8 := dkwX1_out_1 ++ []
def dkwX1_out_0 : List UInt8 := [42, 27, 182, 1, 65, 198, 0, 11, 42, 28, 182, 0, 150, 154, 0, 7, 2, 167, 0, 19, 42, 180, 0, 125]
abbrev dktX1_out_0 : List UInt8 := dkwX1_out_0 ++ dktX1_out_1
theorem dksX1_out_0 : cX1_out.data.toList.drop 0 = dktX1_out_0 := by decide +kernel
theorem dksX1_out_1 : cX1_out.data.toList.drop 24 = dktX1_out_1 := dk_seg dksX1_out_0 24 rfl rfl
theorem dX1_out_0 : decode cX1_out 0 = .ok (.aload_n 0, 1) := dk_42 (dk_at dksX1_out_0 0 rfl rfl)
theorem dX1_out_1 : decode cX1_out 1 = .ok (.iload_n 1, 1) := dk_27 (dk_at dksX1_out_0 1 rfl rfl)
theorem dX1_out_2 : decode cX1_out 2 = .ok (.invokevirtual 321, 3) := dk_182 1 65 (dk_at dksX1_out_0 2 rfl rfl)
theorem dX1_out_5 : decode cX1_out 5 = .ok (.ifnull 11, 3) := dk_198 0 11 (dk_at dksX1_out_0 5 rfl rfl)
theorem dX1_out_8 : decode cX1_out 8 = .ok (.aload_n 0, 1) := dk_42 (dk_at dksX1_out_0 8 rfl rfl)
theorem dX1_out_9 : decode cX1_out 9 = .ok (.iload_n 2, 1) := dk_28 (dk_at dksX1_out_0 9 rfl rfl)
theorem dX1_out_10 : decode cX1_out 10 = .ok (.invokevirtual 150, 3) := dk_182 0 150 (dk_at dksX1_out_0 10 rfl rfl)
theorem dX1_out_13 : decode cX1_out 13 = .ok (.ifCond .ne 7, 3) := dk_154 0 7 (dk_at dksX1_out_0 13 rfl rfl)
theorem dX1_out_16 : decode cX1_out 16 = .ok (.iconst (-1), 1) := dk_2 (dk_at dksX1_out_0 16 rfl rfl)
theorem dX1_out_17 : decode cX1_out 17 = .ok (.goto 19, 3) := dk_167 0 19 (dk_at dksX1_out_0 17 rfl rfl)
theorem dX1_out_20 : decode cX1_out 20 = .ok (.aload_n 0, 1) := dk_42 (dk_at dksX1_out_0 20 rfl rfl)
theorem dX1_out_21 : decode cX1_out 21 = .ok (.getfield 125, 3) := dk_180 0 125 (dk_at dksX1_out_0 21 rfl rfl)
theorem dX1_out_24 : decode cX1_out 24 = .ok (.iload_n 1, 1) := dk_27 (dk_at dksX1_out_1 0 rfl rfl)
theorem dX1_out_25 : decode cX1_out 25 = .ok (.invokevirtual 287, 3) := dk_182 1 31 (dk_at dksX1_out_1 1 rfl rfl)
theorem dX1_out_28 : decode cX1_out 28 = .ok (.checkcast 304, 3) := dk_192 1 48 (dk_at dksX1_out_1 4 rfl rfl)
theorem dX1_out_31 : decode cX1_out 31 = .ok (.getfield 312, 3) := dk_180 1 56 (dk_at dksX1_out_1 7 rfl rfl)
theorem dX1_out_34 : decode cX1_out 34 = .ok (.iload_n 2, 1) := dk_28 (dk_at dksX1_out_1 10 rfl rfl)
theorem dX1_out_35 : decode cX1_out 35 = .ok (.iaload, 1) := dk_46 (dk_at dksX1_out_1 11 rfl rfl)
theorem dX1_out_36 : decode cX1_out 36 = .ok (.ireturn, 1) := dk_172 (dk_at dksX1_out_1 12 rfl rfl)
abbrev cX1_runAt : ByteArray := prog_1_method_39_code
def yX1_runAt : MethodName := ⟨RX1, "runAt", "(I)LLightPlate$Run;"⟩
def dkwX1_runAt_1 : List UInt8 := [182, 1, 31, 192, 1, 48, 176]
abbrev dktX1_runAt_1 : List UInt8 := dkwX1_runAt_1 ++ []
def dkwX1_runAt_0 : List UInt8 := [27, 155, 0, 14, 27, 42, 180, 0, 125, 182, 1, 28, 161, 0, 7, 1, 167, 0, 14, 42, 180, 0, 125, 27]
abbrev dktX1_runAt_0 : List UInt8 := dkwX1_runAt_0 ++ dktX1_runAt_1
theorem dksX1_runAt_0 : cX1_runAt.data.toList.drop 0 = dktX1_runAt_0 := by decide +kernel
theorem dksX1_runAt_1 : cX1_runAt.data.toList.drop 24 = dktX1_runAt_1 := dk_seg dksX1_runAt_0 24 rfl rfl
theorem dX1_runAt_0 : decode cX1_runAt 0 = .ok (.iload_n 1, 1) := dk_27 (dk_at dksX1_runAt_0 0 rfl rfl)
theorem dX1_runAt_1 : decode cX1_runAt 1 = .ok (.ifCond .lt 14, 3) := dk_155 0 14 (dk_at dksX1_runAt_0 1 rfl rfl)
theorem dX1_runAt_4 : decode cX1_runAt 4 = .ok (.iload_n 1, 1) := dk_27 (dk_at dksX1_runAt_0 4 rfl rfl)
theorem dX1_runAt_5 : decode cX1_runAt 5 = .ok (.aload_n 0, 1) := dk_42 (dk_at dksX1_runAt_0 5 rfl rfl)
theorem dX1_runAt_6 : decode cX1_runAt 6 = .ok (.getfield 125, 3) := dk_180 0 125 (dk_at dksX1_runAt_0 6 rfl rfl)
theorem dX1_runAt_9 : decode cX1_runAt 9 = .ok (.invokevirtual 284, 3) := dk_182 1 28 (dk_at dksX1_runAt_0 9 rfl rfl)
theorem dX1_runAt_12 : decode cX1_runAt 12 = .ok (.if_icmp .lt 7, 3) := dk_161 0 7 (dk_at dksX1_runAt_0 12 rfl rfl)
theorem dX1_runAt_15 : decode cX1_runAt 15 = .ok (.aconst_null, 1) := dk_1 (dk_at dksX1_runAt_0 15 rfl rfl)
theorem dX1_runAt_16 : decode cX1_runAt 16 = .ok (.goto 14, 3) := dk_167 0 14 (dk_at dksX1_runAt_0 16 rfl rfl)
theorem dX1_runAt_19 : decode cX1_runAt 19 = .ok (.aload_n 0, 1) := dk_42 (dk_at dksX1_runAt_0 19 rfl rfl)
theorem dX1_runAt_20 : decode cX1_runAt 20 = .ok (.getfield 125, 3) := dk_180 0 125 (dk_at dksX1_runAt_0 20 rfl rfl)
theorem dX1_runAt_23 : decode cX1_runAt 23 = .ok (.iload_n 1, 1) := dk_27 (dk_at dksX1_runAt_0 23 rfl rfl)
theorem dX1_runAt_24 : decode cX1_runAt 24 = .ok (.invokevirtual 287, 3) := dk_182 1 31 (dk_at dksX1_runAt_1 0 rfl rfl)
theorem dX1_runAt_27 : decode cX1_runAt 27 = .ok (.checkcast 304, 3) := dk_192 1 48 (dk_at dksX1_runAt_1 3 rfl rfl)
theorem dX1_runAt_30 : decode cX1_runAt 30 = .ok (.areturn, 1) := dk_176 (dk_at dksX1_runAt_1 6 rfl rfl)
abbrev cX1_reworked : ByteArray := prog_1_method_42_code
def yX1_reworked : MethodName := ⟨RX1, "reworked", "(II)I"⟩
def dkwX1_reworked_1 : List UInt8 := [182, 1, 31, 192, 1, 48, 182, 1, 74, 42, 180, 0, 80, 28, 46, 172]
abbrev dktX1_reworked_1 : List UInt8 := dkwX1_reworked_1 ++ []
def dkwX1_reworked_0 : List UInt8 := [42, 27, 182, 1, 65, 198, 0, 11, 42, 28, 182, 0, 150, 154, 0, 5, 2, 172, 42, 42, 180, 0, 125, 27]
abbrev dktX1_reworked_0 : List UInt8 := dkwX1_reworked_0 ++ dktX1_reworked_1
theorem dksX1_reworked_0 : cX1_reworked.data.toList.drop 0 = dktX1_reworked_0 := by decide +kernel
theorem dksX1_reworked_1 : cX1_reworked.data.toList.drop 24 = dktX1_reworked_1 := dk_seg dksX1_reworked_0 24 rfl rfl
theorem dX1_reworked_0 : decode cX1_reworked 0 = .ok (.aload_n 0, 1) := dk_42 (dk_at dksX1_reworked_0 0 rfl rfl)
theorem dX1_reworked_1 : decode cX1_reworked 1 = .ok (.iload_n 1, 1) := dk_27 (dk_at dksX1_reworked_0 1 rfl rfl)
theorem dX1_reworked_2 : decode cX1_reworked 2 = .ok (.invokevirtual 321, 3) := dk_182 1 65 (dk_at dksX1_reworked_0 2 rfl rfl)
theorem dX1_reworked_5 : decode cX1_reworked 5 = .ok (.ifnull 11, 3) := dk_198 0 11 (dk_at dksX1_reworked_0 5 rfl rfl)
theorem dX1_reworked_8 : decode cX1_reworked 8 = .ok (.aload_n 0, 1) := dk_42 (dk_at dksX1_reworked_0 8 rfl rfl)
theorem dX1_reworked_9 : decode cX1_reworked 9 = .ok (.iload_n 2, 1) := dk_28 (dk_at dksX1_reworked_0 9 rfl rfl)
theorem dX1_reworked_10 : decode cX1_reworked 10 = .ok (.invokevirtual 150, 3) := dk_182 0 150 (dk_at dksX1_reworked_0 10 rfl rfl)
theorem dX1_reworked_13 : decode cX1_reworked 13 = .ok (.ifCond .ne 5, 3) := dk_154 0 5 (dk_at dksX1_reworked_0 13 rfl rfl)
theorem dX1_reworked_16 : decode cX1_reworked 16 = .ok (.iconst (-1), 1) := dk_2 (dk_at dksX1_reworked_0 16 rfl rfl)
theorem dX1_reworked_17 : decode cX1_reworked 17 = .ok (.ireturn, 1) := dk_172 (dk_at dksX1_reworked_0 17 rfl rfl)
theorem dX1_reworked_18 : decode cX1_reworked 18 = .ok (.aload_n 0, 1) := dk_42 (dk_at dksX1_reworked_0 18 rfl rfl)
theorem dX1_reworked_19 : decode cX1_reworked 19 = .ok (.aload_n 0, 1) := dk_42 (dk_at dksX1_reworked_0 19 rfl rfl)
theorem dX1_reworked_20 : decode cX1_reworked 20 = .ok (.getfield 125, 3) := dk_180 0 125 (dk_at dksX1_reworked_0 20 rfl rfl)
theorem dX1_reworked_23 : decode cX1_reworked 23 = .ok (.iload_n 1, 1) := dk_27 (dk_at dksX1_reworked_0 23 rfl rfl)
theorem dX1_reworked_24 : decode cX1_reworked 24 = .ok (.invokevirtual 287, 3) := dk_182 1 31 (dk_at dksX1_reworked_1 0 rfl rfl)
theorem dX1_reworked_27 : decode cX1_reworked 27 = .ok (.checkcast 304, 3) := dk_192 1 48 (dk_at dksX1_reworked_1 3 rfl rfl)
theorem dX1_reworked_30 : decode cX1_reworked 30 = .ok (.invokevirtual 330, 3) := dk_182 1 74 (dk_at dksX1_reworked_1 6 rfl rfl)
theorem dX1_reworked_33 : decode cX1_reworked 33 = .ok (.aload_n 0, 1) := dk_42 (dk_at dksX1_reworked_1 9 rfl rfl)
theorem dX1_reworked_34 : decode cX1_reworked 34 = .ok (.getfield 80, 3) := dk_180 0 80 (dk_at dksX1_reworked_1 10 rfl rfl)
theorem dX1_reworked_37 : decode cX1_reworked 37 = .ok (.iload_n 2, 1) := dk_28 (dk_at dksX1_reworked_1 13 rfl rfl)
theorem dX1_reworked_38 : decode cX1_reworked 38 = .ok (.iaload, 1) := dk_46 (dk_at dksX1_reworked_1 14 rfl rfl)
theorem dX1_reworked_39 : decode cX1_reworked 39 = .ok (.ireturn, 1) := dk_172 (dk_at dksX1_reworked_1 15 rfl rfl)
abbrev cX1_rework : ByteArray := prog_1_method_41_code
def yX1_rework : MethodName := ⟨RX1, "rework", "(LLightPlate$Run;)V"⟩
def dkwX1_rework_1 : List UInt8 := [181, 1, 69, 42, 180, 0, 76, 42, 180, 0, 80, 182, 1, 73, 177]
abbrev dktX1_rework_1 : List UInt8 := dkwX1_rework_1 ++ []
def dkwX1_rework_0 : List UInt8 := [43, 180, 1, 53, 3, 42, 180, 0, 80, 3, 42, 180, 0, 138, 184, 0, 208, 42, 180, 0, 76, 43]
abbrev dktX1_rework_0 : List UInt8 := dkwX1_rework_0 ++ dktX1_rework_1
theorem dksX1_rework_0 : cX1_rework.data.toList.drop 0 = dktX1_rework_0 := by decide +kernel
theorem dksX1_rework_1 : cX1_rework.data.toList.drop 22 = dktX1_rework_1 := dk_seg dksX1_rework_0 22 rfl rfl
theorem dX1_rework_0 : decode cX1_rework 0 = .ok (.aload_n 1, 1) := dk_43 (dk_at dksX1_rework_0 0 rfl rfl)
theorem dX1_rework_1 : decode cX1_rework 1 = .ok (.getfield 309, 3) := dk_180 1 53 (dk_at dksX1_rework_0 1 rfl rfl)
theorem dX1_rework_4 : decode cX1_rework 4 = .ok (.iconst 0, 1) := dk_3 (dk_at dksX1_rework_0 4 rfl rfl)
theorem dX1_rework_5 : decode cX1_rework 5 = .ok (.aload_n 0, 1) := dk_42 (dk_at dksX1_rework_0 5 rfl rfl)
theorem dX1_rework_6 : decode cX1_rework 6 = .ok (.getfield 80, 3) := dk_180 0 80 (dk_at dksX1_rework_0 6 rfl rfl)
theorem dX1_rework_9 : decode cX1_rework 9 = .ok (.iconst 0, 1) := dk_3 (dk_at dksX1_rework_0 9 rfl rfl)
theorem dX1_rework_10 : decode cX1_rework 10 = .ok (.aload_n 0, 1) := dk_42 (dk_at dksX1_rework_0 10 rfl rfl)
theorem dX1_rework_11 : decode cX1_rework 11 = .ok (.getfield 138, 3) := dk_180 0 138 (dk_at dksX1_rework_0 11 rfl rfl)
theorem dX1_rework_14 : decode cX1_rework 14 = .ok (.invokestatic 208, 3) := dk_184 0 208 (dk_at dksX1_rework_0 14 rfl rfl)
theorem dX1_rework_17 : decode cX1_rework 17 = .ok (.aload_n 0, 1) := dk_42 (dk_at dksX1_rework_0 17 rfl rfl)
theorem dX1_rework_18 : decode cX1_rework 18 = .ok (.getfield 76, 3) := dk_180 0 76 (dk_at dksX1_rework_0 18 rfl rfl)
theorem dX1_rework_21 : decode cX1_rework 21 = .ok (.aload_n 1, 1) := dk_43 (dk_at dksX1_rework_0 21 rfl rfl)
theorem dX1_rework_22 : decode cX1_rework 22 = .ok (.putfield 325, 3) := dk_181 1 69 (dk_at dksX1_rework_1 0 rfl rfl)
theorem dX1_rework_25 : decode cX1_rework 25 = .ok (.aload_n 0, 1) := dk_42 (dk_at dksX1_rework_1 3 rfl rfl)
theorem dX1_rework_26 : decode cX1_rework 26 = .ok (.getfield 76, 3) := dk_180 0 76 (dk_at dksX1_rework_1 4 rfl rfl)
theorem dX1_rework_29 : decode cX1_rework 29 = .ok (.aload_n 0, 1) := dk_42 (dk_at dksX1_rework_1 7 rfl rfl)
theorem dX1_rework_30 : decode cX1_rework 30 = .ok (.getfield 80, 3) := dk_180 0 80 (dk_at dksX1_rework_1 8 rfl rfl)
theorem dX1_rework_33 : decode cX1_rework 33 = .ok (.invokevirtual 329, 3) := dk_182 1 73 (dk_at dksX1_rework_1 11 rfl rfl)
theorem dX1_rework_36 : decode cX1_rework 36 = .ok (.return_, 1) := dk_177 (dk_at dksX1_rework_1 14 rfl rfl)
abbrev cX1_since : ByteArray := prog_1_method_43_code
def yX1_since : MethodName := ⟨RX1, "since", "()I"⟩
def dkwX1_since_3 : List UInt8 := [167, 255, 218, 132, 1, 1, 167, 255, 184, 16, 251, 172]
abbrev dktX1_since_3 : List UInt8 := dkwX1_since_3 ++ []
def dkwX1_since_2 : List UInt8 := [180, 0, 125, 27, 182, 1, 31, 192, 1, 48, 180, 1, 56, 28, 46, 159, 0, 5, 27, 172, 132, 2, 1]
abbrev dktX1_since_2 : List UInt8 := dkwX1_since_2 ++ dktX1_since_3
def dkwX1_since_1 : List UInt8 := [192, 1, 48, 182, 1, 74, 3, 61, 28, 42, 180, 0, 138, 162, 0, 36, 42, 180, 0, 80, 28, 46, 42]
abbrev dktX1_since_1 : List UInt8 := dkwX1_since_1 ++ dktX1_since_2
def dkwX1_since_0 : List UInt8 := [3, 60, 27, 42, 180, 0, 125, 182, 1, 28, 162, 0, 67, 42, 42, 180, 0, 125, 27, 182, 1, 31]
abbrev dktX1_since_0 : List UInt8 := dkwX1_since_0 ++ dktX1_since_1
theorem dksX1_since_0 : cX1_since.data.toList.drop 0 = dktX1_since_0 := by decide +kernel
theorem dksX1_since_1 : cX1_since.data.toList.drop 22 = dktX1_since_1 := dk_seg dksX1_since_0 22 rfl rfl
theorem dksX1_since_2 : cX1_since.data.toList.drop 45 = dktX1_since_2 := dk_seg dksX1_since_1 23 rfl rfl
theorem dksX1_since_3 : cX1_since.data.toList.drop 68 = dktX1_since_3 := dk_seg dksX1_since_2 23 rfl rfl
theorem dX1_since_0 : decode cX1_since 0 = .ok (.iconst 0, 1) := dk_3 (dk_at dksX1_since_0 0 rfl rfl)
theorem dX1_since_1 : decode cX1_since 1 = .ok (.istore_n 1, 1) := dk_60 (dk_at dksX1_since_0 1 rfl rfl)
theorem dX1_since_2 : decode cX1_since 2 = .ok (.iload_n 1, 1) := dk_27 (dk_at dksX1_since_0 2 rfl rfl)
theorem dX1_since_3 : decode cX1_since 3 = .ok (.aload_n 0, 1) := dk_42 (dk_at dksX1_since_0 3 rfl rfl)
theorem dX1_since_4 : decode cX1_since 4 = .ok (.getfield 125, 3) := dk_180 0 125 (dk_at dksX1_since_0 4 rfl rfl)
theorem dX1_since_7 : decode cX1_since 7 = .ok (.invokevirtual 284, 3) := dk_182 1 28 (dk_at dksX1_since_0 7 rfl rfl)
theorem dX1_since_10 : decode cX1_since 10 = .ok (.if_icmp .ge 67, 3) := dk_162 0 67 (dk_at dksX1_since_0 10 rfl rfl)
theorem dX1_since_13 : decode cX1_since 13 = .ok (.aload_n 0, 1) := dk_42 (dk_at dksX1_since_0 13 rfl rfl)
theorem dX1_since_14 : decode cX1_since 14 = .ok (.aload_n 0, 1) := dk_42 (dk_at dksX1_since_0 14 rfl rfl)
theorem dX1_since_15 : decode cX1_since 15 = .ok (.getfield 125, 3) := dk_180 0 125 (dk_at dksX1_since_0 15 rfl rfl)
theorem dX1_since_18 : decode cX1_since 18 = .ok (.iload_n 1, 1) := dk_27 (dk_at dksX1_since_0 18 rfl rfl)
theorem dX1_since_19 : decode cX1_since 19 = .ok (.invokevirtual 287, 3) := dk_182 1 31 (dk_at dksX1_since_0 19 rfl rfl)
theorem dX1_since_22 : decode cX1_since 22 = .ok (.checkcast 304, 3) := dk_192 1 48 (dk_at dksX1_since_1 0 rfl rfl)
theorem dX1_since_25 : decode cX1_since 25 = .ok (.invokevirtual 330, 3) := dk_182 1 74 (dk_at dksX1_since_1 3 rfl rfl)
theorem dX1_since_28 : decode cX1_since 28 = .ok (.iconst 0, 1) := dk_3 (dk_at dksX1_since_1 6 rfl rfl)
theorem dX1_since_29 : decode cX1_since 29 = .ok (.istore_n 2, 1) := dk_61 (dk_at dksX1_since_1 7 rfl rfl)
theorem dX1_since_30 : decode cX1_since 30 = .ok (.iload_n 2, 1) := dk_28 (dk_at dksX1_since_1 8 rfl rfl)
theorem dX1_since_31 : decode cX1_since 31 = .ok (.aload_n 0, 1) := dk_42 (dk_at dksX1_since_1 9 rfl rfl)
theorem dX1_since_32 : decode cX1_since 32 = .ok (.getfield 138, 3) := dk_180 0 138 (dk_at dksX1_since_1 10 rfl rfl)
theorem dX1_since_35 : decode cX1_since 35 = .ok (.if_icmp .ge 36, 3) := dk_162 0 36 (dk_at dksX1_since_1 13 rfl rfl)
theorem dX1_since_38 : decode cX1_since 38 = .ok (.aload_n 0, 1) := dk_42 (dk_at dksX1_since_1 16 rfl rfl)
theorem dX1_since_39 : decode cX1_since 39 = .ok (.getfield 80, 3) := dk_180 0 80 (dk_at dksX1_since_1 17 rfl rfl)
theorem dX1_since_42 : decode cX1_since 42 = .ok (.iload_n 2, 1) := dk_28 (dk_at dksX1_since_1 20 rfl rfl)
theorem dX1_since_43 : decode cX1_since 43 = .ok (.iaload, 1) := dk_46 (dk_at dksX1_since_1 21 rfl rfl)
theorem dX1_since_44 : decode cX1_since 44 = .ok (.aload_n 0, 1) := dk_42 (dk_at dksX1_since_1 22 rfl rfl)
theorem dX1_since_45 : decode cX1_since 45 = .ok (.getfield 125, 3) := dk_180 0 125 (dk_at dksX1_since_2 0 rfl rfl)
theorem dX1_since_48 : decode cX1_since 48 = .ok (.iload_n 1, 1) := dk_27 (dk_at dksX1_since_2 3 rfl rfl)
theorem dX1_since_49 : decode cX1_since 49 = .ok (.invokevirtual 287, 3) := dk_182 1 31 (dk_at dksX1_since_2 4 rfl rfl)
theorem dX1_since_52 : decode cX1_since 52 = .ok (.checkcast 304, 3) := dk_192 1 48 (dk_at dksX1_since_2 7 rfl rfl)
theorem dX1_since_55 : decode cX1_since 55 = .ok (.getfield 312, 3) := dk_180 1 56 (dk_at dksX1_since_2 10 rfl rfl)
theorem dX1_since_58 : decode cX1_since 58 = .ok (.iload_n 2, 1) := dk_28 (dk_at dksX1_since_2 13 rfl rfl)
theorem dX1_since_59 : decode cX1_since 59 = .ok (.iaload, 1) := dk_46 (dk_at dksX1_since_2 14 rfl rfl)
theorem dX1_since_60 : decode cX1_since 60 = .ok (.if_icmp .eq 5, 3) := dk_159 0 5 (dk_at dksX1_since_2 15 rfl rfl)
theorem dX1_since_63 : decode cX1_since 63 = .ok (.iload_n 1, 1) := dk_27 (dk_at dksX1_since_2 18 rfl rfl)
theorem dX1_since_64 : decode cX1_since 64 = .ok (.ireturn, 1) := dk_172 (dk_at dksX1_since_2 19 rfl rfl)
theorem dX1_since_65 : decode cX1_since 65 = .ok (.iinc 2 1, 3) := dk_132 2 1 (dk_at dksX1_since_2 20 rfl rfl)
theorem dX1_since_68 : decode cX1_since 68 = .ok (.goto (-38), 3) := dk_167 255 218 (dk_at dksX1_since_3 0 rfl rfl)
theorem dX1_since_71 : decode cX1_since 71 = .ok (.iinc 1 1, 3) := dk_132 1 1 (dk_at dksX1_since_3 3 rfl rfl)
theorem dX1_since_74 : decode cX1_since 74 = .ok (.goto (-72), 3) := dk_167 255 184 (dk_at dksX1_since_3 6 rfl rfl)
theorem dX1_since_77 : decode cX1_since 77 = .ok (.bipush (-5), 2) := dk_16 251 (dk_at dksX1_since_3 9 rfl rfl)
theorem dX1_since_79 : decode cX1_since 79 = .ok (.ireturn, 1) := dk_172 (dk_at dksX1_since_3 11 rfl rfl)
abbrev cX1_found : ByteArray := prog_1_method_44_code
def yX1_found : MethodName := ⟨RX1, "found", "(IIII)I"⟩
def dkwX1_found_3 : List UInt8 := [180, 0, 129, 187, 1, 35, 89, 25, 5, 29, 21, 4, 183, 1, 78, 182, 1, 60, 87, 42, 180, 0, 161, 172]
abbrev dktX1_found_3 : List UInt8 := dkwX1_found_3 ++ []
def dkwX1_found_2 : List UInt8 := [180, 0, 161, 16, 60, 160, 0, 6, 16, 252, 172, 42, 89, 180, 0, 161, 4, 96, 181, 0, 161, 42]
abbrev dktX1_found_2 : List UInt8 := dkwX1_found_2 ++ dktX1_found_3
def dkwX1_found_1 : List UInt8 := [153, 0, 19, 21, 4, 3, 42, 180, 0, 125, 182, 1, 28, 184, 0, 25, 154, 0, 6, 16, 254, 172, 42]
abbrev dktX1_found_1 : List UInt8 := dkwX1_found_1 ++ dktX1_found_2
def dkwX1_found_0 : List UInt8 := [42, 27, 28, 182, 0, 154, 58, 5, 25, 5, 199, 0, 5, 2, 172, 29, 16, 248, 16, 8, 184, 0, 25]
abbrev dktX1_found_0 : List UInt8 := dkwX1_found_0 ++ dktX1_found_1
theorem dksX1_found_0 : cX1_found.data.toList.drop 0 = dktX1_found_0 := by decide +kernel
theorem dksX1_found_1 : cX1_found.data.toList.drop 23 = dktX1_found_1 := dk_seg dksX1_found_0 23 rfl rfl
theorem dksX1_found_2 : cX1_found.data.toList.drop 46 = dktX1_found_2 := dk_seg dksX1_found_1 23 rfl rfl
theorem dksX1_found_3 : cX1_found.data.toList.drop 68 = dktX1_found_3 := dk_seg dksX1_found_2 22 rfl rfl
theorem dX1_found_0 : decode cX1_found 0 = .ok (.aload_n 0, 1) := dk_42 (dk_at dksX1_found_0 0 rfl rfl)
theorem dX1_found_1 : decode cX1_found 1 = .ok (.iload_n 1, 1) := dk_27 (dk_at dksX1_found_0 1 rfl rfl)
theorem dX1_found_2 : decode cX1_found 2 = .ok (.iload_n 2, 1) := dk_28 (dk_at dksX1_found_0 2 rfl rfl)
theorem dX1_found_3 : decode cX1_found 3 = .ok (.invokevirtual 154, 3) := dk_182 0 154 (dk_at dksX1_found_0 3 rfl rfl)
theorem dX1_found_6 : decode cX1_found 6 = .ok (.astore 5, 2) := dk_58 5 (dk_at dksX1_found_0 6 rfl rfl)
theorem dX1_found_8 : decode cX1_found 8 = .ok (.aload 5, 2) := dk_25 5 (dk_at dksX1_found_0 8 rfl rfl)
theorem dX1_found_10 : decode cX1_found 10 = .ok (.ifnonnull 5, 3) := dk_199 0 5 (dk_at dksX1_found_0 10 rfl rfl)
theorem dX1_found_13 : decode cX1_found 13 = .ok (.iconst (-1), 1) := dk_2 (dk_at dksX1_found_0 13 rfl rfl)
theorem dX1_found_14 : decode cX1_found 14 = .ok (.ireturn, 1) := dk_172 (dk_at dksX1_found_0 14 rfl rfl)
theorem dX1_found_15 : decode cX1_found 15 = .ok (.iload_n 3, 1) := dk_29 (dk_at dksX1_found_0 15 rfl rfl)
theorem dX1_found_16 : decode cX1_found 16 = .ok (.bipush (-8), 2) := dk_16 248 (dk_at dksX1_found_0 16 rfl rfl)
theorem dX1_found_18 : decode cX1_found 18 = .ok (.bipush 8, 2) := dk_16 8 (dk_at dksX1_found_0 18 rfl rfl)
theorem dX1_found_20 : decode cX1_found 20 = .ok (.invokestatic 25, 3) := dk_184 0 25 (dk_at dksX1_found_0 20 rfl rfl)
theorem dX1_found_23 : decode cX1_found 23 = .ok (.ifCond .eq 19, 3) := dk_153 0 19 (dk_at dksX1_found_1 0 rfl rfl)
theorem dX1_found_26 : decode cX1_found 26 = .ok (.iload 4, 2) := dk_21 4 (dk_at dksX1_found_1 3 rfl rfl)
theorem dX1_found_28 : decode cX1_found 28 = .ok (.iconst 0, 1) := dk_3 (dk_at dksX1_found_1 5 rfl rfl)
theorem dX1_found_29 : decode cX1_found 29 = .ok (.aload_n 0, 1) := dk_42 (dk_at dksX1_found_1 6 rfl rfl)
theorem dX1_found_30 : decode cX1_found 30 = .ok (.getfield 125, 3) := dk_180 0 125 (dk_at dksX1_found_1 7 rfl rfl)
theorem dX1_found_33 : decode cX1_found 33 = .ok (.invokevirtual 284, 3) := dk_182 1 28 (dk_at dksX1_found_1 10 rfl rfl)
theorem dX1_found_36 : decode cX1_found 36 = .ok (.invokestatic 25, 3) := dk_184 0 25 (dk_at dksX1_found_1 13 rfl rfl)
theorem dX1_found_39 : decode cX1_found 39 = .ok (.ifCond .ne 6, 3) := dk_154 0 6 (dk_at dksX1_found_1 16 rfl rfl)
theorem dX1_found_42 : decode cX1_found 42 = .ok (.bipush (-2), 2) := dk_16 254 (dk_at dksX1_found_1 19 rfl rfl)
theorem dX1_found_44 : decode cX1_found 44 = .ok (.ireturn, 1) := dk_172 (dk_at dksX1_found_1 21 rfl rfl)
theorem dX1_found_45 : decode cX1_found 45 = .ok (.aload_n 0, 1) := dk_42 (dk_at dksX1_found_1 22 rfl rfl)
theorem dX1_found_46 : decode cX1_found 46 = .ok (.getfield 161, 3) := dk_180 0 161 (dk_at dksX1_found_2 0 rfl rfl)
theorem dX1_found_49 : decode cX1_found 49 = .ok (.bipush 60, 2) := dk_16 60 (dk_at dksX1_found_2 3 rfl rfl)
theorem dX1_found_51 : decode cX1_found 51 = .ok (.if_icmp .ne 6, 3) := dk_160 0 6 (dk_at dksX1_found_2 5 rfl rfl)
theorem dX1_found_54 : decode cX1_found 54 = .ok (.bipush (-4), 2) := dk_16 252 (dk_at dksX1_found_2 8 rfl rfl)
theorem dX1_found_56 : decode cX1_found 56 = .ok (.ireturn, 1) := dk_172 (dk_at dksX1_found_2 10 rfl rfl)
theorem dX1_found_57 : decode cX1_found 57 = .ok (.aload_n 0, 1) := dk_42 (dk_at dksX1_found_2 11 rfl rfl)
theorem dX1_found_58 : decode cX1_found 58 = .ok (.dup, 1) := dk_89 (dk_at dksX1_found_2 12 rfl rfl)
theorem dX1_found_59 : decode cX1_found 59 = .ok (.getfield 161, 3) := dk_180 0 161 (dk_at dksX1_found_2 13 rfl rfl)
theorem dX1_found_62 : decode cX1_found 62 = .ok (.iconst 1, 1) := dk_4 (dk_at dksX1_found_2 16 rfl rfl)
theorem dX1_found_63 : decode cX1_found 63 = .ok (.iadd, 1) := dk_96 (dk_at dksX1_found_2 17 rfl rfl)
theorem dX1_found_64 : decode cX1_found 64 = .ok (.putfield 161, 3) := dk_181 0 161 (dk_at dksX1_found_2 18 rfl rfl)
theorem dX1_found_67 : decode cX1_found 67 = .ok (.aload_n 0, 1) := dk_42 (dk_at dksX1_found_2 21 rfl rfl)
theorem dX1_found_68 : decode cX1_found 68 = .ok (.getfield 129, 3) := dk_180 0 129 (dk_at dksX1_found_3 0 rfl rfl)
theorem dX1_found_71 : decode cX1_found 71 = .ok (.new 291, 3) := dk_187 1 35 (dk_at dksX1_found_3 3 rfl rfl)
theorem dX1_found_74 : decode cX1_found 74 = .ok (.dup, 1) := dk_89 (dk_at dksX1_found_3 6 rfl rfl)
theorem dX1_found_75 : decode cX1_found 75 = .ok (.aload 5, 2) := dk_25 5 (dk_at dksX1_found_3 7 rfl rfl)
theorem dX1_found_77 : decode cX1_found 77 = .ok (.iload_n 3, 1) := dk_29 (dk_at dksX1_found_3 9 rfl rfl)
theorem dX1_found_78 : decode cX1_found 78 = .ok (.iload 4, 2) := dk_21 4 (dk_at dksX1_found_3 10 rfl rfl)
theorem dX1_found_80 : decode cX1_found 80 = .ok (.invokespecial 334, 3) := dk_183 1 78 (dk_at dksX1_found_3 12 rfl rfl)
theorem dX1_found_83 : decode cX1_found 83 = .ok (.invokevirtual 316, 3) := dk_182 1 60 (dk_at dksX1_found_3 15 rfl rfl)
theorem dX1_found_86 : decode cX1_found 86 = .ok (.pop, 1) := dk_87 (dk_at dksX1_found_3 18 rfl rfl)
theorem dX1_found_87 : decode cX1_found 87 = .ok (.aload_n 0, 1) := dk_42 (dk_at dksX1_found_3 19 rfl rfl)
theorem dX1_found_88 : decode cX1_found 88 = .ok (.getfield 161, 3) := dk_180 0 161 (dk_at dksX1_found_3 20 rfl rfl)
theorem dX1_found_91 : decode cX1_found 91 = .ok (.ireturn, 1) := dk_172 (dk_at dksX1_found_3 23 rfl rfl)
abbrev cX1_probing : ByteArray := prog_1_method_45_code
def yX1_probing : MethodName := ⟨RX1, "probing", "()I"⟩
def dkwX1_probing_5 : List UInt8 := [182, 1, 28, 172]
abbrev dktX1_probing_5 : List UInt8 := dkwX1_probing_5 ++ []
def dkwX1_probing_4 : List UInt8 := [183, 1, 89, 182, 1, 60, 87, 132, 5, 1, 167, 255, 223, 132, 3, 1, 167, 255, 187, 42, 180, 0, 132]
abbrev dktX1_probing_4 : List UInt8 := dkwX1_probing_4 ++ dktX1_probing_5
def dkwX1_probing_3 : List UInt8 := [21, 5, 6, 162, 0, 33, 21, 5, 153, 0, 22, 42, 180, 0, 132, 187, 1, 87, 89, 25, 4, 21, 5]
abbrev dktX1_probing_3 : List UInt8 := dkwX1_probing_3 ++ dktX1_probing_4
def dkwX1_probing_2 : List UInt8 := [50, 58, 4, 25, 4, 198, 0, 54, 25, 4, 182, 0, 167, 153, 0, 6, 167, 0, 43, 16, 254, 54, 5]
abbrev dktX1_probing_2 : List UInt8 := dkwX1_probing_2 ++ dktX1_probing_3
def dkwX1_probing_1 : List UInt8 := [183, 1, 89, 182, 1, 60, 87, 42, 180, 0, 143, 76, 43, 190, 61, 3, 62, 29, 28, 162, 0, 70, 43, 29]
abbrev dktX1_probing_1 : List UInt8 := dkwX1_probing_1 ++ dktX1_probing_2
def dkwX1_probing_0 : List UInt8 := [42, 180, 0, 132, 182, 1, 81, 42, 3, 181, 1, 84, 42, 180, 0, 132, 187, 1, 87, 89, 1, 3]
abbrev dktX1_probing_0 : List UInt8 := dkwX1_probing_0 ++ dktX1_probing_1
theorem dksX1_probing_0 : cX1_probing.data.toList.drop 0 = dktX1_probing_0 := by decide +kernel
theorem dksX1_probing_1 : cX1_probing.data.toList.drop 22 = dktX1_probing_1 := dk_seg dksX1_probing_0 22 rfl rfl
theorem dksX1_probing_2 : cX1_probing.data.toList.drop 46 = dktX1_probing_2 := dk_seg dksX1_probing_1 24 rfl rfl
theorem dksX1_probing_3 : cX1_probing.data.toList.drop 69 = dktX1_probing_3 := dk_seg dksX1_probing_2 23 rfl rfl
theorem dksX1_probing_4 : cX1_probing.data.toList.drop 92 = dktX1_probing_4 := dk_seg dksX1_probing_3 23 rfl rfl
theorem dksX1_probing_5 : cX1_probing.data.toList.drop 115 = dktX1_probing_5 := dk_seg dksX1_probing_4 23 rfl rfl
theorem dX1_probing_0 : decode cX1_probing 0 = .ok (.aload_n 0, 1) := dk_42 (dk_at dksX1_probing_0 0 rfl rfl)
theorem dX1_probing_1 : decode cX1_probing 1 = .ok (.getfield 132, 3) := dk_180 0 132 (dk_at dksX1_probing_0 1 rfl rfl)
theorem dX1_probing_4 : decode cX1_probing 4 = .ok (.invokevirtual 337, 3) := dk_182 1 81 (dk_at dksX1_probing_0 4 rfl rfl)
theorem dX1_probing_7 : decode cX1_probing 7 = .ok (.aload_n 0, 1) := dk_42 (dk_at dksX1_probing_0 7 rfl rfl)
theorem dX1_probing_8 : decode cX1_probing 8 = .ok (.iconst 0, 1) := dk_3 (dk_at dksX1_probing_0 8 rfl rfl)
theorem dX1_probing_9 : decode cX1_probing 9 = .ok (.putfield 340, 3) := dk_181 1 84 (dk_at dksX1_probing_0 9 rfl rfl)
theorem dX1_probing_12 : decode cX1_probing 12 = .ok (.aload_n 0, 1) := dk_42 (dk_at dksX1_probing_0 12 rfl rfl)
theorem dX1_probing_13 : decode cX1_probing 13 = .ok (.getfield 132, 3) := dk_180 0 132 (dk_at dksX1_probing_0 13 rfl rfl)
theorem dX1_probing_16 : decode cX1_probing 16 = .ok (.new 343, 3) := dk_187 1 87 (dk_at dksX1_probing_0 16 rfl rfl)
theorem dX1_probing_19 : decode cX1_probing 19 = .ok (.dup, 1) := dk_89 (dk_at dksX1_probing_0 19 rfl rfl)
theorem dX1_probing_20 : decode cX1_probing 20 = .ok (.aconst_null, 1) := dk_1 (dk_at dksX1_probing_0 20 rfl rfl)
theorem dX1_probing_21 : decode cX1_probing 21 = .ok (.iconst 0, 1) := dk_3 (dk_at dksX1_probing_0 21 rfl rfl)
theorem dX1_probing_22 : decode cX1_probing 22 = .ok (.invokespecial 345, 3) := dk_183 1 89 (dk_at dksX1_probing_1 0 rfl rfl)
theorem dX1_probing_25 : decode cX1_probing 25 = .ok (.invokevirtual 316, 3) := dk_182 1 60 (dk_at dksX1_probing_1 3 rfl rfl)
theorem dX1_probing_28 : decode cX1_probing 28 = .ok (.pop, 1) := dk_87 (dk_at dksX1_probing_1 6 rfl rfl)
theorem dX1_probing_29 : decode cX1_probing 29 = .ok (.aload_n 0, 1) := dk_42 (dk_at dksX1_probing_1 7 rfl rfl)
theorem dX1_probing_30 : decode cX1_probing 30 = .ok (.getfield 143, 3) := dk_180 0 143 (dk_at dksX1_probing_1 8 rfl rfl)
theorem dX1_probing_33 : decode cX1_probing 33 = .ok (.astore_n 1, 1) := dk_76 (dk_at dksX1_probing_1 11 rfl rfl)
theorem dX1_probing_34 : decode cX1_probing 34 = .ok (.aload_n 1, 1) := dk_43 (dk_at dksX1_probing_1 12 rfl rfl)
theorem dX1_probing_35 : decode cX1_probing 35 = .ok (.arraylength, 1) := dk_190 (dk_at dksX1_probing_1 13 rfl rfl)
theorem dX1_probing_36 : decode cX1_probing 36 = .ok (.istore_n 2, 1) := dk_61 (dk_at dksX1_probing_1 14 rfl rfl)
theorem dX1_probing_37 : decode cX1_probing 37 = .ok (.iconst 0, 1) := dk_3 (dk_at dksX1_probing_1 15 rfl rfl)
theorem dX1_probing_38 : decode cX1_probing 38 = .ok (.istore_n 3, 1) := dk_62 (dk_at dksX1_probing_1 16 rfl rfl)
theorem dX1_probing_39 : decode cX1_probing 39 = .ok (.iload_n 3, 1) := dk_29 (dk_at dksX1_probing_1 17 rfl rfl)
theorem dX1_probing_40 : decode cX1_probing 40 = .ok (.iload_n 2, 1) := dk_28 (dk_at dksX1_probing_1 18 rfl rfl)
theorem dX1_probing_41 : decode cX1_probing 41 = .ok (.if_icmp .ge 70, 3) := dk_162 0 70 (dk_at dksX1_probing_1 19 rfl rfl)
theorem dX1_probing_44 : decode cX1_probing 44 = .ok (.aload_n 1, 1) := dk_43 (dk_at dksX1_probing_1 22 rfl rfl)
theorem dX1_probing_45 : decode cX1_probing 45 = .ok (.iload_n 3, 1) := dk_29 (dk_at dksX1_probing_1 23 rfl rfl)
theorem dX1_probing_46 : decode cX1_probing 46 = .ok (.aaload, 1) := dk_50 (dk_at dksX1_probing_2 0 rfl rfl)
theorem dX1_probing_47 : decode cX1_probing 47 = .ok (.astore 4, 2) := dk_58 4 (dk_at dksX1_probing_2 1 rfl rfl)
theorem dX1_probing_49 : decode cX1_probing 49 = .ok (.aload 4, 2) := dk_25 4 (dk_at dksX1_probing_2 3 rfl rfl)
theorem dX1_probing_51 : decode cX1_probing 51 = .ok (.ifnull 54, 3) := dk_198 0 54 (dk_at dksX1_probing_2 5 rfl rfl)
theorem dX1_probing_54 : decode cX1_probing 54 = .ok (.aload 4, 2) := dk_25 4 (dk_at dksX1_probing_2 8 rfl rfl)
theorem dX1_probing_56 : decode cX1_probing 56 = .ok (.invokevirtual 167, 3) := dk_182 0 167 (dk_at dksX1_probing_2 10 rfl rfl)
theorem dX1_probing_59 : decode cX1_probing 59 = .ok (.ifCond .eq 6, 3) := dk_153 0 6 (dk_at dksX1_probing_2 13 rfl rfl)
theorem dX1_probing_62 : decode cX1_probing 62 = .ok (.goto 43, 3) := dk_167 0 43 (dk_at dksX1_probing_2 16 rfl rfl)
theorem dX1_probing_65 : decode cX1_probing 65 = .ok (.bipush (-2), 2) := dk_16 254 (dk_at dksX1_probing_2 19 rfl rfl)
theorem dX1_probing_67 : decode cX1_probing 67 = .ok (.istore 5, 2) := dk_54 5 (dk_at dksX1_probing_2 21 rfl rfl)
theorem dX1_probing_69 : decode cX1_probing 69 = .ok (.iload 5, 2) := dk_21 5 (dk_at dksX1_probing_3 0 rfl rfl)
theorem dX1_probing_71 : decode cX1_probing 71 = .ok (.iconst 3, 1) := dk_6 (dk_at dksX1_probing_3 2 rfl rfl)
theorem dX1_probing_72 : decode cX1_probing 72 = .ok (.if_icmp .ge 33, 3) := dk_162 0 33 (dk_at dksX1_probing_3 3 rfl rfl)
theorem dX1_probing_75 : decode cX1_probing 75 = .ok (.iload 5, 2) := dk_21 5 (dk_at dksX1_probing_3 6 rfl rfl)
theorem dX1_probing_77 : decode cX1_probing 77 = .ok (.ifCond .eq 22, 3) := dk_153 0 22 (dk_at dksX1_probing_3 8 rfl rfl)
theorem dX1_probing_80 : decode cX1_probing 80 = .ok (.aload_n 0, 1) := dk_42 (dk_at dksX1_probing_3 11 rfl rfl)
theorem dX1_probing_81 : decode cX1_probing 81 = .ok (.getfield 132, 3) := dk_180 0 132 (dk_at dksX1_probing_3 12 rfl rfl)
theorem dX1_probing_84 : decode cX1_probing 84 = .ok (.new 343, 3) := dk_187 1 87 (dk_at dksX1_probing_3 15 rfl rfl)
theorem dX1_probing_87 : decode cX1_probing 87 = .ok (.dup, 1) := dk_89 (dk_at dksX1_probing_3 18 rfl rfl)
theorem dX1_probing_88 : decode cX1_probing 88 = .ok (.aload 4, 2) := dk_25 4 (dk_at dksX1_probing_3 19 rfl rfl)
theorem dX1_probing_90 : decode cX1_probing 90 = .ok (.iload 5, 2) := dk_21 5 (dk_at dksX1_probing_3 21 rfl rfl)
theorem dX1_probing_92 : decode cX1_probing 92 = .ok (.invokespecial 345, 3) := dk_183 1 89 (dk_at dksX1_probing_4 0 rfl rfl)
theorem dX1_probing_95 : decode cX1_probing 95 = .ok (.invokevirtual 316, 3) := dk_182 1 60 (dk_at dksX1_probing_4 3 rfl rfl)
theorem dX1_probing_98 : decode cX1_probing 98 = .ok (.pop, 1) := dk_87 (dk_at dksX1_probing_4 6 rfl rfl)
theorem dX1_probing_99 : decode cX1_probing 99 = .ok (.iinc 5 1, 3) := dk_132 5 1 (dk_at dksX1_probing_4 7 rfl rfl)
theorem dX1_probing_102 : decode cX1_probing 102 = .ok (.goto (-33), 3) := dk_167 255 223 (dk_at dksX1_probing_4 10 rfl rfl)
theorem dX1_probing_105 : decode cX1_probing 105 = .ok (.iinc 3 1, 3) := dk_132 3 1 (dk_at dksX1_probing_4 13 rfl rfl)
theorem dX1_probing_108 : decode cX1_probing 108 = .ok (.goto (-69), 3) := dk_167 255 187 (dk_at dksX1_probing_4 16 rfl rfl)
theorem dX1_probing_111 : decode cX1_probing 111 = .ok (.aload_n 0, 1) := dk_42 (dk_at dksX1_probing_4 19 rfl rfl)
theorem dX1_probing_112 : decode cX1_probing 112 = .ok (.getfield 132, 3) := dk_180 0 132 (dk_at dksX1_probing_4 20 rfl rfl)
theorem dX1_probing_115 : decode cX1_probing 115 = .ok (.invokevirtual 284, 3) := dk_182 1 28 (dk_at dksX1_probing_5 0 rfl rfl)
theorem dX1_probing_118 : decode cX1_probing 118 = .ok (.ireturn, 1) := dk_172 (dk_at dksX1_probing_5 3 rfl rfl)
abbrev cX1_probe : ByteArray := prog_1_method_47_code
def yX1_probe : MethodName := ⟨RX1, "probe", "(II)I"⟩
def dkwX1_probe_5 : List UInt8 := [182, 1, 103, 29, 160, 0, 7, 4, 167, 0, 4, 3, 126, 181, 1, 100, 132, 4, 1, 167, 255, 194, 29, 172]
abbrev dktX1_probe_5 : List UInt8 := dkwX1_probe_5 ++ []
def dkwX1_probe_4 : List UInt8 := [192, 1, 87, 89, 180, 1, 100, 42, 42, 180, 0, 132, 21, 4, 182, 1, 31, 192, 1, 87, 27, 28]
abbrev dktX1_probe_4 : List UInt8 := dkwX1_probe_4 ++ dktX1_probe_5
def dkwX1_probe_3 : List UInt8 := [3, 54, 4, 21, 4, 42, 180, 0, 132, 182, 1, 28, 162, 0, 56, 42, 180, 0, 132, 21, 4, 182, 1, 31]
abbrev dktX1_probe_3 : List UInt8 := dkwX1_probe_3 ++ dktX1_probe_4
def dkwX1_probe_2 : List UInt8 := [180, 1, 84, 4, 96, 181, 1, 84, 42, 42, 180, 0, 62, 27, 182, 0, 194, 42, 180, 0, 80, 28, 46, 62]
abbrev dktX1_probe_2 : List UInt8 := dkwX1_probe_2 ++ dktX1_probe_3
def dkwX1_probe_1 : List UInt8 := [182, 1, 28, 154, 0, 6, 16, 253, 172, 42, 180, 1, 84, 16, 20, 160, 0, 6, 16, 252, 172, 42, 89]
abbrev dktX1_probe_1 : List UInt8 := dkwX1_probe_1 ++ dktX1_probe_2
def dkwX1_probe_0 : List UInt8 := [42, 27, 182, 0, 150, 153, 0, 11, 42, 28, 182, 0, 150, 154, 0, 5, 2, 172, 42, 180, 0, 132]
abbrev dktX1_probe_0 : List UInt8 := dkwX1_probe_0 ++ dktX1_probe_1
theorem dksX1_probe_0 : cX1_probe.data.toList.drop 0 = dktX1_probe_0 := by decide +kernel
theorem dksX1_probe_1 : cX1_probe.data.toList.drop 22 = dktX1_probe_1 := dk_seg dksX1_probe_0 22 rfl rfl
theorem dksX1_probe_2 : cX1_probe.data.toList.drop 45 = dktX1_probe_2 := dk_seg dksX1_probe_1 23 rfl rfl
theorem dksX1_probe_3 : cX1_probe.data.toList.drop 69 = dktX1_probe_3 := dk_seg dksX1_probe_2 24 rfl rfl
theorem dksX1_probe_4 : cX1_probe.data.toList.drop 93 = dktX1_probe_4 := dk_seg dksX1_probe_3 24 rfl rfl
theorem dksX1_probe_5 : cX1_probe.data.toList.drop 115 = dktX1_probe_5 := dk_seg dksX1_probe_4 22 rfl rfl
theorem dX1_probe_0 : decode cX1_probe 0 = .ok (.aload_n 0, 1) := dk_42 (dk_at dksX1_probe_0 0 rfl rfl)
theorem dX1_probe_1 : decode cX1_probe 1 = .ok (.iload_n 1, 1) := dk_27 (dk_at dksX1_probe_0 1 rfl rfl)
theorem dX1_probe_2 : decode cX1_probe 2 = .ok (.invokevirtual 150, 3) := dk_182 0 150 (dk_at dksX1_probe_0 2 rfl rfl)
theorem dX1_probe_5 : decode cX1_probe 5 = .ok (.ifCond .eq 11, 3) := dk_153 0 11 (dk_at dksX1_probe_0 5 rfl rfl)
theorem dX1_probe_8 : decode cX1_probe 8 = .ok (.aload_n 0, 1) := dk_42 (dk_at dksX1_probe_0 8 rfl rfl)
theorem dX1_probe_9 : decode cX1_probe 9 = .ok (.iload_n 2, 1) := dk_28 (dk_at dksX1_probe_0 9 rfl rfl)
theorem dX1_probe_10 : decode cX1_probe 10 = .ok (.invokevirtual 150, 3) := dk_182 0 150 (dk_at dksX1_probe_0 10 rfl rfl)
theorem dX1_probe_13 : decode cX1_probe 13 = .ok (.ifCond .ne 5, 3) := dk_154 0 5 (dk_at dksX1_probe_0 13 rfl rfl)
theorem dX1_probe_16 : decode cX1_probe 16 = .ok (.iconst (-1), 1) := dk_2 (dk_at dksX1_probe_0 16 rfl rfl)
theorem dX1_probe_17 : decode cX1_probe 17 = .ok (.ireturn, 1) := dk_172 (dk_at dksX1_probe_0 17 rfl rfl)
theorem dX1_probe_18 : decode cX1_probe 18 = .ok (.aload_n 0, 1) := dk_42 (dk_at dksX1_probe_0 18 rfl rfl)
theorem dX1_probe_19 : decode cX1_probe 19 = .ok (.getfield 132, 3) := dk_180 0 132 (dk_at dksX1_probe_0 19 rfl rfl)
theorem dX1_probe_22 : decode cX1_probe 22 = .ok (.invokevirtual 284, 3) := dk_182 1 28 (dk_at dksX1_probe_1 0 rfl rfl)
theorem dX1_probe_25 : decode cX1_probe 25 = .ok (.ifCond .ne 6, 3) := dk_154 0 6 (dk_at dksX1_probe_1 3 rfl rfl)
theorem dX1_probe_28 : decode cX1_probe 28 = .ok (.bipush (-3), 2) := dk_16 253 (dk_at dksX1_probe_1 6 rfl rfl)
theorem dX1_probe_30 : decode cX1_probe 30 = .ok (.ireturn, 1) := dk_172 (dk_at dksX1_probe_1 8 rfl rfl)
theorem dX1_probe_31 : decode cX1_probe 31 = .ok (.aload_n 0, 1) := dk_42 (dk_at dksX1_probe_1 9 rfl rfl)
theorem dX1_probe_32 : decode cX1_probe 32 = .ok (.getfield 340, 3) := dk_180 1 84 (dk_at dksX1_probe_1 10 rfl rfl)
theorem dX1_probe_35 : decode cX1_probe 35 = .ok (.bipush 20, 2) := dk_16 20 (dk_at dksX1_probe_1 13 rfl rfl)
theorem dX1_probe_37 : decode cX1_probe 37 = .ok (.if_icmp .ne 6, 3) := dk_160 0 6 (dk_at dksX1_probe_1 15 rfl rfl)
theorem dX1_probe_40 : decode cX1_probe 40 = .ok (.bipush (-4), 2) := dk_16 252 (dk_at dksX1_probe_1 18 rfl rfl)
theorem dX1_probe_42 : decode cX1_probe 42 = .ok (.ireturn, 1) := dk_172 (dk_at dksX1_probe_1 20 rfl rfl)
theorem dX1_probe_43 : decode cX1_probe 43 = .ok (.aload_n 0, 1) := dk_42 (dk_at dksX1_probe_1 21 rfl rfl)
theorem dX1_probe_44 : decode cX1_probe 44 = .ok (.dup, 1) := dk_89 (dk_at dksX1_probe_1 22 rfl rfl)
theorem dX1_probe_45 : decode cX1_probe 45 = .ok (.getfield 340, 3) := dk_180 1 84 (dk_at dksX1_probe_2 0 rfl rfl)
theorem dX1_probe_48 : decode cX1_probe 48 = .ok (.iconst 1, 1) := dk_4 (dk_at dksX1_probe_2 3 rfl rfl)
theorem dX1_probe_49 : decode cX1_probe 49 = .ok (.iadd, 1) := dk_96 (dk_at dksX1_probe_2 4 rfl rfl)
theorem dX1_probe_50 : decode cX1_probe 50 = .ok (.putfield 340, 3) := dk_181 1 84 (dk_at dksX1_probe_2 5 rfl rfl)
theorem dX1_probe_53 : decode cX1_probe 53 = .ok (.aload_n 0, 1) := dk_42 (dk_at dksX1_probe_2 8 rfl rfl)
theorem dX1_probe_54 : decode cX1_probe 54 = .ok (.aload_n 0, 1) := dk_42 (dk_at dksX1_probe_2 9 rfl rfl)
theorem dX1_probe_55 : decode cX1_probe 55 = .ok (.getfield 62, 3) := dk_180 0 62 (dk_at dksX1_probe_2 10 rfl rfl)
theorem dX1_probe_58 : decode cX1_probe 58 = .ok (.iload_n 1, 1) := dk_27 (dk_at dksX1_probe_2 13 rfl rfl)
theorem dX1_probe_59 : decode cX1_probe 59 = .ok (.invokevirtual 194, 3) := dk_182 0 194 (dk_at dksX1_probe_2 14 rfl rfl)
theorem dX1_probe_62 : decode cX1_probe 62 = .ok (.aload_n 0, 1) := dk_42 (dk_at dksX1_probe_2 17 rfl rfl)
theorem dX1_probe_63 : decode cX1_probe 63 = .ok (.getfield 80, 3) := dk_180 0 80 (dk_at dksX1_probe_2 18 rfl rfl)
theorem dX1_probe_66 : decode cX1_probe 66 = .ok (.iload_n 2, 1) := dk_28 (dk_at dksX1_probe_2 21 rfl rfl)
theorem dX1_probe_67 : decode cX1_probe 67 = .ok (.iaload, 1) := dk_46 (dk_at dksX1_probe_2 22 rfl rfl)
theorem dX1_probe_68 : decode cX1_probe 68 = .ok (.istore_n 3, 1) := dk_62 (dk_at dksX1_probe_2 23 rfl rfl)
theorem dX1_probe_69 : decode cX1_probe 69 = .ok (.iconst 0, 1) := dk_3 (dk_at dksX1_probe_3 0 rfl rfl)
theorem dX1_probe_70 : decode cX1_probe 70 = .ok (.istore 4, 2) := dk_54 4 (dk_at dksX1_probe_3 1 rfl rfl)
theorem dX1_probe_72 : decode cX1_probe 72 = .ok (.iload 4, 2) := dk_21 4 (dk_at dksX1_probe_3 3 rfl rfl)
theorem dX1_probe_74 : decode cX1_probe 74 = .ok (.aload_n 0, 1) := dk_42 (dk_at dksX1_probe_3 5 rfl rfl)
theorem dX1_probe_75 : decode cX1_probe 75 = .ok (.getfield 132, 3) := dk_180 0 132 (dk_at dksX1_probe_3 6 rfl rfl)
theorem dX1_probe_78 : decode cX1_probe 78 = .ok (.invokevirtual 284, 3) := dk_182 1 28 (dk_at dksX1_probe_3 9 rfl rfl)
theorem dX1_probe_81 : decode cX1_probe 81 = .ok (.if_icmp .ge 56, 3) := dk_162 0 56 (dk_at dksX1_probe_3 12 rfl rfl)
theorem dX1_probe_84 : decode cX1_probe 84 = .ok (.aload_n 0, 1) := dk_42 (dk_at dksX1_probe_3 15 rfl rfl)
theorem dX1_probe_85 : decode cX1_probe 85 = .ok (.getfield 132, 3) := dk_180 0 132 (dk_at dksX1_probe_3 16 rfl rfl)
theorem dX1_probe_88 : decode cX1_probe 88 = .ok (.iload 4, 2) := dk_21 4 (dk_at dksX1_probe_3 19 rfl rfl)
theorem dX1_probe_90 : decode cX1_probe 90 = .ok (.invokevirtual 287, 3) := dk_182 1 31 (dk_at dksX1_probe_3 21 rfl rfl)
theorem dX1_probe_93 : decode cX1_probe 93 = .ok (.checkcast 343, 3) := dk_192 1 87 (dk_at dksX1_probe_4 0 rfl rfl)
theorem dX1_probe_96 : decode cX1_probe 96 = .ok (.dup, 1) := dk_89 (dk_at dksX1_probe_4 3 rfl rfl)
theorem dX1_probe_97 : decode cX1_probe 97 = .ok (.getfield 356, 3) := dk_180 1 100 (dk_at dksX1_probe_4 4 rfl rfl)
theorem dX1_probe_100 : decode cX1_probe 100 = .ok (.aload_n 0, 1) := dk_42 (dk_at dksX1_probe_4 7 rfl rfl)
theorem dX1_probe_101 : decode cX1_probe 101 = .ok (.aload_n 0, 1) := dk_42 (dk_at dksX1_probe_4 8 rfl rfl)
theorem dX1_probe_102 : decode cX1_probe 102 = .ok (.getfield 132, 3) := dk_180 0 132 (dk_at dksX1_probe_4 9 rfl rfl)
theorem dX1_probe_105 : decode cX1_probe 105 = .ok (.iload 4, 2) := dk_21 4 (dk_at dksX1_probe_4 12 rfl rfl)
theorem dX1_probe_107 : decode cX1_probe 107 = .ok (.invokevirtual 287, 3) := dk_182 1 31 (dk_at dksX1_probe_4 14 rfl rfl)
theorem dX1_probe_110 : decode cX1_probe 110 = .ok (.checkcast 343, 3) := dk_192 1 87 (dk_at dksX1_probe_4 17 rfl rfl)
theorem dX1_probe_113 : decode cX1_probe 113 = .ok (.iload_n 1, 1) := dk_27 (dk_at dksX1_probe_4 20 rfl rfl)
theorem dX1_probe_114 : decode cX1_probe 114 = .ok (.iload_n 2, 1) := dk_28 (dk_at dksX1_probe_4 21 rfl rfl)
theorem dX1_probe_115 : decode cX1_probe 115 = .ok (.invokevirtual 359, 3) := dk_182 1 103 (dk_at dksX1_probe_5 0 rfl rfl)
theorem dX1_probe_118 : decode cX1_probe 118 = .ok (.iload_n 3, 1) := dk_29 (dk_at dksX1_probe_5 3 rfl rfl)
theorem dX1_probe_119 : decode cX1_probe 119 = .ok (.if_icmp .ne 7, 3) := dk_160 0 7 (dk_at dksX1_probe_5 4 rfl rfl)
theorem dX1_probe_122 : decode cX1_probe 122 = .ok (.iconst 1, 1) := dk_4 (dk_at dksX1_probe_5 7 rfl rfl)
theorem dX1_probe_123 : decode cX1_probe 123 = .ok (.goto 4, 3) := dk_167 0 4 (dk_at dksX1_probe_5 8 rfl rfl)
theorem dX1_probe_126 : decode cX1_probe 126 = .ok (.iconst 0, 1) := dk_3 (dk_at dksX1_probe_5 11 rfl rfl)
theorem dX1_probe_127 : decode cX1_probe 127 = .ok (.iand, 1) := dk_126 (dk_at dksX1_probe_5 12 rfl rfl)
theorem dX1_probe_128 : decode cX1_probe 128 = .ok (.putfield 356, 3) := dk_181 1 100 (dk_at dksX1_probe_5 13 rfl rfl)
theorem dX1_probe_131 : decode cX1_probe 131 = .ok (.iinc 4 1, 3) := dk_132 4 1 (dk_at dksX1_probe_5 16 rfl rfl)
theorem dX1_probe_134 : decode cX1_probe 134 = .ok (.goto (-62), 3) := dk_167 255 194 (dk_at dksX1_probe_5 19 rfl rfl)
theorem dX1_probe_137 : decode cX1_probe 137 = .ok (.iload_n 3, 1) := dk_29 (dk_at dksX1_probe_5 22 rfl rfl)
theorem dX1_probe_138 : decode cX1_probe 138 = .ok (.ireturn, 1) := dk_172 (dk_at dksX1_probe_5 23 rfl rfl)
abbrev cX1_comes : ByteArray := prog_1_method_46_code
def yX1_comes : MethodName := ⟨RX1, "comes", "(LLightPlate$Hypothesis;II)I"⟩
def dkwX1_comes_1 : List UInt8 := [180, 0, 69, 28, 182, 0, 194, 42, 180, 0, 80, 29, 46, 172]
abbrev dktX1_comes_1 : List UInt8 := dkwX1_comes_1 ++ []
def dkwX1_comes_0 : List UInt8 := [42, 180, 0, 69, 43, 180, 1, 92, 181, 1, 93, 42, 180, 0, 69, 43, 180, 1, 96, 181, 1, 99, 42, 42]
abbrev dktX1_comes_0 : List UInt8 := dkwX1_comes_0 ++ dktX1_comes_1
theorem dksX1_comes_0 : cX1_comes.data.toList.drop 0 = dktX1_comes_0 := by decide +kernel
theorem dksX1_comes_1 : cX1_comes.data.toList.drop 24 = dktX1_comes_1 := dk_seg dksX1_comes_0 24 rfl rfl
theorem dX1_comes_0 : decode cX1_comes 0 = .ok (.aload_n 0, 1) := dk_42 (dk_at dksX1_comes_0 0 rfl rfl)
theorem dX1_comes_1 : decode cX1_comes 1 = .ok (.getfield 69, 3) := dk_180 0 69 (dk_at dksX1_comes_0 1 rfl rfl)
theorem dX1_comes_4 : decode cX1_comes 4 = .ok (.aload_n 1, 1) := dk_43 (dk_at dksX1_comes_0 4 rfl rfl)
theorem dX1_comes_5 : decode cX1_comes 5 = .ok (.getfield 348, 3) := dk_180 1 92 (dk_at dksX1_comes_0 5 rfl rfl)
theorem dX1_comes_8 : decode cX1_comes 8 = .ok (.putfield 349, 3) := dk_181 1 93 (dk_at dksX1_comes_0 8 rfl rfl)
theorem dX1_comes_11 : decode cX1_comes 11 = .ok (.aload_n 0, 1) := dk_42 (dk_at dksX1_comes_0 11 rfl rfl)
theorem dX1_comes_12 : decode cX1_comes 12 = .ok (.getfield 69, 3) := dk_180 0 69 (dk_at dksX1_comes_0 12 rfl rfl)
theorem dX1_comes_15 : decode cX1_comes 15 = .ok (.aload_n 1, 1) := dk_43 (dk_at dksX1_comes_0 15 rfl rfl)
theorem dX1_comes_16 : decode cX1_comes 16 = .ok (.getfield 352, 3) := dk_180 1 96 (dk_at dksX1_comes_0 16 rfl rfl)
theorem dX1_comes_19 : decode cX1_comes 19 = .ok (.putfield 355, 3) := dk_181 1 99 (dk_at dksX1_comes_0 19 rfl rfl)
theorem dX1_comes_22 : decode cX1_comes 22 = .ok (.aload_n 0, 1) := dk_42 (dk_at dksX1_comes_0 22 rfl rfl)
theorem dX1_comes_23 : decode cX1_comes 23 = .ok (.aload_n 0, 1) := dk_42 (dk_at dksX1_comes_0 23 rfl rfl)
theorem dX1_comes_24 : decode cX1_comes 24 = .ok (.getfield 69, 3) := dk_180 0 69 (dk_at dksX1_comes_1 0 rfl rfl)
theorem dX1_comes_27 : decode cX1_comes 27 = .ok (.iload_n 2, 1) := dk_28 (dk_at dksX1_comes_1 3 rfl rfl)
theorem dX1_comes_28 : decode cX1_comes 28 = .ok (.invokevirtual 194, 3) := dk_182 0 194 (dk_at dksX1_comes_1 4 rfl rfl)
theorem dX1_comes_31 : decode cX1_comes 31 = .ok (.aload_n 0, 1) := dk_42 (dk_at dksX1_comes_1 7 rfl rfl)
theorem dX1_comes_32 : decode cX1_comes 32 = .ok (.getfield 80, 3) := dk_180 0 80 (dk_at dksX1_comes_1 8 rfl rfl)
theorem dX1_comes_35 : decode cX1_comes 35 = .ok (.iload_n 3, 1) := dk_29 (dk_at dksX1_comes_1 11 rfl rfl)
theorem dX1_comes_36 : decode cX1_comes 36 = .ok (.iaload, 1) := dk_46 (dk_at dksX1_comes_1 12 rfl rfl)
theorem dX1_comes_37 : decode cX1_comes 37 = .ok (.ireturn, 1) := dk_172 (dk_at dksX1_comes_1 13 rfl rfl)
abbrev cX1_held : ByteArray := prog_1_method_48_code
def yX1_held : MethodName := ⟨RX1, "held", "(I)I"⟩
def dkwX1_held_3 : List UInt8 := [167, 255, 212, 27, 2, 160, 0, 7, 28, 167, 0, 4, 2, 172]
abbrev dktX1_held_3 : List UInt8 := dkwX1_held_3 ++ []
def dkwX1_held_2 : List UInt8 := [180, 1, 100, 154, 0, 6, 167, 0, 13, 28, 27, 160, 0, 5, 29, 172, 132, 2, 1, 132, 3, 1]
abbrev dktX1_held_2 : List UInt8 := dkwX1_held_2 ++ dktX1_held_3
def dkwX1_held_1 : List UInt8 := [29, 42, 180, 0, 132, 182, 1, 28, 162, 0, 39, 42, 180, 0, 132, 29, 182, 1, 31, 192, 1, 87]
abbrev dktX1_held_1 : List UInt8 := dkwX1_held_1 ++ dktX1_held_2
def dkwX1_held_0 : List UInt8 := [42, 180, 0, 132, 182, 1, 28, 154, 0, 6, 16, 253, 172, 27, 2, 162, 0, 5, 2, 172, 3, 61, 3, 62]
abbrev dktX1_held_0 : List UInt8 := dkwX1_held_0 ++ dktX1_held_1
theorem dksX1_held_0 : cX1_held.data.toList.drop 0 = dktX1_held_0 := by decide +kernel
theorem dksX1_held_1 : cX1_held.data.toList.drop 24 = dktX1_held_1 := dk_seg dksX1_held_0 24 rfl rfl
theorem dksX1_held_2 : cX1_held.data.toList.drop 46 = dktX1_held_2 := dk_seg dksX1_held_1 22 rfl rfl
theorem dksX1_held_3 : cX1_held.data.toList.drop 68 = dktX1_held_3 := dk_seg dksX1_held_2 22 rfl rfl
theorem dX1_held_0 : decode cX1_held 0 = .ok (.aload_n 0, 1) := dk_42 (dk_at dksX1_held_0 0 rfl rfl)
theorem dX1_held_1 : decode cX1_held 1 = .ok (.getfield 132, 3) := dk_180 0 132 (dk_at dksX1_held_0 1 rfl rfl)
theorem dX1_held_4 : decode cX1_held 4 = .ok (.invokevirtual 284, 3) := dk_182 1 28 (dk_at dksX1_held_0 4 rfl rfl)
theorem dX1_held_7 : decode cX1_held 7 = .ok (.ifCond .ne 6, 3) := dk_154 0 6 (dk_at dksX1_held_0 7 rfl rfl)
theorem dX1_held_10 : decode cX1_held 10 = .ok (.bipush (-3), 2) := dk_16 253 (dk_at dksX1_held_0 10 rfl rfl)
theorem dX1_held_12 : decode cX1_held 12 = .ok (.ireturn, 1) := dk_172 (dk_at dksX1_held_0 12 rfl rfl)
theorem dX1_held_13 : decode cX1_held 13 = .ok (.iload_n 1, 1) := dk_27 (dk_at dksX1_held_0 13 rfl rfl)
theorem dX1_held_14 : decode cX1_held 14 = .ok (.iconst (-1), 1) := dk_2 (dk_at dksX1_held_0 14 rfl rfl)
theorem dX1_held_15 : decode cX1_held 15 = .ok (.if_icmp .ge 5, 3) := dk_162 0 5 (dk_at dksX1_held_0 15 rfl rfl)
theorem dX1_held_18 : decode cX1_held 18 = .ok (.iconst (-1), 1) := dk_2 (dk_at dksX1_held_0 18 rfl rfl)
theorem dX1_held_19 : decode cX1_held 19 = .ok (.ireturn, 1) := dk_172 (dk_at dksX1_held_0 19 rfl rfl)
theorem dX1_held_20 : decode cX1_held 20 = .ok (.iconst 0, 1) := dk_3 (dk_at dksX1_held_0 20 rfl rfl)
theorem dX1_held_21 : decode cX1_held 21 = .ok (.istore_n 2, 1) := dk_61 (dk_at dksX1_held_0 21 rfl rfl)
theorem dX1_held_22 : decode cX1_held 22 = .ok (.iconst 0, 1) := dk_3 (dk_at dksX1_held_0 22 rfl rfl)
theorem dX1_held_23 : decode cX1_held 23 = .ok (.istore_n 3, 1) := dk_62 (dk_at dksX1_held_0 23 rfl rfl)
theorem dX1_held_24 : decode cX1_held 24 = .ok (.iload_n 3, 1) := dk_29 (dk_at dksX1_held_1 0 rfl rfl)
theorem dX1_held_25 : decode cX1_held 25 = .ok (.aload_n 0, 1) := dk_42 (dk_at dksX1_held_1 1 rfl rfl)
theorem dX1_held_26 : decode cX1_held 26 = .ok (.getfield 132, 3) := dk_180 0 132 (dk_at dksX1_held_1 2 rfl rfl)
theorem dX1_held_29 : decode cX1_held 29 = .ok (.invokevirtual 284, 3) := dk_182 1 28 (dk_at dksX1_held_1 5 rfl rfl)
theorem dX1_held_32 : decode cX1_held 32 = .ok (.if_icmp .ge 39, 3) := dk_162 0 39 (dk_at dksX1_held_1 8 rfl rfl)
theorem dX1_held_35 : decode cX1_held 35 = .ok (.aload_n 0, 1) := dk_42 (dk_at dksX1_held_1 11 rfl rfl)
theorem dX1_held_36 : decode cX1_held 36 = .ok (.getfield 132, 3) := dk_180 0 132 (dk_at dksX1_held_1 12 rfl rfl)
theorem dX1_held_39 : decode cX1_held 39 = .ok (.iload_n 3, 1) := dk_29 (dk_at dksX1_held_1 15 rfl rfl)
theorem dX1_held_40 : decode cX1_held 40 = .ok (.invokevirtual 287, 3) := dk_182 1 31 (dk_at dksX1_held_1 16 rfl rfl)
theorem dX1_held_43 : decode cX1_held 43 = .ok (.checkcast 343, 3) := dk_192 1 87 (dk_at dksX1_held_1 19 rfl rfl)
theorem dX1_held_46 : decode cX1_held 46 = .ok (.getfield 356, 3) := dk_180 1 100 (dk_at dksX1_held_2 0 rfl rfl)
theorem dX1_held_49 : decode cX1_held 49 = .ok (.ifCond .ne 6, 3) := dk_154 0 6 (dk_at dksX1_held_2 3 rfl rfl)
theorem dX1_held_52 : decode cX1_held 52 = .ok (.goto 13, 3) := dk_167 0 13 (dk_at dksX1_held_2 6 rfl rfl)
theorem dX1_held_55 : decode cX1_held 55 = .ok (.iload_n 2, 1) := dk_28 (dk_at dksX1_held_2 9 rfl rfl)
theorem dX1_held_56 : decode cX1_held 56 = .ok (.iload_n 1, 1) := dk_27 (dk_at dksX1_held_2 10 rfl rfl)
theorem dX1_held_57 : decode cX1_held 57 = .ok (.if_icmp .ne 5, 3) := dk_160 0 5 (dk_at dksX1_held_2 11 rfl rfl)
theorem dX1_held_60 : decode cX1_held 60 = .ok (.iload_n 3, 1) := dk_29 (dk_at dksX1_held_2 14 rfl rfl)
theorem dX1_held_61 : decode cX1_held 61 = .ok (.ireturn, 1) := dk_172 (dk_at dksX1_held_2 15 rfl rfl)
theorem dX1_held_62 : decode cX1_held 62 = .ok (.iinc 2 1, 3) := dk_132 2 1 (dk_at dksX1_held_2 16 rfl rfl)
theorem dX1_held_65 : decode cX1_held 65 = .ok (.iinc 3 1, 3) := dk_132 3 1 (dk_at dksX1_held_2 19 rfl rfl)
theorem dX1_held_68 : decode cX1_held 68 = .ok (.goto (-44), 3) := dk_167 255 212 (dk_at dksX1_held_3 0 rfl rfl)
theorem dX1_held_71 : decode cX1_held 71 = .ok (.iload_n 1, 1) := dk_27 (dk_at dksX1_held_3 3 rfl rfl)
theorem dX1_held_72 : decode cX1_held 72 = .ok (.iconst (-1), 1) := dk_2 (dk_at dksX1_held_3 4 rfl rfl)
theorem dX1_held_73 : decode cX1_held 73 = .ok (.if_icmp .ne 7, 3) := dk_160 0 7 (dk_at dksX1_held_3 5 rfl rfl)
theorem dX1_held_76 : decode cX1_held 76 = .ok (.iload_n 2, 1) := dk_28 (dk_at dksX1_held_3 8 rfl rfl)
theorem dX1_held_77 : decode cX1_held 77 = .ok (.goto 4, 3) := dk_167 0 4 (dk_at dksX1_held_3 9 rfl rfl)
theorem dX1_held_80 : decode cX1_held 80 = .ok (.iconst (-1), 1) := dk_2 (dk_at dksX1_held_3 12 rfl rfl)
theorem dX1_held_81 : decode cX1_held 81 = .ok (.ireturn, 1) := dk_172 (dk_at dksX1_held_3 13 rfl rfl)
abbrev cX1_next : ByteArray := prog_1_method_49_code
def yX1_next : MethodName := ⟨RX1, "next", "()I"⟩
def dkwX1_next_11 : List UInt8 := [132, 4, 1, 167, 255, 20, 28, 172]
abbrev dktX1_next_11 : List UInt8 := dkwX1_next_11 ++ []
def dkwX1_next_10 : List UInt8 := [161, 0, 6, 167, 0, 15, 16, 10, 21, 4, 104, 21, 5, 96, 61, 21, 6, 62, 132, 5, 1, 167, 255, 182]
abbrev dktX1_next_10 : List UInt8 := dkwX1_next_10 ++ dktX1_next_11
def dkwX1_next_9 : List UInt8 := [50, 21, 7, 46, 184, 1, 110, 54, 6, 132, 7, 1, 167, 255, 229, 28, 2, 159, 0, 12, 21, 6, 29]
abbrev dktX1_next_9 : List UInt8 := dkwX1_next_9 ++ dktX1_next_10
def dkwX1_next_8 : List UInt8 := [162, 0, 71, 3, 54, 6, 3, 54, 7, 21, 7, 16, 97, 162, 0, 26, 21, 6, 42, 180, 0, 135, 21, 5]
abbrev dktX1_next_8 : List UInt8 := dkwX1_next_8 ++ dktX1_next_9
def dkwX1_next_7 : List UInt8 := [79, 132, 6, 1, 167, 255, 225, 132, 5, 1, 167, 255, 163, 3, 54, 5, 21, 5, 42, 180, 0, 138]
abbrev dktX1_next_7 : List UInt8 := dkwX1_next_7 ++ dktX1_next_8
def dkwX1_next_6 : List UInt8 := [180, 0, 138, 162, 0, 28, 42, 180, 0, 135, 21, 6, 50, 42, 180, 0, 80, 21, 6, 46, 92, 46, 4, 96]
abbrev dktX1_next_6 : List UInt8 := dkwX1_next_6 ++ dktX1_next_7
def dkwX1_next_5 : List UInt8 := [180, 0, 132, 21, 5, 182, 1, 31, 192, 1, 87, 21, 4, 3, 182, 1, 103, 87, 3, 54, 6, 21, 6, 42]
abbrev dktX1_next_5 : List UInt8 := dkwX1_next_5 ++ dktX1_next_6
def dkwX1_next_4 : List UInt8 := [180, 0, 132, 21, 5, 182, 1, 31, 192, 1, 87, 180, 1, 100, 154, 0, 6, 167, 0, 60, 42, 42]
abbrev dktX1_next_4 : List UInt8 := dkwX1_next_4 ++ dktX1_next_5
def dkwX1_next_3 : List UInt8 := [132, 5, 1, 167, 255, 217, 3, 54, 5, 21, 5, 42, 180, 0, 132, 182, 1, 28, 162, 0, 87, 42]
abbrev dktX1_next_3 : List UInt8 := dkwX1_next_3 ++ dktX1_next_4
def dkwX1_next_2 : List UInt8 := [16, 97, 162, 0, 20, 42, 180, 0, 135, 21, 5, 50, 21, 6, 3, 79, 132, 6, 1, 167, 255, 235]
abbrev dktX1_next_2 : List UInt8 := dkwX1_next_2 ++ dktX1_next_3
def dkwX1_next_1 : List UInt8 := [180, 0, 138, 162, 0, 233, 3, 54, 5, 21, 5, 42, 180, 0, 138, 162, 0, 36, 3, 54, 6, 21, 6]
abbrev dktX1_next_1 : List UInt8 := dkwX1_next_1 ++ dktX1_next_2
def dkwX1_next_0 : List UInt8 := [42, 2, 182, 1, 107, 60, 27, 157, 0, 6, 16, 253, 172, 2, 61, 3, 62, 3, 54, 4, 21, 4, 42]
abbrev dktX1_next_0 : List UInt8 := dkwX1_next_0 ++ dktX1_next_1
theorem dksX1_next_0 : cX1_next.data.toList.drop 0 = dktX1_next_0 := by decide +kernel
theorem dksX1_next_1 : cX1_next.data.toList.drop 23 = dktX1_next_1 := dk_seg dksX1_next_0 23 rfl rfl
theorem dksX1_next_2 : cX1_next.data.toList.drop 46 = dktX1_next_2 := dk_seg dksX1_next_1 23 rfl rfl
theorem dksX1_next_3 : cX1_next.data.toList.drop 68 = dktX1_next_3 := dk_seg dksX1_next_2 22 rfl rfl
theorem dksX1_next_4 : cX1_next.data.toList.drop 90 = dktX1_next_4 := dk_seg dksX1_next_3 22 rfl rfl
theorem dksX1_next_5 : cX1_next.data.toList.drop 112 = dktX1_next_5 := dk_seg dksX1_next_4 22 rfl rfl
theorem dksX1_next_6 : cX1_next.data.toList.drop 136 = dktX1_next_6 := dk_seg dksX1_next_5 24 rfl rfl
theorem dksX1_next_7 : cX1_next.data.toList.drop 160 = dktX1_next_7 := dk_seg dksX1_next_6 24 rfl rfl
theorem dksX1_next_8 : cX1_next.data.toList.drop 182 = dktX1_next_8 := dk_seg dksX1_next_7 22 rfl rfl
theorem dksX1_next_9 : cX1_next.data.toList.drop 206 = dktX1_next_9 := dk_seg dksX1_next_8 24 rfl rfl
theorem dksX1_next_10 : cX1_next.data.toList.drop 229 = dktX1_next_10 := dk_seg dksX1_next_9 23 rfl rfl
theorem dksX1_next_11 : cX1_next.data.toList.drop 253 = dktX1_next_11 := dk_seg dksX1_next_10 24 rfl rfl
theorem dX1_next_0 : decode cX1_next 0 = .ok (.aload_n 0, 1) := dk_42 (dk_at dksX1_next_0 0 rfl rfl)
theorem dX1_next_1 : decode cX1_next 1 = .ok (.iconst (-1), 1) := dk_2 (dk_at dksX1_next_0 1 rfl rfl)
theorem dX1_next_2 : decode cX1_next 2 = .ok (.invokevirtual 363, 3) := dk_182 1 107 (dk_at dksX1_next_0 2 rfl rfl)
theorem dX1_next_5 : decode cX1_next 5 = .ok (.istore_n 1, 1) := dk_60 (dk_at dksX1_next_0 5 rfl rfl)
theorem dX1_next_6 : decode cX1_next 6 = .ok (.iload_n 1, 1) := dk_27 (dk_at dksX1_next_0 6 rfl rfl)
theorem dX1_next_7 : decode cX1_next 7 = .ok (.ifCond .gt 6, 3) := dk_157 0 6 (dk_at dksX1_next_0 7 rfl rfl)
theorem dX1_next_10 : decode cX1_next 10 = .ok (.bipush (-3), 2) := dk_16 253 (dk_at dksX1_next_0 10 rfl rfl)
theorem dX1_next_12 : decode cX1_next 12 = .ok (.ireturn, 1) := dk_172 (dk_at dksX1_next_0 12 rfl rfl)
theorem dX1_next_13 : decode cX1_next 13 = .ok (.iconst (-1), 1) := dk_2 (dk_at dksX1_next_0 13 rfl rfl)
theorem dX1_next_14 : decode cX1_next 14 = .ok (.istore_n 2, 1) := dk_61 (dk_at dksX1_next_0 14 rfl rfl)
theorem dX1_next_15 : decode cX1_next 15 = .ok (.iconst 0, 1) := dk_3 (dk_at dksX1_next_0 15 rfl rfl)
theorem dX1_next_16 : decode cX1_next 16 = .ok (.istore_n 3, 1) := dk_62 (dk_at dksX1_next_0 16 rfl rfl)
theorem dX1_next_17 : decode cX1_next 17 = .ok (.iconst 0, 1) := dk_3 (dk_at dksX1_next_0 17 rfl rfl)
theorem dX1_next_18 : decode cX1_next 18 = .ok (.istore 4, 2) := dk_54 4 (dk_at dksX1_next_0 18 rfl rfl)
theorem dX1_next_20 : decode cX1_next 20 = .ok (.iload 4, 2) := dk_21 4 (dk_at dksX1_next_0 20 rfl rfl)
theorem dX1_next_22 : decode cX1_next 22 = .ok (.aload_n 0, 1) := dk_42 (dk_at dksX1_next_0 22 rfl rfl)
theorem dX1_next_23 : decode cX1_next 23 = .ok (.getfield 138, 3) := dk_180 0 138 (dk_at dksX1_next_1 0 rfl rfl)
theorem dX1_next_26 : decode cX1_next 26 = .ok (.if_icmp .ge 233, 3) := dk_162 0 233 (dk_at dksX1_next_1 3 rfl rfl)
theorem dX1_next_29 : decode cX1_next 29 = .ok (.iconst 0, 1) := dk_3 (dk_at dksX1_next_1 6 rfl rfl)
theorem dX1_next_30 : decode cX1_next 30 = .ok (.istore 5, 2) := dk_54 5 (dk_at dksX1_next_1 7 rfl rfl)
theorem dX1_next_32 : decode cX1_next 32 = .ok (.iload 5, 2) := dk_21 5 (dk_at dksX1_next_1 9 rfl rfl)
theorem dX1_next_34 : decode cX1_next 34 = .ok (.aload_n 0, 1) := dk_42 (dk_at dksX1_next_1 11 rfl rfl)
theorem dX1_next_35 : decode cX1_next 35 = .ok (.getfield 138, 3) := dk_180 0 138 (dk_at dksX1_next_1 12 rfl rfl)
theorem dX1_next_38 : decode cX1_next 38 = .ok (.if_icmp .ge 36, 3) := dk_162 0 36 (dk_at dksX1_next_1 15 rfl rfl)
theorem dX1_next_41 : decode cX1_next 41 = .ok (.iconst 0, 1) := dk_3 (dk_at dksX1_next_1 18 rfl rfl)
theorem dX1_next_42 : decode cX1_next 42 = .ok (.istore 6, 2) := dk_54 6 (dk_at dksX1_next_1 19 rfl rfl)
theorem dX1_next_44 : decode cX1_next 44 = .ok (.iload 6, 2) := dk_21 6 (dk_at dksX1_next_1 21 rfl rfl)
theorem dX1_next_46 : decode cX1_next 46 = .ok (.bipush 97, 2) := dk_16 97 (dk_at dksX1_next_2 0 rfl rfl)
theorem dX1_next_48 : decode cX1_next 48 = .ok (.if_icmp .ge 20, 3) := dk_162 0 20 (dk_at dksX1_next_2 2 rfl rfl)
theorem dX1_next_51 : decode cX1_next 51 = .ok (.aload_n 0, 1) := dk_42 (dk_at dksX1_next_2 5 rfl rfl)
theorem dX1_next_52 : decode cX1_next 52 = .ok (.getfield 135, 3) := dk_180 0 135 (dk_at dksX1_next_2 6 rfl rfl)
theorem dX1_next_55 : decode cX1_next 55 = .ok (.iload 5, 2) := dk_21 5 (dk_at dksX1_next_2 9 rfl rfl)
theorem dX1_next_57 : decode cX1_next 57 = .ok (.aaload, 1) := dk_50 (dk_at dksX1_next_2 11 rfl rfl)
theorem dX1_next_58 : decode cX1_next 58 = .ok (.iload 6, 2) := dk_21 6 (dk_at dksX1_next_2 12 rfl rfl)
theorem dX1_next_60 : decode cX1_next 60 = .ok (.iconst 0, 1) := dk_3 (dk_at dksX1_next_2 14 rfl rfl)
theorem dX1_next_61 : decode cX1_next 61 = .ok (.iastore, 1) := dk_79 (dk_at dksX1_next_2 15 rfl rfl)
theorem dX1_next_62 : decode cX1_next 62 = .ok (.iinc 6 1, 3) := dk_132 6 1 (dk_at dksX1_next_2 16 rfl rfl)
theorem dX1_next_65 : decode cX1_next 65 = .ok (.goto (-21), 3) := dk_167 255 235 (dk_at dksX1_next_2 19 rfl rfl)
theorem dX1_next_68 : decode cX1_next 68 = .ok (.iinc 5 1, 3) := dk_132 5 1 (dk_at dksX1_next_3 0 rfl rfl)
theorem dX1_next_71 : decode cX1_next 71 = .ok (.goto (-39), 3) := dk_167 255 217 (dk_at dksX1_next_3 3 rfl rfl)
theorem dX1_next_74 : decode cX1_next 74 = .ok (.iconst 0, 1) := dk_3 (dk_at dksX1_next_3 6 rfl rfl)
theorem dX1_next_75 : decode cX1_next 75 = .ok (.istore 5, 2) := dk_54 5 (dk_at dksX1_next_3 7 rfl rfl)
theorem dX1_next_77 : decode cX1_next 77 = .ok (.iload 5, 2) := dk_21 5 (dk_at dksX1_next_3 9 rfl rfl)
theorem dX1_next_79 : decode cX1_next 79 = .ok (.aload_n 0, 1) := dk_42 (dk_at dksX1_next_3 11 rfl rfl)
theorem dX1_next_80 : decode cX1_next 80 = .ok (.getfield 132, 3) := dk_180 0 132 (dk_at dksX1_next_3 12 rfl rfl)
theorem dX1_next_83 : decode cX1_next 83 = .ok (.invokevirtual 284, 3) := dk_182 1 28 (dk_at dksX1_next_3 15 rfl rfl)
theorem dX1_next_86 : decode cX1_next 86 = .ok (.if_icmp .ge 87, 3) := dk_162 0 87 (dk_at dksX1_next_3 18 rfl rfl)
theorem dX1_next_89 : decode cX1_next 89 = .ok (.aload_n 0, 1) := dk_42 (dk_at dksX1_next_3 21 rfl rfl)
theorem dX1_next_90 : decode cX1_next 90 = .ok (.getfield 132, 3) := dk_180 0 132 (dk_at dksX1_next_4 0 rfl rfl)
theorem dX1_next_93 : decode cX1_next 93 = .ok (.iload 5, 2) := dk_21 5 (dk_at dksX1_next_4 3 rfl rfl)
theorem dX1_next_95 : decode cX1_next 95 = .ok (.invokevirtual 287, 3) := dk_182 1 31 (dk_at dksX1_next_4 5 rfl rfl)
theorem dX1_next_98 : decode cX1_next 98 = .ok (.checkcast 343, 3) := dk_192 1 87 (dk_at dksX1_next_4 8 rfl rfl)
theorem dX1_next_101 : decode cX1_next 101 = .ok (.getfield 356, 3) := dk_180 1 100 (dk_at dksX1_next_4 11 rfl rfl)
theorem dX1_next_104 : decode cX1_next 104 = .ok (.ifCond .ne 6, 3) := dk_154 0 6 (dk_at dksX1_next_4 14 rfl rfl)
theorem dX1_next_107 : decode cX1_next 107 = .ok (.goto 60, 3) := dk_167 0 60 (dk_at dksX1_next_4 17 rfl rfl)
theorem dX1_next_110 : decode cX1_next 110 = .ok (.aload_n 0, 1) := dk_42 (dk_at dksX1_next_4 20 rfl rfl)
theorem dX1_next_111 : decode cX1_next 111 = .ok (.aload_n 0, 1) := dk_42 (dk_at dksX1_next_4 21 rfl rfl)
theorem dX1_next_112 : decode cX1_next 112 = .ok (.getfield 132, 3) := dk_180 0 132 (dk_at dksX1_next_5 0 rfl rfl)
theorem dX1_next_115 : decode cX1_next 115 = .ok (.iload 5, 2) := dk_21 5 (dk_at dksX1_next_5 3 rfl rfl)
theorem dX1_next_117 : decode cX1_next 117 = .ok (.invokevirtual 287, 3) := dk_182 1 31 (dk_at dksX1_next_5 5 rfl rfl)
theorem dX1_next_120 : decode cX1_next 120 = .ok (.checkcast 343, 3) := dk_192 1 87 (dk_at dksX1_next_5 8 rfl rfl)
theorem dX1_next_123 : decode cX1_next 123 = .ok (.iload 4, 2) := dk_21 4 (dk_at dksX1_next_5 11 rfl rfl)
theorem dX1_next_125 : decode cX1_next 125 = .ok (.iconst 0, 1) := dk_3 (dk_at dksX1_next_5 13 rfl rfl)
theorem dX1_next_126 : decode cX1_next 126 = .ok (.invokevirtual 359, 3) := dk_182 1 103 (dk_at dksX1_next_5 14 rfl rfl)
theorem dX1_next_129 : decode cX1_next 129 = .ok (.pop, 1) := dk_87 (dk_at dksX1_next_5 17 rfl rfl)
theorem dX1_next_130 : decode cX1_next 130 = .ok (.iconst 0, 1) := dk_3 (dk_at dksX1_next_5 18 rfl rfl)
theorem dX1_next_131 : decode cX1_next 131 = .ok (.istore 6, 2) := dk_54 6 (dk_at dksX1_next_5 19 rfl rfl)
theorem dX1_next_133 : decode cX1_next 133 = .ok (.iload 6, 2) := dk_21 6 (dk_at dksX1_next_5 21 rfl rfl)
theorem dX1_next_135 : decode cX1_next 135 = .ok (.aload_n 0, 1) := dk_42 (dk_at dksX1_next_5 23 rfl rfl)
theorem dX1_next_136 : decode cX1_next 136 = .ok (.getfield 138, 3) := dk_180 0 138 (dk_at dksX1_next_6 0 rfl rfl)
theorem dX1_next_139 : decode cX1_next 139 = .ok (.if_icmp .ge 28, 3) := dk_162 0 28 (dk_at dksX1_next_6 3 rfl rfl)
theorem dX1_next_142 : decode cX1_next 142 = .ok (.aload_n 0, 1) := dk_42 (dk_at dksX1_next_6 6 rfl rfl)
theorem dX1_next_143 : decode cX1_next 143 = .ok (.getfield 135, 3) := dk_180 0 135 (dk_at dksX1_next_6 7 rfl rfl)
theorem dX1_next_146 : decode cX1_next 146 = .ok (.iload 6, 2) := dk_21 6 (dk_at dksX1_next_6 10 rfl rfl)
theorem dX1_next_148 : decode cX1_next 148 = .ok (.aaload, 1) := dk_50 (dk_at dksX1_next_6 12 rfl rfl)
theorem dX1_next_149 : decode cX1_next 149 = .ok (.aload_n 0, 1) := dk_42 (dk_at dksX1_next_6 13 rfl rfl)
theorem dX1_next_150 : decode cX1_next 150 = .ok (.getfield 80, 3) := dk_180 0 80 (dk_at dksX1_next_6 14 rfl rfl)
theorem dX1_next_153 : decode cX1_next 153 = .ok (.iload 6, 2) := dk_21 6 (dk_at dksX1_next_6 17 rfl rfl)
theorem dX1_next_155 : decode cX1_next 155 = .ok (.iaload, 1) := dk_46 (dk_at dksX1_next_6 19 rfl rfl)
theorem dX1_next_156 : decode cX1_next 156 = .ok (.dup2, 1) := dk_92 (dk_at dksX1_next_6 20 rfl rfl)
theorem dX1_next_157 : decode cX1_next 157 = .ok (.iaload, 1) := dk_46 (dk_at dksX1_next_6 21 rfl rfl)
theorem dX1_next_158 : decode cX1_next 158 = .ok (.iconst 1, 1) := dk_4 (dk_at dksX1_next_6 22 rfl rfl)
theorem dX1_next_159 : decode cX1_next 159 = .ok (.iadd, 1) := dk_96 (dk_at dksX1_next_6 23 rfl rfl)
theorem dX1_next_160 : decode cX1_next 160 = .ok (.iastore, 1) := dk_79 (dk_at dksX1_next_7 0 rfl rfl)
theorem dX1_next_161 : decode cX1_next 161 = .ok (.iinc 6 1, 3) := dk_132 6 1 (dk_at dksX1_next_7 1 rfl rfl)
theorem dX1_next_164 : decode cX1_next 164 = .ok (.goto (-31), 3) := dk_167 255 225 (dk_at dksX1_next_7 4 rfl rfl)
theorem dX1_next_167 : decode cX1_next 167 = .ok (.iinc 5 1, 3) := dk_132 5 1 (dk_at dksX1_next_7 7 rfl rfl)
theorem dX1_next_170 : decode cX1_next 170 = .ok (.goto (-93), 3) := dk_167 255 163 (dk_at dksX1_next_7 10 rfl rfl)
theorem dX1_next_173 : decode cX1_next 173 = .ok (.iconst 0, 1) := dk_3 (dk_at dksX1_next_7 13 rfl rfl)
theorem dX1_next_174 : decode cX1_next 174 = .ok (.istore 5, 2) := dk_54 5 (dk_at dksX1_next_7 14 rfl rfl)
theorem dX1_next_176 : decode cX1_next 176 = .ok (.iload 5, 2) := dk_21 5 (dk_at dksX1_next_7 16 rfl rfl)
theorem dX1_next_178 : decode cX1_next 178 = .ok (.aload_n 0, 1) := dk_42 (dk_at dksX1_next_7 18 rfl rfl)
theorem dX1_next_179 : decode cX1_next 179 = .ok (.getfield 138, 3) := dk_180 0 138 (dk_at dksX1_next_7 19 rfl rfl)
theorem dX1_next_182 : decode cX1_next 182 = .ok (.if_icmp .ge 71, 3) := dk_162 0 71 (dk_at dksX1_next_8 0 rfl rfl)
theorem dX1_next_185 : decode cX1_next 185 = .ok (.iconst 0, 1) := dk_3 (dk_at dksX1_next_8 3 rfl rfl)
theorem dX1_next_186 : decode cX1_next 186 = .ok (.istore 6, 2) := dk_54 6 (dk_at dksX1_next_8 4 rfl rfl)
theorem dX1_next_188 : decode cX1_next 188 = .ok (.iconst 0, 1) := dk_3 (dk_at dksX1_next_8 6 rfl rfl)
theorem dX1_next_189 : decode cX1_next 189 = .ok (.istore 7, 2) := dk_54 7 (dk_at dksX1_next_8 7 rfl rfl)
theorem dX1_next_191 : decode cX1_next 191 = .ok (.iload 7, 2) := dk_21 7 (dk_at dksX1_next_8 9 rfl rfl)
theorem dX1_next_193 : decode cX1_next 193 = .ok (.bipush 97, 2) := dk_16 97 (dk_at dksX1_next_8 11 rfl rfl)
theorem dX1_next_195 : decode cX1_next 195 = .ok (.if_icmp .ge 26, 3) := dk_162 0 26 (dk_at dksX1_next_8 13 rfl rfl)
theorem dX1_next_198 : decode cX1_next 198 = .ok (.iload 6, 2) := dk_21 6 (dk_at dksX1_next_8 16 rfl rfl)
theorem dX1_next_200 : decode cX1_next 200 = .ok (.aload_n 0, 1) := dk_42 (dk_at dksX1_next_8 18 rfl rfl)
theorem dX1_next_201 : decode cX1_next 201 = .ok (.getfield 135, 3) := dk_180 0 135 (dk_at dksX1_next_8 19 rfl rfl)
theorem dX1_next_204 : decode cX1_next 204 = .ok (.iload 5, 2) := dk_21 5 (dk_at dksX1_next_8 22 rfl rfl)
theorem dX1_next_206 : decode cX1_next 206 = .ok (.aaload, 1) := dk_50 (dk_at dksX1_next_9 0 rfl rfl)
theorem dX1_next_207 : decode cX1_next 207 = .ok (.iload 7, 2) := dk_21 7 (dk_at dksX1_next_9 1 rfl rfl)
theorem dX1_next_209 : decode cX1_next 209 = .ok (.iaload, 1) := dk_46 (dk_at dksX1_next_9 3 rfl rfl)
theorem dX1_next_210 : decode cX1_next 210 = .ok (.invokestatic 366, 3) := dk_184 1 110 (dk_at dksX1_next_9 4 rfl rfl)
theorem dX1_next_213 : decode cX1_next 213 = .ok (.istore 6, 2) := dk_54 6 (dk_at dksX1_next_9 7 rfl rfl)
theorem dX1_next_215 : decode cX1_next 215 = .ok (.iinc 7 1, 3) := dk_132 7 1 (dk_at dksX1_next_9 9 rfl rfl)
theorem dX1_next_218 : decode cX1_next 218 = .ok (.goto (-27), 3) := dk_167 255 229 (dk_at dksX1_next_9 12 rfl rfl)
theorem dX1_next_221 : decode cX1_next 221 = .ok (.iload_n 2, 1) := dk_28 (dk_at dksX1_next_9 15 rfl rfl)
theorem dX1_next_222 : decode cX1_next 222 = .ok (.iconst (-1), 1) := dk_2 (dk_at dksX1_next_9 16 rfl rfl)
theorem dX1_next_223 : decode cX1_next 223 = .ok (.if_icmp .eq 12, 3) := dk_159 0 12 (dk_at dksX1_next_9 17 rfl rfl)
theorem dX1_next_226 : decode cX1_next 226 = .ok (.iload 6, 2) := dk_21 6 (dk_at dksX1_next_9 20 rfl rfl)
theorem dX1_next_228 : decode cX1_next 228 = .ok (.iload_n 3, 1) := dk_29 (dk_at dksX1_next_9 22 rfl rfl)
theorem dX1_next_229 : decode cX1_next 229 = .ok (.if_icmp .lt 6, 3) := dk_161 0 6 (dk_at dksX1_next_10 0 rfl rfl)
theorem dX1_next_232 : decode cX1_next 232 = .ok (.goto 15, 3) := dk_167 0 15 (dk_at dksX1_next_10 3 rfl rfl)
theorem dX1_next_235 : decode cX1_next 235 = .ok (.bipush 10, 2) := dk_16 10 (dk_at dksX1_next_10 6 rfl rfl)
theorem dX1_next_237 : decode cX1_next 237 = .ok (.iload 4, 2) := dk_21 4 (dk_at dksX1_next_10 8 rfl rfl)
theorem dX1_next_239 : decode cX1_next 239 = .ok (.imul, 1) := dk_104 (dk_at dksX1_next_10 10 rfl rfl)
theorem dX1_next_240 : decode cX1_next 240 = .ok (.iload 5, 2) := dk_21 5 (dk_at dksX1_next_10 11 rfl rfl)
theorem dX1_next_242 : decode cX1_next 242 = .ok (.iadd, 1) := dk_96 (dk_at dksX1_next_10 13 rfl rfl)
theorem dX1_next_243 : decode cX1_next 243 = .ok (.istore_n 2, 1) := dk_61 (dk_at dksX1_next_10 14 rfl rfl)
theorem dX1_next_244 : decode cX1_next 244 = .ok (.iload 6, 2) := dk_21 6 (dk_at dksX1_next_10 15 rfl rfl)
theorem dX1_next_246 : decode cX1_next 246 = .ok (.istore_n 3, 1) := dk_62 (dk_at dksX1_next_10 17 rfl rfl)
theorem dX1_next_247 : decode cX1_next 247 = .ok (.iinc 5 1, 3) := dk_132 5 1 (dk_at dksX1_next_10 18 rfl rfl)
theorem dX1_next_250 : decode cX1_next 250 = .ok (.goto (-74), 3) := dk_167 255 182 (dk_at dksX1_next_10 21 rfl rfl)
theorem dX1_next_253 : decode cX1_next 253 = .ok (.iinc 4 1, 3) := dk_132 4 1 (dk_at dksX1_next_11 0 rfl rfl)
theorem dX1_next_256 : decode cX1_next 256 = .ok (.goto (-236), 3) := dk_167 255 20 (dk_at dksX1_next_11 3 rfl rfl)
theorem dX1_next_259 : decode cX1_next 259 = .ok (.iload_n 2, 1) := dk_28 (dk_at dksX1_next_11 6 rfl rfl)
theorem dX1_next_260 : decode cX1_next 260 = .ok (.ireturn, 1) := dk_172 (dk_at dksX1_next_11 7 rfl rfl)
abbrev cX1_claim : ByteArray := prog_1_method_50_code
def yX1_claim : MethodName := ⟨RX1, "claim", "(III)I"⟩
def dkwX1_claim_2 : List UInt8 := [16, 253, 172, 25, 4, 180, 0, 185, 54, 5, 25, 4, 27, 181, 0, 185, 21, 5, 172]
abbrev dktX1_claim_2 : List UInt8 := dkwX1_claim_2 ++ []
def dkwX1_claim_1 : List UInt8 := [172, 27, 2, 159, 0, 24, 25, 4, 180, 0, 185, 2, 159, 0, 15, 25, 4, 180, 0, 185, 27, 159, 0, 6]
abbrev dktX1_claim_1 : List UInt8 := dkwX1_claim_1 ++ dktX1_claim_2
def dkwX1_claim_0 : List UInt8 := [42, 28, 29, 182, 0, 154, 58, 4, 25, 4, 198, 0, 12, 27, 2, 4, 184, 0, 25, 154, 0, 6, 16, 251]
abbrev dktX1_claim_0 : List UInt8 := dkwX1_claim_0 ++ dktX1_claim_1
theorem dksX1_claim_0 : cX1_claim.data.toList.drop 0 = dktX1_claim_0 := by decide +kernel
theorem dksX1_claim_1 : cX1_claim.data.toList.drop 24 = dktX1_claim_1 := dk_seg dksX1_claim_0 24 rfl rfl
theorem dksX1_claim_2 : cX1_claim.data.toList.drop 48 = dktX1_claim_2 := dk_seg dksX1_claim_1 24 rfl rfl
theorem dX1_claim_0 : decode cX1_claim 0 = .ok (.aload_n 0, 1) := dk_42 (dk_at dksX1_claim_0 0 rfl rfl)
theorem dX1_claim_1 : decode cX1_claim 1 = .ok (.iload_n 2, 1) := dk_28 (dk_at dksX1_claim_0 1 rfl rfl)
theorem dX1_claim_2 : decode cX1_claim 2 = .ok (.iload_n 3, 1) := dk_29 (dk_at dksX1_claim_0 2 rfl rfl)
theorem dX1_claim_3 : decode cX1_claim 3 = .ok (.invokevirtual 154, 3) := dk_182 0 154 (dk_at dksX1_claim_0 3 rfl rfl)
theorem dX1_claim_6 : decode cX1_claim 6 = .ok (.astore 4, 2) := dk_58 4 (dk_at dksX1_claim_0 6 rfl rfl)
theorem dX1_claim_8 : decode cX1_claim 8 = .ok (.aload 4, 2) := dk_25 4 (dk_at dksX1_claim_0 8 rfl rfl)
theorem dX1_claim_10 : decode cX1_claim 10 = .ok (.ifnull 12, 3) := dk_198 0 12 (dk_at dksX1_claim_0 10 rfl rfl)
theorem dX1_claim_13 : decode cX1_claim 13 = .ok (.iload_n 1, 1) := dk_27 (dk_at dksX1_claim_0 13 rfl rfl)
theorem dX1_claim_14 : decode cX1_claim 14 = .ok (.iconst (-1), 1) := dk_2 (dk_at dksX1_claim_0 14 rfl rfl)
theorem dX1_claim_15 : decode cX1_claim 15 = .ok (.iconst 1, 1) := dk_4 (dk_at dksX1_claim_0 15 rfl rfl)
theorem dX1_claim_16 : decode cX1_claim 16 = .ok (.invokestatic 25, 3) := dk_184 0 25 (dk_at dksX1_claim_0 16 rfl rfl)
theorem dX1_claim_19 : decode cX1_claim 19 = .ok (.ifCond .ne 6, 3) := dk_154 0 6 (dk_at dksX1_claim_0 19 rfl rfl)
theorem dX1_claim_22 : decode cX1_claim 22 = .ok (.bipush (-5), 2) := dk_16 251 (dk_at dksX1_claim_0 22 rfl rfl)
theorem dX1_claim_24 : decode cX1_claim 24 = .ok (.ireturn, 1) := dk_172 (dk_at dksX1_claim_1 0 rfl rfl)
theorem dX1_claim_25 : decode cX1_claim 25 = .ok (.iload_n 1, 1) := dk_27 (dk_at dksX1_claim_1 1 rfl rfl)
theorem dX1_claim_26 : decode cX1_claim 26 = .ok (.iconst (-1), 1) := dk_2 (dk_at dksX1_claim_1 2 rfl rfl)
theorem dX1_claim_27 : decode cX1_claim 27 = .ok (.if_icmp .eq 24, 3) := dk_159 0 24 (dk_at dksX1_claim_1 3 rfl rfl)
theorem dX1_claim_30 : decode cX1_claim 30 = .ok (.aload 4, 2) := dk_25 4 (dk_at dksX1_claim_1 6 rfl rfl)
theorem dX1_claim_32 : decode cX1_claim 32 = .ok (.getfield 185, 3) := dk_180 0 185 (dk_at dksX1_claim_1 8 rfl rfl)
theorem dX1_claim_35 : decode cX1_claim 35 = .ok (.iconst (-1), 1) := dk_2 (dk_at dksX1_claim_1 11 rfl rfl)
theorem dX1_claim_36 : decode cX1_claim 36 = .ok (.if_icmp .eq 15, 3) := dk_159 0 15 (dk_at dksX1_claim_1 12 rfl rfl)
theorem dX1_claim_39 : decode cX1_claim 39 = .ok (.aload 4, 2) := dk_25 4 (dk_at dksX1_claim_1 15 rfl rfl)
theorem dX1_claim_41 : decode cX1_claim 41 = .ok (.getfield 185, 3) := dk_180 0 185 (dk_at dksX1_claim_1 17 rfl rfl)
theorem dX1_claim_44 : decode cX1_claim 44 = .ok (.iload_n 1, 1) := dk_27 (dk_at dksX1_claim_1 20 rfl rfl)
theorem dX1_claim_45 : decode cX1_claim 45 = .ok (.if_icmp .eq 6, 3) := dk_159 0 6 (dk_at dksX1_claim_1 21 rfl rfl)
theorem dX1_claim_48 : decode cX1_claim 48 = .ok (.bipush (-3), 2) := dk_16 253 (dk_at dksX1_claim_2 0 rfl rfl)
theorem dX1_claim_50 : decode cX1_claim 50 = .ok (.ireturn, 1) := dk_172 (dk_at dksX1_claim_2 2 rfl rfl)
theorem dX1_claim_51 : decode cX1_claim 51 = .ok (.aload 4, 2) := dk_25 4 (dk_at dksX1_claim_2 3 rfl rfl)
theorem dX1_claim_53 : decode cX1_claim 53 = .ok (.getfield 185, 3) := dk_180 0 185 (dk_at dksX1_claim_2 5 rfl rfl)
theorem dX1_claim_56 : decode cX1_claim 56 = .ok (.istore 5, 2) := dk_54 5 (dk_at dksX1_claim_2 8 rfl rfl)
theorem dX1_claim_58 : decode cX1_claim 58 = .ok (.aload 4, 2) := dk_25 4 (dk_at dksX1_claim_2 10 rfl rfl)
theorem dX1_claim_60 : decode cX1_claim 60 = .ok (.iload_n 1, 1) := dk_27 (dk_at dksX1_claim_2 12 rfl rfl)
theorem dX1_claim_61 : decode cX1_claim 61 = .ok (.putfield 185, 3) := dk_181 0 185 (dk_at dksX1_claim_2 13 rfl rfl)
theorem dX1_claim_64 : decode cX1_claim 64 = .ok (.iload 5, 2) := dk_21 5 (dk_at dksX1_claim_2 16 rfl rfl)
theorem dX1_claim_66 : decode cX1_claim 66 = .ok (.ireturn, 1) := dk_172 (dk_at dksX1_claim_2 18 rfl rfl)
abbrev cX1_meeting : ByteArray := prog_1_method_52_code
def yX1_meeting : MethodName := ⟨RX1, "meeting", "()I"⟩
def dkwX1_meeting_1 : List UInt8 := [167, 255, 235, 16, 251, 172]
abbrev dktX1_meeting_1 : List UInt8 := dkwX1_meeting_1 ++ []
def dkwX1_meeting_0 : List UInt8 := [3, 60, 27, 42, 180, 0, 138, 162, 0, 19, 42, 27, 182, 1, 113, 153, 0, 5, 27, 172, 132, 1, 1]
abbrev dktX1_meeting_0 : List UInt8 := dkwX1_meeting_0 ++ dktX1_meeting_1
theorem dksX1_meeting_0 : cX1_meeting.data.toList.drop 0 = dktX1_meeting_0 := by decide +kernel
theorem dksX1_meeting_1 : cX1_meeting.data.toList.drop 23 = dktX1_meeting_1 := dk_seg dksX1_meeting_0 23 rfl rfl
theorem dX1_meeting_0 : decode cX1_meeting 0 = .ok (.iconst 0, 1) := dk_3 (dk_at dksX1_meeting_0 0 rfl rfl)
theorem dX1_meeting_1 : decode cX1_meeting 1 = .ok (.istore_n 1, 1) := dk_60 (dk_at dksX1_meeting_0 1 rfl rfl)
theorem dX1_meeting_2 : decode cX1_meeting 2 = .ok (.iload_n 1, 1) := dk_27 (dk_at dksX1_meeting_0 2 rfl rfl)
theorem dX1_meeting_3 : decode cX1_meeting 3 = .ok (.aload_n 0, 1) := dk_42 (dk_at dksX1_meeting_0 3 rfl rfl)
theorem dX1_meeting_4 : decode cX1_meeting 4 = .ok (.getfield 138, 3) := dk_180 0 138 (dk_at dksX1_meeting_0 4 rfl rfl)
theorem dX1_meeting_7 : decode cX1_meeting 7 = .ok (.if_icmp .ge 19, 3) := dk_162 0 19 (dk_at dksX1_meeting_0 7 rfl rfl)
theorem dX1_meeting_10 : decode cX1_meeting 10 = .ok (.aload_n 0, 1) := dk_42 (dk_at dksX1_meeting_0 10 rfl rfl)
theorem dX1_meeting_11 : decode cX1_meeting 11 = .ok (.iload_n 1, 1) := dk_27 (dk_at dksX1_meeting_0 11 rfl rfl)
theorem dX1_meeting_12 : decode cX1_meeting 12 = .ok (.invokevirtual 369, 3) := dk_182 1 113 (dk_at dksX1_meeting_0 12 rfl rfl)
theorem dX1_meeting_15 : decode cX1_meeting 15 = .ok (.ifCond .eq 5, 3) := dk_153 0 5 (dk_at dksX1_meeting_0 15 rfl rfl)
theorem dX1_meeting_18 : decode cX1_meeting 18 = .ok (.iload_n 1, 1) := dk_27 (dk_at dksX1_meeting_0 18 rfl rfl)
theorem dX1_meeting_19 : decode cX1_meeting 19 = .ok (.ireturn, 1) := dk_172 (dk_at dksX1_meeting_0 19 rfl rfl)
theorem dX1_meeting_20 : decode cX1_meeting 20 = .ok (.iinc 1 1, 3) := dk_132 1 1 (dk_at dksX1_meeting_0 20 rfl rfl)
theorem dX1_meeting_23 : decode cX1_meeting 23 = .ok (.goto (-21), 3) := dk_167 255 235 (dk_at dksX1_meeting_1 0 rfl rfl)
theorem dX1_meeting_26 : decode cX1_meeting 26 = .ok (.bipush (-5), 2) := dk_16 251 (dk_at dksX1_meeting_1 3 rfl rfl)
theorem dX1_meeting_28 : decode cX1_meeting 28 = .ok (.ireturn, 1) := dk_172 (dk_at dksX1_meeting_1 5 rfl rfl)
abbrev cX1_meets : ByteArray := prog_1_method_51_code
def yX1_meets : MethodName := ⟨RX1, "meets", "(I)Z"⟩
def dkwX1_meets_4 : List UInt8 := [160, 0, 7, 4, 167, 0, 4, 3, 172]
abbrev dktX1_meets_4 : List UInt8 := dkwX1_meets_4 ++ []
def dkwX1_meets_3 : List UInt8 := [160, 0, 7, 3, 167, 0, 10, 4, 25, 7, 180, 0, 185, 120, 128, 62, 132, 6, 1, 167, 255, 186, 29, 6]
abbrev dktX1_meets_3 : List UInt8 := dkwX1_meets_3 ++ dktX1_meets_4
def dkwX1_meets_2 : List UInt8 := [154, 0, 6, 167, 0, 36, 28, 6, 25, 7, 180, 0, 231, 120, 128, 61, 29, 25, 7, 180, 0, 185, 2]
abbrev dktX1_meets_2 : List UInt8 := dkwX1_meets_2 ++ dktX1_meets_3
def dkwX1_meets_1 : List UInt8 := [162, 0, 69, 25, 4, 21, 6, 50, 58, 7, 25, 7, 198, 0, 51, 28, 6, 25, 7, 180, 0, 231, 120, 126]
abbrev dktX1_meets_1 : List UInt8 := dkwX1_meets_1 ++ dktX1_meets_2
def dkwX1_meets_0 : List UInt8 := [4, 27, 120, 61, 3, 62, 42, 180, 0, 143, 58, 4, 25, 4, 190, 54, 5, 3, 54, 6, 21, 6, 21, 5]
abbrev dktX1_meets_0 : List UInt8 := dkwX1_meets_0 ++ dktX1_meets_1
theorem dksX1_meets_0 : cX1_meets.data.toList.drop 0 = dktX1_meets_0 := by decide +kernel
theorem dksX1_meets_1 : cX1_meets.data.toList.drop 24 = dktX1_meets_1 := dk_seg dksX1_meets_0 24 rfl rfl
theorem dksX1_meets_2 : cX1_meets.data.toList.drop 48 = dktX1_meets_2 := dk_seg dksX1_meets_1 24 rfl rfl
theorem dksX1_meets_3 : cX1_meets.data.toList.drop 71 = dktX1_meets_3 := dk_seg dksX1_meets_2 23 rfl rfl
theorem dksX1_meets_4 : cX1_meets.data.toList.drop 95 = dktX1_meets_4 := dk_seg dksX1_meets_3 24 rfl rfl
theorem dX1_meets_0 : decode cX1_meets 0 = .ok (.iconst 1, 1) := dk_4 (dk_at dksX1_meets_0 0 rfl rfl)
theorem dX1_meets_1 : decode cX1_meets 1 = .ok (.iload_n 1, 1) := dk_27 (dk_at dksX1_meets_0 1 rfl rfl)
theorem dX1_meets_2 : decode cX1_meets 2 = .ok (.ishl, 1) := dk_120 (dk_at dksX1_meets_0 2 rfl rfl)
theorem dX1_meets_3 : decode cX1_meets 3 = .ok (.istore_n 2, 1) := dk_61 (dk_at dksX1_meets_0 3 rfl rfl)
theorem dX1_meets_4 : decode cX1_meets 4 = .ok (.iconst 0, 1) := dk_3 (dk_at dksX1_meets_0 4 rfl rfl)
theorem dX1_meets_5 : decode cX1_meets 5 = .ok (.istore_n 3, 1) := dk_62 (dk_at dksX1_meets_0 5 rfl rfl)
theorem dX1_meets_6 : decode cX1_meets 6 = .ok (.aload_n 0, 1) := dk_42 (dk_at dksX1_meets_0 6 rfl rfl)
theorem dX1_meets_7 : decode cX1_meets 7 = .ok (.getfield 143, 3) := dk_180 0 143 (dk_at dksX1_meets_0 7 rfl rfl)
theorem dX1_meets_10 : decode cX1_meets 10 = .ok (.astore 4, 2) := dk_58 4 (dk_at dksX1_meets_0 10 rfl rfl)
theorem dX1_meets_12 : decode cX1_meets 12 = .ok (.aload 4, 2) := dk_25 4 (dk_at dksX1_meets_0 12 rfl rfl)
theorem dX1_meets_14 : decode cX1_meets 14 = .ok (.arraylength, 1) := dk_190 (dk_at dksX1_meets_0 14 rfl rfl)
theorem dX1_meets_15 : decode cX1_meets 15 = .ok (.istore 5, 2) := dk_54 5 (dk_at dksX1_meets_0 15 rfl rfl)
theorem dX1_meets_17 : decode cX1_meets 17 = .ok (.iconst 0, 1) := dk_3 (dk_at dksX1_meets_0 17 rfl rfl)
theorem dX1_meets_18 : decode cX1_meets 18 = .ok (.istore 6, 2) := dk_54 6 (dk_at dksX1_meets_0 18 rfl rfl)
theorem dX1_meets_20 : decode cX1_meets 20 = .ok (.iload 6, 2) := dk_21 6 (dk_at dksX1_meets_0 20 rfl rfl)
theorem dX1_meets_22 : decode cX1_meets 22 = .ok (.iload 5, 2) := dk_21 5 (dk_at dksX1_meets_0 22 rfl rfl)
theorem dX1_meets_24 : decode cX1_meets 24 = .ok (.if_icmp .ge 69, 3) := dk_162 0 69 (dk_at dksX1_meets_1 0 rfl rfl)
theorem dX1_meets_27 : decode cX1_meets 27 = .ok (.aload 4, 2) := dk_25 4 (dk_at dksX1_meets_1 3 rfl rfl)
theorem dX1_meets_29 : decode cX1_meets 29 = .ok (.iload 6, 2) := dk_21 6 (dk_at dksX1_meets_1 5 rfl rfl)
theorem dX1_meets_31 : decode cX1_meets 31 = .ok (.aaload, 1) := dk_50 (dk_at dksX1_meets_1 7 rfl rfl)
theorem dX1_meets_32 : decode cX1_meets 32 = .ok (.astore 7, 2) := dk_58 7 (dk_at dksX1_meets_1 8 rfl rfl)
theorem dX1_meets_34 : decode cX1_meets 34 = .ok (.aload 7, 2) := dk_25 7 (dk_at dksX1_meets_1 10 rfl rfl)
theorem dX1_meets_36 : decode cX1_meets 36 = .ok (.ifnull 51, 3) := dk_198 0 51 (dk_at dksX1_meets_1 12 rfl rfl)
theorem dX1_meets_39 : decode cX1_meets 39 = .ok (.iload_n 2, 1) := dk_28 (dk_at dksX1_meets_1 15 rfl rfl)
theorem dX1_meets_40 : decode cX1_meets 40 = .ok (.iconst 3, 1) := dk_6 (dk_at dksX1_meets_1 16 rfl rfl)
theorem dX1_meets_41 : decode cX1_meets 41 = .ok (.aload 7, 2) := dk_25 7 (dk_at dksX1_meets_1 17 rfl rfl)
theorem dX1_meets_43 : decode cX1_meets 43 = .ok (.getfield 231, 3) := dk_180 0 231 (dk_at dksX1_meets_1 19 rfl rfl)
theorem dX1_meets_46 : decode cX1_meets 46 = .ok (.ishl, 1) := dk_120 (dk_at dksX1_meets_1 22 rfl rfl)
theorem dX1_meets_47 : decode cX1_meets 47 = .ok (.iand, 1) := dk_126 (dk_at dksX1_meets_1 23 rfl rfl)
theorem dX1_meets_48 : decode cX1_meets 48 = .ok (.ifCond .ne 6, 3) := dk_154 0 6 (dk_at dksX1_meets_2 0 rfl rfl)
theorem dX1_meets_51 : decode cX1_meets 51 = .ok (.goto 36, 3) := dk_167 0 36 (dk_at dksX1_meets_2 3 rfl rfl)
theorem dX1_meets_54 : decode cX1_meets 54 = .ok (.iload_n 2, 1) := dk_28 (dk_at dksX1_meets_2 6 rfl rfl)
theorem dX1_meets_55 : decode cX1_meets 55 = .ok (.iconst 3, 1) := dk_6 (dk_at dksX1_meets_2 7 rfl rfl)
theorem dX1_meets_56 : decode cX1_meets 56 = .ok (.aload 7, 2) := dk_25 7 (dk_at dksX1_meets_2 8 rfl rfl)
theorem dX1_meets_58 : decode cX1_meets 58 = .ok (.getfield 231, 3) := dk_180 0 231 (dk_at dksX1_meets_2 10 rfl rfl)
theorem dX1_meets_61 : decode cX1_meets 61 = .ok (.ishl, 1) := dk_120 (dk_at dksX1_meets_2 13 rfl rfl)
theorem dX1_meets_62 : decode cX1_meets 62 = .ok (.ior, 1) := dk_128 (dk_at dksX1_meets_2 14 rfl rfl)
theorem dX1_meets_63 : decode cX1_meets 63 = .ok (.istore_n 2, 1) := dk_61 (dk_at dksX1_meets_2 15 rfl rfl)
theorem dX1_meets_64 : decode cX1_meets 64 = .ok (.iload_n 3, 1) := dk_29 (dk_at dksX1_meets_2 16 rfl rfl)
theorem dX1_meets_65 : decode cX1_meets 65 = .ok (.aload 7, 2) := dk_25 7 (dk_at dksX1_meets_2 17 rfl rfl)
theorem dX1_meets_67 : decode cX1_meets 67 = .ok (.getfield 185, 3) := dk_180 0 185 (dk_at dksX1_meets_2 19 rfl rfl)
theorem dX1_meets_70 : decode cX1_meets 70 = .ok (.iconst (-1), 1) := dk_2 (dk_at dksX1_meets_2 22 rfl rfl)
theorem dX1_meets_71 : decode cX1_meets 71 = .ok (.if_icmp .ne 7, 3) := dk_160 0 7 (dk_at dksX1_meets_3 0 rfl rfl)
theorem dX1_meets_74 : decode cX1_meets 74 = .ok (.iconst 0, 1) := dk_3 (dk_at dksX1_meets_3 3 rfl rfl)
theorem dX1_meets_75 : decode cX1_meets 75 = .ok (.goto 10, 3) := dk_167 0 10 (dk_at dksX1_meets_3 4 rfl rfl)
theorem dX1_meets_78 : decode cX1_meets 78 = .ok (.iconst 1, 1) := dk_4 (dk_at dksX1_meets_3 7 rfl rfl)
theorem dX1_meets_79 : decode cX1_meets 79 = .ok (.aload 7, 2) := dk_25 7 (dk_at dksX1_meets_3 8 rfl rfl)
theorem dX1_meets_81 : decode cX1_meets 81 = .ok (.getfield 185, 3) := dk_180 0 185 (dk_at dksX1_meets_3 10 rfl rfl)
theorem dX1_meets_84 : decode cX1_meets 84 = .ok (.ishl, 1) := dk_120 (dk_at dksX1_meets_3 13 rfl rfl)
theorem dX1_meets_85 : decode cX1_meets 85 = .ok (.ior, 1) := dk_128 (dk_at dksX1_meets_3 14 rfl rfl)
theorem dX1_meets_86 : decode cX1_meets 86 = .ok (.istore_n 3, 1) := dk_62 (dk_at dksX1_meets_3 15 rfl rfl)
theorem dX1_meets_87 : decode cX1_meets 87 = .ok (.iinc 6 1, 3) := dk_132 6 1 (dk_at dksX1_meets_3 16 rfl rfl)
theorem dX1_meets_90 : decode cX1_meets 90 = .ok (.goto (-70), 3) := dk_167 255 186 (dk_at dksX1_meets_3 19 rfl rfl)
theorem dX1_meets_93 : decode cX1_meets 93 = .ok (.iload_n 3, 1) := dk_29 (dk_at dksX1_meets_3 22 rfl rfl)
theorem dX1_meets_94 : decode cX1_meets 94 = .ok (.iconst 3, 1) := dk_6 (dk_at dksX1_meets_3 23 rfl rfl)
theorem dX1_meets_95 : decode cX1_meets 95 = .ok (.if_icmp .ne 7, 3) := dk_160 0 7 (dk_at dksX1_meets_4 0 rfl rfl)
theorem dX1_meets_98 : decode cX1_meets 98 = .ok (.iconst 1, 1) := dk_4 (dk_at dksX1_meets_4 3 rfl rfl)
theorem dX1_meets_99 : decode cX1_meets 99 = .ok (.goto 4, 3) := dk_167 0 4 (dk_at dksX1_meets_4 4 rfl rfl)
theorem dX1_meets_102 : decode cX1_meets 102 = .ok (.iconst 0, 1) := dk_3 (dk_at dksX1_meets_4 7 rfl rfl)
theorem dX1_meets_103 : decode cX1_meets 103 = .ok (.ireturn, 1) := dk_172 (dk_at dksX1_meets_4 8 rfl rfl)
abbrev cX1_count : ByteArray := prog_1_method_54_code
def yX1_count : MethodName := ⟨RX1, "count", "(I)I"⟩
def dkwX1_count_6 : List UInt8 := [2, 172]
abbrev dktX1_count_6 : List UInt8 := dkwX1_count_6 ++ []
def dkwX1_count_5 : List UInt8 := [182, 1, 28, 172, 42, 180, 0, 161, 172, 42, 180, 1, 5, 172, 42, 182, 1, 116, 172, 42, 180, 0, 46, 172]
abbrev dktX1_count_5 : List UInt8 := dkwX1_count_5 ++ dktX1_count_6
def dkwX1_count_4 : List UInt8 := [167, 0, 4, 3, 96, 61, 132, 5, 1, 167, 255, 219, 28, 172, 42, 180, 0, 221, 172, 42, 180, 0, 125]
abbrev dktX1_count_4 : List UInt8 := dkwX1_count_4 ++ dktX1_count_5
def dkwX1_count_3 : List UInt8 := [162, 0, 36, 45, 21, 5, 50, 58, 6, 28, 25, 6, 198, 0, 15, 25, 6, 182, 0, 167, 153, 0, 7, 4]
abbrev dktX1_count_3 : List UInt8 := dkwX1_count_3 ++ dktX1_count_4
def dkwX1_count_2 : List UInt8 := [42, 180, 0, 138, 172, 3, 61, 42, 180, 0, 143, 78, 45, 190, 54, 4, 3, 54, 5, 21, 5, 21, 4]
abbrev dktX1_count_2 : List UInt8 := dkwX1_count_2 ++ dktX1_count_3
def dkwX1_count_1 : List UInt8 := [170, 0, 0, 0, 0, 0, 141, 0, 0, 0, 0, 0, 0, 0, 7, 0, 0, 0, 47, 0, 0, 0, 52, 0, 0, 0, 108, 0, 0, 0, 113, 0, 0, 0, 121, 0, 0, 0, 126, 0, 0, 0, 131, 0, 0, 0, 136]
abbrev dktX1_count_1 : List UInt8 := dkwX1_count_1 ++ dktX1_count_2
def dkwX1_count_0 : List UInt8 := [27]
abbrev dktX1_count_0 : List UInt8 := dkwX1_count_0 ++ dktX1_count_1
theorem dksX1_count_0 : cX1_count.data.toList.drop 0 = dktX1_count_0 := by decide +kernel
theorem dksX1_count_1 : cX1_count.data.toList.drop 1 = dktX1_count_1 := dk_seg dksX1_count_0 1 rfl rfl
theorem dksX1_count_2 : cX1_count.data.toList.drop 48 = dktX1_count_2 := dk_seg dksX1_count_1 47 rfl rfl
theorem dksX1_count_3 : cX1_count.data.toList.drop 71 = dktX1_count_3 := dk_seg dksX1_count_2 23 rfl rfl
theorem dksX1_count_4 : cX1_count.data.toList.drop 95 = dktX1_count_4 := dk_seg dksX1_count_3 24 rfl rfl
theorem dksX1_count_5 : cX1_count.data.toList.drop 118 = dktX1_count_5 := dk_seg dksX1_count_4 23 rfl rfl
theorem dksX1_count_6 : cX1_count.data.toList.drop 142 = dktX1_count_6 := dk_seg dksX1_count_5 24 rfl rfl
theorem dX1_count_0 : decode cX1_count 0 = .ok (.iload_n 1, 1) := dk_27 (dk_at dksX1_count_0 0 rfl rfl)
theorem dX1_count_1 : decode cX1_count 1 = .ok (.tableswitch 141 0 7 #[47, 52, 108, 113, 121, 126, 131, 136], 47) := by decide +kernel
theorem dX1_count_48 : decode cX1_count 48 = .ok (.aload_n 0, 1) := dk_42 (dk_at dksX1_count_2 0 rfl rfl)
theorem dX1_count_49 : decode cX1_count 49 = .ok (.getfield 138, 3) := dk_180 0 138 (dk_at dksX1_count_2 1 rfl rfl)
theorem dX1_count_52 : decode cX1_count 52 = .ok (.ireturn, 1) := dk_172 (dk_at dksX1_count_2 4 rfl rfl)
theorem dX1_count_53 : decode cX1_count 53 = .ok (.iconst 0, 1) := dk_3 (dk_at dksX1_count_2 5 rfl rfl)
theorem dX1_count_54 : decode cX1_count 54 = .ok (.istore_n 2, 1) := dk_61 (dk_at dksX1_count_2 6 rfl rfl)
theorem dX1_count_55 : decode cX1_count 55 = .ok (.aload_n 0, 1) := dk_42 (dk_at dksX1_count_2 7 rfl rfl)
theorem dX1_count_56 : decode cX1_count 56 = .ok (.getfield 143, 3) := dk_180 0 143 (dk_at dksX1_count_2 8 rfl rfl)
theorem dX1_count_59 : decode cX1_count 59 = .ok (.astore_n 3, 1) := dk_78 (dk_at dksX1_count_2 11 rfl rfl)
theorem dX1_count_60 : decode cX1_count 60 = .ok (.aload_n 3, 1) := dk_45 (dk_at dksX1_count_2 12 rfl rfl)
theorem dX1_count_61 : decode cX1_count 61 = .ok (.arraylength, 1) := dk_190 (dk_at dksX1_count_2 13 rfl rfl)
theorem dX1_count_62 : decode cX1_count 62 = .ok (.istore 4, 2) := dk_54 4 (dk_at dksX1_count_2 14 rfl rfl)
theorem dX1_count_64 : decode cX1_count 64 = .ok (.iconst 0, 1) := dk_3 (dk_at dksX1_count_2 16 rfl rfl)
theorem dX1_count_65 : decode cX1_count 65 = .ok (.istore 5, 2) := dk_54 5 (dk_at dksX1_count_2 17 rfl rfl)
theorem dX1_count_67 : decode cX1_count 67 = .ok (.iload 5, 2) := dk_21 5 (dk_at dksX1_count_2 19 rfl rfl)
theorem dX1_count_69 : decode cX1_count 69 = .ok (.iload 4, 2) := dk_21 4 (dk_at dksX1_count_2 21 rfl rfl)
theorem dX1_count_71 : decode cX1_count 71 = .ok (.if_icmp .ge 36, 3) := dk_162 0 36 (dk_at dksX1_count_3 0 rfl rfl)
theorem dX1_count_74 : decode cX1_count 74 = .ok (.aload_n 3, 1) := dk_45 (dk_at dksX1_count_3 3 rfl rfl)
theorem dX1_count_75 : decode cX1_count 75 = .ok (.iload 5, 2) := dk_21 5 (dk_at dksX1_count_3 4 rfl rfl)
theorem dX1_count_77 : decode cX1_count 77 = .ok (.aaload, 1) := dk_50 (dk_at dksX1_count_3 6 rfl rfl)
theorem dX1_count_78 : decode cX1_count 78 = .ok (.astore 6, 2) := dk_58 6 (dk_at dksX1_count_3 7 rfl rfl)
theorem dX1_count_80 : decode cX1_count 80 = .ok (.iload_n 2, 1) := dk_28 (dk_at dksX1_count_3 9 rfl rfl)
theorem dX1_count_81 : decode cX1_count 81 = .ok (.aload 6, 2) := dk_25 6 (dk_at dksX1_count_3 10 rfl rfl)
theorem dX1_count_83 : decode cX1_count 83 = .ok (.ifnull 15, 3) := dk_198 0 15 (dk_at dksX1_count_3 12 rfl rfl)
theorem dX1_count_86 : decode cX1_count 86 = .ok (.aload 6, 2) := dk_25 6 (dk_at dksX1_count_3 15 rfl rfl)
theorem dX1_count_88 : decode cX1_count 88 = .ok (.invokevirtual 167, 3) := dk_182 0 167 (dk_at dksX1_count_3 17 rfl rfl)
theorem dX1_count_91 : decode cX1_count 91 = .ok (.ifCond .eq 7, 3) := dk_153 0 7 (dk_at dksX1_count_3 20 rfl rfl)
theorem dX1_count_94 : decode cX1_count 94 = .ok (.iconst 1, 1) := dk_4 (dk_at dksX1_count_3 23 rfl rfl)
theorem dX1_count_95 : decode cX1_count 95 = .ok (.goto 4, 3) := dk_167 0 4 (dk_at dksX1_count_4 0 rfl rfl)
theorem dX1_count_98 : decode cX1_count 98 = .ok (.iconst 0, 1) := dk_3 (dk_at dksX1_count_4 3 rfl rfl)
theorem dX1_count_99 : decode cX1_count 99 = .ok (.iadd, 1) := dk_96 (dk_at dksX1_count_4 4 rfl rfl)
theorem dX1_count_100 : decode cX1_count 100 = .ok (.istore_n 2, 1) := dk_61 (dk_at dksX1_count_4 5 rfl rfl)
theorem dX1_count_101 : decode cX1_count 101 = .ok (.iinc 5 1, 3) := dk_132 5 1 (dk_at dksX1_count_4 6 rfl rfl)
theorem dX1_count_104 : decode cX1_count 104 = .ok (.goto (-37), 3) := dk_167 255 219 (dk_at dksX1_count_4 9 rfl rfl)
theorem dX1_count_107 : decode cX1_count 107 = .ok (.iload_n 2, 1) := dk_28 (dk_at dksX1_count_4 12 rfl rfl)
theorem dX1_count_108 : decode cX1_count 108 = .ok (.ireturn, 1) := dk_172 (dk_at dksX1_count_4 13 rfl rfl)
theorem dX1_count_109 : decode cX1_count 109 = .ok (.aload_n 0, 1) := dk_42 (dk_at dksX1_count_4 14 rfl rfl)
theorem dX1_count_110 : decode cX1_count 110 = .ok (.getfield 221, 3) := dk_180 0 221 (dk_at dksX1_count_4 15 rfl rfl)
theorem dX1_count_113 : decode cX1_count 113 = .ok (.ireturn, 1) := dk_172 (dk_at dksX1_count_4 18 rfl rfl)
theorem dX1_count_114 : decode cX1_count 114 = .ok (.aload_n 0, 1) := dk_42 (dk_at dksX1_count_4 19 rfl rfl)
theorem dX1_count_115 : decode cX1_count 115 = .ok (.getfield 125, 3) := dk_180 0 125 (dk_at dksX1_count_4 20 rfl rfl)
theorem dX1_count_118 : decode cX1_count 118 = .ok (.invokevirtual 284, 3) := dk_182 1 28 (dk_at dksX1_count_5 0 rfl rfl)
theorem dX1_count_121 : decode cX1_count 121 = .ok (.ireturn, 1) := dk_172 (dk_at dksX1_count_5 3 rfl rfl)
theorem dX1_count_122 : decode cX1_count 122 = .ok (.aload_n 0, 1) := dk_42 (dk_at dksX1_count_5 4 rfl rfl)
theorem dX1_count_123 : decode cX1_count 123 = .ok (.getfield 161, 3) := dk_180 0 161 (dk_at dksX1_count_5 5 rfl rfl)
theorem dX1_count_126 : decode cX1_count 126 = .ok (.ireturn, 1) := dk_172 (dk_at dksX1_count_5 8 rfl rfl)
theorem dX1_count_127 : decode cX1_count 127 = .ok (.aload_n 0, 1) := dk_42 (dk_at dksX1_count_5 9 rfl rfl)
theorem dX1_count_128 : decode cX1_count 128 = .ok (.getfield 261, 3) := dk_180 1 5 (dk_at dksX1_count_5 10 rfl rfl)
theorem dX1_count_131 : decode cX1_count 131 = .ok (.ireturn, 1) := dk_172 (dk_at dksX1_count_5 13 rfl rfl)
theorem dX1_count_132 : decode cX1_count 132 = .ok (.aload_n 0, 1) := dk_42 (dk_at dksX1_count_5 14 rfl rfl)
theorem dX1_count_133 : decode cX1_count 133 = .ok (.invokevirtual 372, 3) := dk_182 1 116 (dk_at dksX1_count_5 15 rfl rfl)
theorem dX1_count_136 : decode cX1_count 136 = .ok (.ireturn, 1) := dk_172 (dk_at dksX1_count_5 18 rfl rfl)
theorem dX1_count_137 : decode cX1_count 137 = .ok (.aload_n 0, 1) := dk_42 (dk_at dksX1_count_5 19 rfl rfl)
theorem dX1_count_138 : decode cX1_count 138 = .ok (.getfield 46, 3) := dk_180 0 46 (dk_at dksX1_count_5 20 rfl rfl)
theorem dX1_count_141 : decode cX1_count 141 = .ok (.ireturn, 1) := dk_172 (dk_at dksX1_count_5 23 rfl rfl)
theorem dX1_count_142 : decode cX1_count 142 = .ok (.iconst (-1), 1) := dk_2 (dk_at dksX1_count_6 0 rfl rfl)
theorem dX1_count_143 : decode cX1_count 143 = .ok (.ireturn, 1) := dk_172 (dk_at dksX1_count_6 1 rfl rfl)
abbrev cX1_usedLayers : ByteArray := prog_1_method_53_code
def yX1_usedLayers : MethodName := ⟨RX1, "usedLayers", "()I"⟩
def dkwX1_usedLayers_4 : List UInt8 := [132, 2, 1, 167, 255, 163, 27, 172]
abbrev dktX1_usedLayers_4 : List UInt8 := dkwX1_usedLayers_4 ++ []
def dkwX1_usedLayers_3 : List UInt8 := [167, 0, 4, 3, 128, 62, 132, 4, 2, 167, 255, 194, 27, 29, 153, 0, 7, 4, 167, 0, 4, 3, 96, 60]
abbrev dktX1_usedLayers_3 : List UInt8 := dkwX1_usedLayers_3 ++ dktX1_usedLayers_4
def dkwX1_usedLayers_2 : List UInt8 := [157, 0, 23, 42, 180, 0, 143, 28, 42, 180, 0, 138, 104, 21, 4, 96, 50, 182, 0, 167, 153, 0, 7, 4]
abbrev dktX1_usedLayers_2 : List UInt8 := dkwX1_usedLayers_2 ++ dktX1_usedLayers_3
def dkwX1_usedLayers_1 : List UInt8 := [100, 162, 0, 57, 29, 42, 180, 0, 143, 28, 42, 180, 0, 138, 104, 21, 4, 96, 50, 180, 0, 164]
abbrev dktX1_usedLayers_1 : List UInt8 := dkwX1_usedLayers_1 ++ dktX1_usedLayers_2
def dkwX1_usedLayers_0 : List UInt8 := [3, 60, 3, 61, 28, 16, 12, 162, 0, 93, 3, 62, 28, 5, 112, 54, 4, 21, 4, 42, 180, 0, 138, 4]
abbrev dktX1_usedLayers_0 : List UInt8 := dkwX1_usedLayers_0 ++ dktX1_usedLayers_1
theorem dksX1_usedLayers_0 : cX1_usedLayers.data.toList.drop 0 = dktX1_usedLayers_0 := by decide +kernel
theorem dksX1_usedLayers_1 : cX1_usedLayers.data.toList.drop 24 = dktX1_usedLayers_1 := dk_seg dksX1_usedLayers_0 24 rfl rfl
theorem dksX1_usedLayers_2 : cX1_usedLayers.data.toList.drop 46 = dktX1_usedLayers_2 := dk_seg dksX1_usedLayers_1 22 rfl rfl
theorem dksX1_usedLayers_3 : cX1_usedLayers.data.toList.drop 70 = dktX1_usedLayers_3 := dk_seg dksX1_usedLayers_2 24 rfl rfl
theorem dksX1_usedLayers_4 : cX1_usedLayers.data.toList.drop 94 = dktX1_usedLayers_4 := dk_seg dksX1_usedLayers_3 24 rfl rfl
theorem dX1_usedLayers_0 : decode cX1_usedLayers 0 = .ok (.iconst 0, 1) := dk_3 (dk_at dksX1_usedLayers_0 0 rfl rfl)
theorem dX1_usedLayers_1 : decode cX1_usedLayers 1 = .ok (.istore_n 1, 1) := dk_60 (dk_at dksX1_usedLayers_0 1 rfl rfl)
theorem dX1_usedLayers_2 : decode cX1_usedLayers 2 = .ok (.iconst 0, 1) := dk_3 (dk_at dksX1_usedLayers_0 2 rfl rfl)
theorem dX1_usedLayers_3 : decode cX1_usedLayers 3 = .ok (.istore_n 2, 1) := dk_61 (dk_at dksX1_usedLayers_0 3 rfl rfl)
theorem dX1_usedLayers_4 : decode cX1_usedLayers 4 = .ok (.iload_n 2, 1) := dk_28 (dk_at dksX1_usedLayers_0 4 rfl rfl)
theorem dX1_usedLayers_5 : decode cX1_usedLayers 5 = .ok (.bipush 12, 2) := dk_16 12 (dk_at dksX1_usedLayers_0 5 rfl rfl)
theorem dX1_usedLayers_7 : decode cX1_usedLayers 7 = .ok (.if_icmp .ge 93, 3) := dk_162 0 93 (dk_at dksX1_usedLayers_0 7 rfl rfl)
theorem dX1_usedLayers_10 : decode cX1_usedLayers 10 = .ok (.iconst 0, 1) := dk_3 (dk_at dksX1_usedLayers_0 10 rfl rfl)
theorem dX1_usedLayers_11 : decode cX1_usedLayers 11 = .ok (.istore_n 3, 1) := dk_62 (dk_at dksX1_usedLayers_0 11 rfl rfl)
theorem dX1_usedLayers_12 : decode cX1_usedLayers 12 = .ok (.iload_n 2, 1) := dk_28 (dk_at dksX1_usedLayers_0 12 rfl rfl)
theorem dX1_usedLayers_13 : decode cX1_usedLayers 13 = .ok (.iconst 2, 1) := dk_5 (dk_at dksX1_usedLayers_0 13 rfl rfl)
theorem dX1_usedLayers_14 : decode cX1_usedLayers 14 = .ok (.irem, 1) := dk_112 (dk_at dksX1_usedLayers_0 14 rfl rfl)
theorem dX1_usedLayers_15 : decode cX1_usedLayers 15 = .ok (.istore 4, 2) := dk_54 4 (dk_at dksX1_usedLayers_0 15 rfl rfl)
theorem dX1_usedLayers_17 : decode cX1_usedLayers 17 = .ok (.iload 4, 2) := dk_21 4 (dk_at dksX1_usedLayers_0 17 rfl rfl)
theorem dX1_usedLayers_19 : decode cX1_usedLayers 19 = .ok (.aload_n 0, 1) := dk_42 (dk_at dksX1_usedLayers_0 19 rfl rfl)
theorem dX1_usedLayers_20 : decode cX1_usedLayers 20 = .ok (.getfield 138, 3) := dk_180 0 138 (dk_at dksX1_usedLayers_0 20 rfl rfl)
theorem dX1_usedLayers_23 : decode cX1_usedLayers 23 = .ok (.iconst 1, 1) := dk_4 (dk_at dksX1_usedLayers_0 23 rfl rfl)
theorem dX1_usedLayers_24 : decode cX1_usedLayers 24 = .ok (.isub, 1) := dk_100 (dk_at dksX1_usedLayers_1 0 rfl rfl)
theorem dX1_usedLayers_25 : decode cX1_usedLayers 25 = .ok (.if_icmp .ge 57, 3) := dk_162 0 57 (dk_at dksX1_usedLayers_1 1 rfl rfl)
theorem dX1_usedLayers_28 : decode cX1_usedLayers 28 = .ok (.iload_n 3, 1) := dk_29 (dk_at dksX1_usedLayers_1 4 rfl rfl)
theorem dX1_usedLayers_29 : decode cX1_usedLayers 29 = .ok (.aload_n 0, 1) := dk_42 (dk_at dksX1_usedLayers_1 5 rfl rfl)
theorem dX1_usedLayers_30 : decode cX1_usedLayers 30 = .ok (.getfield 143, 3) := dk_180 0 143 (dk_at dksX1_usedLayers_1 6 rfl rfl)
theorem dX1_usedLayers_33 : decode cX1_usedLayers 33 = .ok (.iload_n 2, 1) := dk_28 (dk_at dksX1_usedLayers_1 9 rfl rfl)
theorem dX1_usedLayers_34 : decode cX1_usedLayers 34 = .ok (.aload_n 0, 1) := dk_42 (dk_at dksX1_usedLayers_1 10 rfl rfl)
theorem dX1_usedLayers_35 : decode cX1_usedLayers 35 = .ok (.getfield 138, 3) := dk_180 0 138 (dk_at dksX1_usedLayers_1 11 rfl rfl)
theorem dX1_usedLayers_38 : decode cX1_usedLayers 38 = .ok (.imul, 1) := dk_104 (dk_at dksX1_usedLayers_1 14 rfl rfl)
theorem dX1_usedLayers_39 : decode cX1_usedLayers 39 = .ok (.iload 4, 2) := dk_21 4 (dk_at dksX1_usedLayers_1 15 rfl rfl)
theorem dX1_usedLayers_41 : decode cX1_usedLayers 41 = .ok (.iadd, 1) := dk_96 (dk_at dksX1_usedLayers_1 17 rfl rfl)
theorem dX1_usedLayers_42 : decode cX1_usedLayers 42 = .ok (.aaload, 1) := dk_50 (dk_at dksX1_usedLayers_1 18 rfl rfl)
theorem dX1_usedLayers_43 : decode cX1_usedLayers 43 = .ok (.getfield 164, 3) := dk_180 0 164 (dk_at dksX1_usedLayers_1 19 rfl rfl)
theorem dX1_usedLayers_46 : decode cX1_usedLayers 46 = .ok (.ifCond .gt 23, 3) := dk_157 0 23 (dk_at dksX1_usedLayers_2 0 rfl rfl)
theorem dX1_usedLayers_49 : decode cX1_usedLayers 49 = .ok (.aload_n 0, 1) := dk_42 (dk_at dksX1_usedLayers_2 3 rfl rfl)
theorem dX1_usedLayers_50 : decode cX1_usedLayers 50 = .ok (.getfield 143, 3) := dk_180 0 143 (dk_at dksX1_usedLayers_2 4 rfl rfl)
theorem dX1_usedLayers_53 : decode cX1_usedLayers 53 = .ok (.iload_n 2, 1) := dk_28 (dk_at dksX1_usedLayers_2 7 rfl rfl)
theorem dX1_usedLayers_54 : decode cX1_usedLayers 54 = .ok (.aload_n 0, 1) := dk_42 (dk_at dksX1_usedLayers_2 8 rfl rfl)
theorem dX1_usedLayers_55 : decode cX1_usedLayers 55 = .ok (.getfield 138, 3) := dk_180 0 138 (dk_at dksX1_usedLayers_2 9 rfl rfl)
theorem dX1_usedLayers_58 : decode cX1_usedLayers 58 = .ok (.imul, 1) := dk_104 (dk_at dksX1_usedLayers_2 12 rfl rfl)
theorem dX1_usedLayers_59 : decode cX1_usedLayers 59 = .ok (.iload 4, 2) := dk_21 4 (dk_at dksX1_usedLayers_2 13 rfl rfl)
theorem dX1_usedLayers_61 : decode cX1_usedLayers 61 = .ok (.iadd, 1) := dk_96 (dk_at dksX1_usedLayers_2 15 rfl rfl)
theorem dX1_usedLayers_62 : decode cX1_usedLayers 62 = .ok (.aaload, 1) := dk_50 (dk_at dksX1_usedLayers_2 16 rfl rfl)
theorem dX1_usedLayers_63 : decode cX1_usedLayers 63 = .ok (.invokevirtual 167, 3) := dk_182 0 167 (dk_at dksX1_usedLayers_2 17 rfl rfl)
theorem dX1_usedLayers_66 : decode cX1_usedLayers 66 = .ok (.ifCond .eq 7, 3) := dk_153 0 7 (dk_at dksX1_usedLayers_2 20 rfl rfl)
theorem dX1_usedLayers_69 : decode cX1_usedLayers 69 = .ok (.iconst 1, 1) := dk_4 (dk_at dksX1_usedLayers_2 23 rfl rfl)
theorem dX1_usedLayers_70 : decode cX1_usedLayers 70 = .ok (.goto 4, 3) := dk_167 0 4 (dk_at dksX1_usedLayers_3 0 rfl rfl)
theorem dX1_usedLayers_73 : decode cX1_usedLayers 73 = .ok (.iconst 0, 1) := dk_3 (dk_at dksX1_usedLayers_3 3 rfl rfl)
theorem dX1_usedLayers_74 : decode cX1_usedLayers 74 = .ok (.ior, 1) := dk_128 (dk_at dksX1_usedLayers_3 4 rfl rfl)
theorem dX1_usedLayers_75 : decode cX1_usedLayers 75 = .ok (.istore_n 3, 1) := dk_62 (dk_at dksX1_usedLayers_3 5 rfl rfl)
theorem dX1_usedLayers_76 : decode cX1_usedLayers 76 = .ok (.iinc 4 2, 3) := dk_132 4 2 (dk_at dksX1_usedLayers_3 6 rfl rfl)
theorem dX1_usedLayers_79 : decode cX1_usedLayers 79 = .ok (.goto (-62), 3) := dk_167 255 194 (dk_at dksX1_usedLayers_3 9 rfl rfl)
theorem dX1_usedLayers_82 : decode cX1_usedLayers 82 = .ok (.iload_n 1, 1) := dk_27 (dk_at dksX1_usedLayers_3 12 rfl rfl)
theorem dX1_usedLayers_83 : decode cX1_usedLayers 83 = .ok (.iload_n 3, 1) := dk_29 (dk_at dksX1_usedLayers_3 13 rfl rfl)
theorem dX1_usedLayers_84 : decode cX1_usedLayers 84 = .ok (.ifCond .eq 7, 3) := dk_153 0 7 (dk_at dksX1_usedLayers_3 14 rfl rfl)
theorem dX1_usedLayers_87 : decode cX1_usedLayers 87 = .ok (.iconst 1, 1) := dk_4 (dk_at dksX1_usedLayers_3 17 rfl rfl)
theorem dX1_usedLayers_88 : decode cX1_usedLayers 88 = .ok (.goto 4, 3) := dk_167 0 4 (dk_at dksX1_usedLayers_3 18 rfl rfl)
theorem dX1_usedLayers_91 : decode cX1_usedLayers 91 = .ok (.iconst 0, 1) := dk_3 (dk_at dksX1_usedLayers_3 21 rfl rfl)
theorem dX1_usedLayers_92 : decode cX1_usedLayers 92 = .ok (.iadd, 1) := dk_96 (dk_at dksX1_usedLayers_3 22 rfl rfl)
theorem dX1_usedLayers_93 : decode cX1_usedLayers 93 = .ok (.istore_n 1, 1) := dk_60 (dk_at dksX1_usedLayers_3 23 rfl rfl)
theorem dX1_usedLayers_94 : decode cX1_usedLayers 94 = .ok (.iinc 2 1, 3) := dk_132 2 1 (dk_at dksX1_usedLayers_4 0 rfl rfl)
theorem dX1_usedLayers_97 : decode cX1_usedLayers 97 = .ok (.goto (-93), 3) := dk_167 255 163 (dk_at dksX1_usedLayers_4 3 rfl rfl)
theorem dX1_usedLayers_100 : decode cX1_usedLayers 100 = .ok (.iload_n 1, 1) := dk_27 (dk_at dksX1_usedLayers_4 6 rfl rfl)
theorem dX1_usedLayers_101 : decode cX1_usedLayers 101 = .ok (.ireturn, 1) := dk_172 (dk_at dksX1_usedLayers_4 7 rfl rfl)
theorem q60 : (Jvm.Cond.initialized "LightPlate") ∈ lw_all := lw_g (lw_at lw_m1 1 rfl) rfl
theorem q90 : (Jvm.Cond.instanceMethod ({ cls := "LightPlate", name := "turn", desc := "(II)I" } : Jvm.MethodName)) ∈ lw_all := lw_g (lw_at lw_m1 31 rfl) rfl
theorem q91 : (Jvm.Cond.selects "LightPlate" ({ cls := "LightPlate", name := "turn", desc := "(II)I" } : Jvm.MethodName) ({ cls := "LightPlate", name := "turn", desc := "(II)I" } : Jvm.MethodName)) ∈ lw_all := lw_g (lw_at lw_m1 32 rfl) rfl
theorem q92 : (Jvm.Cond.code ({ cls := "LightPlate", name := "turn", desc := "(II)I" } : Jvm.MethodName) prog_1_method_5_code (3 : Nat) (Option.some Jvm.ClassFile.FieldType.int)) ∈ lw_all := lw_g (lw_at lw_m1 33 rfl) rfl
theorem q93 : (Jvm.Cond.methodLink "LightPlate" (25 : Nat) ({ cls := "LightPlate", name := "in", desc := "(III)Z" } : Jvm.MethodName)) ∈ lw_all := lw_g (lw_at lw_m1 34 rfl) rfl
theorem q94 : (Jvm.Cond.static ({ cls := "LightPlate", name := "in", desc := "(III)Z" } : Jvm.MethodName)) ∈ lw_all := lw_g (lw_at lw_m1 35 rfl) rfl
theorem q95 : (Jvm.Cond.code ({ cls := "LightPlate", name := "in", desc := "(III)Z" } : Jvm.MethodName) prog_1_method_1_code (3 : Nat) (Option.some Jvm.ClassFile.FieldType.boolean)) ∈ lw_all := lw_g (lw_at lw_m1 36 rfl) rfl
theorem q96 : (Jvm.Cond.methodLink "LightPlate" (29 : Nat) ({ cls := "LightPlate", name := "whole", desc := "(I)I" } : Jvm.MethodName)) ∈ lw_all := lw_g (lw_at lw_m1 37 rfl) rfl
theorem q97 : (Jvm.Cond.static ({ cls := "LightPlate", name := "whole", desc := "(I)I" } : Jvm.MethodName)) ∈ lw_all := lw_g (lw_at lw_m1 38 rfl) rfl
theorem q98 : (Jvm.Cond.code ({ cls := "LightPlate", name := "whole", desc := "(I)I" } : Jvm.MethodName) prog_1_method_3_code (1 : Nat) (Option.some Jvm.ClassFile.FieldType.int)) ∈ lw_all := lw_g (lw_at lw_m1 39 rfl) rfl
theorem q99 : (Jvm.Cond.methodLink "LightPlate" (11 : Nat) ({ cls := "java/lang/Math", name := "floorMod", desc := "(II)I" } : Jvm.MethodName)) ∈ lw_all := lw_g (lw_at lw_m1 40 rfl) rfl
theorem q103 : (Jvm.Cond.instantiable "LightPlate" (33 : Nat)) ∈ lw_all := lw_g (lw_at lw_m1 44 rfl) rfl
theorem q105 : (Jvm.Cond.instanceMethod ({ cls := "LightPlate", name := "<init>", desc := "(I)V" } : Jvm.MethodName)) ∈ lw_all := lw_g (lw_at lw_m1 46 rfl) rfl
theorem q106 : (Jvm.Cond.code ({ cls := "LightPlate", name := "<init>", desc := "(I)V" } : Jvm.MethodName) prog_1_method_7_code (4 : Nat) (Option.none : Option Jvm.ClassFile.FieldType)) ∈ lw_all := lw_g (lw_at lw_m1 47 rfl) rfl
theorem q107 : (Jvm.Cond.methodLink "LightPlate" (36 : Nat) ({ cls := "java/lang/Object", name := "<init>", desc := "()V" } : Jvm.MethodName)) ∈ lw_all := lw_g (lw_at lw_m1 48 rfl) rfl
theorem q110 : (Jvm.Cond.constantLong "LightPlate" (42 : Nat) (22 : Int64)) ∈ lw_all := lw_g (lw_at lw_m1 51 rfl) rfl
theorem q111 : (Jvm.Cond.constantLong "LightPlate" (44 : Nat) (83 : Int64)) ∈ lw_all := lw_g (lw_at lw_m1 52 rfl) rfl
theorem q112 : (Jvm.Cond.methodLink "LightPlate" (21 : Nat) ({ cls := "LightPlate", name := "part", desc := "(J)I" } : Jvm.MethodName)) ∈ lw_all := lw_g (lw_at lw_m1 53 rfl) rfl
theorem q113 : (Jvm.Cond.static ({ cls := "LightPlate", name := "part", desc := "(J)I" } : Jvm.MethodName)) ∈ lw_all := lw_g (lw_at lw_m1 54 rfl) rfl
theorem q114 : (Jvm.Cond.code ({ cls := "LightPlate", name := "part", desc := "(J)I" } : Jvm.MethodName) prog_1_method_2_code (2 : Nat) (Option.some Jvm.ClassFile.FieldType.int)) ∈ lw_all := lw_g (lw_at lw_m1 55 rfl) rfl
theorem q115 : (Jvm.Cond.constantLong "LightPlate" (3 : Nat) (97 : Int64)) ∈ lw_all := lw_g (lw_at lw_m1 56 rfl) rfl
theorem q116 : (Jvm.Cond.methodLink "LightPlate" (5 : Nat) ({ cls := "java/lang/Math", name := "floorMod", desc := "(JJ)J" } : Jvm.MethodName)) ∈ lw_all := lw_g (lw_at lw_m1 57 rfl) rfl
theorem q119 : (Jvm.Cond.classLink "LightPlate" (50 : Nat) "LightPlate$Plain") ∈ lw_all := lw_g (lw_at lw_m1 60 rfl) rfl
theorem q121 : (Jvm.Cond.methodLinkNest "LightPlate" (52 : Nat) ({ cls := "LightPlate$Plain", name := "<init>", desc := "(LLightPlate;)V" } : Jvm.MethodName) "LightPlate") ∈ lw_tbl := lw_at lw_m1 62 rfl
theorem q136 : (Jvm.Cond.classLink "LightPlate" (59 : Nat) "LightPlate$True") ∈ lw_all := lw_g (lw_at lw_m1 77 rfl) rfl
theorem q138 : (Jvm.Cond.methodLinkNest "LightPlate" (61 : Nat) ({ cls := "LightPlate$True", name := "<init>", desc := "(LLightPlate;)V" } : Jvm.MethodName) "LightPlate") ∈ lw_tbl := lw_at lw_m1 79 rfl
theorem q148 : (Jvm.Cond.classLink "LightPlate" (66 : Nat) "LightPlate$Guess") ∈ lw_all := lw_g (lw_at lw_m1 89 rfl) rfl
theorem q150 : (Jvm.Cond.methodLinkNest "LightPlate" (68 : Nat) ({ cls := "LightPlate$Guess", name := "<init>", desc := "(LLightPlate;)V" } : Jvm.MethodName) "LightPlate") ∈ lw_tbl := lw_at lw_m1 91 rfl
theorem q155 : (Jvm.Cond.fieldLinkNest "LightPlate" (349 : Nat) "LightPlate$Guess" "other" "LLightPlate$Cell;" "LightPlate") ∈ lw_tbl := lw_at lw_m1 96 rfl
theorem q157 : (Jvm.Cond.fieldLinkNest "LightPlate" (355 : Nat) "LightPlate$Guess" "more" "I" "LightPlate") ∈ lw_tbl := lw_at lw_m1 98 rfl
theorem q169 : (Jvm.Cond.classLink "LightPlate" (73 : Nat) "LightPlate$Again") ∈ lw_all := lw_g (lw_at lw_m1 110 rfl) rfl
theorem q171 : (Jvm.Cond.methodLinkNest "LightPlate" (75 : Nat) ({ cls := "LightPlate$Again", name := "<init>", desc := "(LLightPlate;)V" } : Jvm.MethodName) "LightPlate") ∈ lw_tbl := lw_at lw_m1 112 rfl
theorem q176 : (Jvm.Cond.fieldLinkNest "LightPlate" (325 : Nat) "LightPlate$Again" "run" "LLightPlate$Run;" "LightPlate") ∈ lw_tbl := lw_at lw_m1 117 rfl
theorem q184 : (Jvm.Cond.classLink "LightPlate" (83 : Nat) "[[I") ∈ lw_all := lw_g (lw_at lw_m1 125 rfl) rfl
theorem q186 : (Jvm.Cond.classLink "LightPlate" (106 : Nat) "[[Z") ∈ lw_all := lw_g (lw_at lw_m1 127 rfl) rfl
theorem q188 : (Jvm.Cond.classLink "LightPlate" (115 : Nat) "LightPlate$Reader") ∈ lw_all := lw_g (lw_at lw_m1 129 rfl) rfl
theorem q190 : (Jvm.Cond.methodLinkNest "LightPlate" (117 : Nat) ({ cls := "LightPlate$Reader", name := "<init>", desc := "(LLightPlate;)V" } : Jvm.MethodName) "LightPlate") ∈ lw_tbl := lw_at lw_m1 131 rfl
theorem q211 : (Jvm.Cond.classLink "LightPlate" (122 : Nat) "java/util/ArrayList") ∈ lw_all := lw_g (lw_at lw_m1 152 rfl) rfl
theorem q213 : (Jvm.Cond.methodLink "LightPlate" (124 : Nat) ({ cls := "java/util/ArrayList", name := "<init>", desc := "()V" } : Jvm.MethodName)) ∈ lw_all := lw_g (lw_at lw_m1 154 rfl) rfl
theorem q237 : (Jvm.Cond.classLink "LightPlate" (141 : Nat) "LightPlate$Cell") ∈ lw_all := lw_g (lw_at lw_m1 178 rfl) rfl
theorem q240 : (Jvm.Cond.methodLink "LightPlate" (147 : Nat) ({ cls := "LightPlate$Cell", name := "<init>", desc := "(LLightPlate;II)V" } : Jvm.MethodName)) ∈ lw_all := lw_g (lw_at lw_m1 181 rfl) rfl
theorem q252 : (Jvm.Cond.fieldLinkNest "LightPlate" (231 : Nat) "LightPlate$Cell" "lane" "I" "LightPlate") ∈ lw_tbl := lw_at lw_m1 193 rfl
theorem q256 : (Jvm.Cond.fieldLinkNest "LightPlate" (164 : Nat) "LightPlate$Cell" "setting" "I" "LightPlate") ∈ lw_tbl := lw_at lw_m1 197 rfl
theorem q259 : (Jvm.Cond.fieldLinkNest "LightPlate" (171 : Nat) "LightPlate$Cell" "stuck" "I" "LightPlate") ∈ lw_tbl := lw_at lw_m1 200 rfl
theorem q261 : (Jvm.Cond.fieldLinkNest "LightPlate" (303 : Nat) "LightPlate$Cell" "offset" "I" "LightPlate") ∈ lw_tbl := lw_at lw_m1 202 rfl
theorem q263 : (Jvm.Cond.fieldLinkNest "LightPlate" (185 : Nat) "LightPlate$Cell" "user" "I" "LightPlate") ∈ lw_tbl := lw_at lw_m1 204 rfl
theorem q280 : (Jvm.Cond.fieldLink "LightPlate" (14 : Nat) "LightPlate" "cosines" "[I") ∈ lw_all := lw_g (lw_at lw_m1 221 rfl) rfl
theorem q281 : (Jvm.Cond.fieldLink "LightPlate" (18 : Nat) "LightPlate" "sines" "[I") ∈ lw_all := lw_g (lw_at lw_m1 222 rfl) rfl
theorem q284 : (Jvm.Cond.fieldLink "LightPlate" (138 : Nat) "LightPlate" "lanes" "I") ∈ lw_all := lw_g (lw_at lw_m1 225 rfl) rfl
theorem q288 : (Jvm.Cond.fieldLink "LightPlate" (143 : Nat) "LightPlate" "cells" "[LLightPlate$Cell;") ∈ lw_all := lw_g (lw_at lw_m1 229 rfl) rfl
theorem q290 : (Jvm.Cond.fieldLink "LightPlate" (46 : Nat) "LightPlate" "creep" "I") ∈ lw_all := lw_g (lw_at lw_m1 231 rfl) rfl
theorem q291 : (Jvm.Cond.fieldLink "LightPlate" (55 : Nat) "LightPlate" "plain" "LLightPlate$Plain;") ∈ lw_all := lw_g (lw_at lw_m1 232 rfl) rfl
theorem q292 : (Jvm.Cond.fieldLink "LightPlate" (62 : Nat) "LightPlate" "real" "LLightPlate$True;") ∈ lw_all := lw_g (lw_at lw_m1 233 rfl) rfl
theorem q293 : (Jvm.Cond.fieldLink "LightPlate" (69 : Nat) "LightPlate" "guess" "LLightPlate$Guess;") ∈ lw_all := lw_g (lw_at lw_m1 234 rfl) rfl
theorem q294 : (Jvm.Cond.fieldLink "LightPlate" (76 : Nat) "LightPlate" "again" "LLightPlate$Again;") ∈ lw_all := lw_g (lw_at lw_m1 235 rfl) rfl
theorem q295 : (Jvm.Cond.fieldLink "LightPlate" (80 : Nat) "LightPlate" "light" "[I") ∈ lw_all := lw_g (lw_at lw_m1 236 rfl) rfl
theorem q296 : (Jvm.Cond.fieldLink "LightPlate" (85 : Nat) "LightPlate" "told" "[[I") ∈ lw_all := lw_g (lw_at lw_m1 237 rfl) rfl
theorem q297 : (Jvm.Cond.fieldLink "LightPlate" (88 : Nat) "LightPlate" "left" "[[I") ∈ lw_all := lw_g (lw_at lw_m1 238 rfl) rfl
theorem q298 : (Jvm.Cond.fieldLink "LightPlate" (91 : Nat) "LightPlate" "stepLane" "[I") ∈ lw_all := lw_g (lw_at lw_m1 239 rfl) rfl
theorem q299 : (Jvm.Cond.fieldLink "LightPlate" (94 : Nat) "LightPlate" "stepTurn" "[I") ∈ lw_all := lw_g (lw_at lw_m2 0 rfl) rfl
theorem q300 : (Jvm.Cond.fieldLink "LightPlate" (97 : Nat) "LightPlate" "sign" "[I") ∈ lw_all := lw_g (lw_at lw_m2 1 rfl) rfl
theorem q301 : (Jvm.Cond.fieldLink "LightPlate" (202 : Nat) "LightPlate" "steps" "I") ∈ lw_all := lw_g (lw_at lw_m2 2 rfl) rfl
theorem q302 : (Jvm.Cond.fieldLink "LightPlate" (205 : Nat) "LightPlate" "lacks" "I") ∈ lw_all := lw_g (lw_at lw_m2 3 rfl) rfl
theorem q303 : (Jvm.Cond.fieldLink "LightPlate" (198 : Nat) "LightPlate" "isSplit" "Z") ∈ lw_all := lw_g (lw_at lw_m2 4 rfl) rfl
theorem q304 : (Jvm.Cond.fieldLink "LightPlate" (100 : Nat) "LightPlate" "workLane" "[I") ∈ lw_all := lw_g (lw_at lw_m2 5 rfl) rfl
theorem q305 : (Jvm.Cond.fieldLink "LightPlate" (103 : Nat) "LightPlate" "workTurn" "[I") ∈ lw_all := lw_g (lw_at lw_m2 6 rfl) rfl
theorem q306 : (Jvm.Cond.fieldLink "LightPlate" (221 : Nat) "LightPlate" "works" "I") ∈ lw_all := lw_g (lw_at lw_m2 7 rfl) rfl
theorem q307 : (Jvm.Cond.fieldLink "LightPlate" (108 : Nat) "LightPlate" "canEnd" "[[Z") ∈ lw_all := lw_g (lw_at lw_m2 8 rfl) rfl
theorem q308 : (Jvm.Cond.fieldLink "LightPlate" (238 : Nat) "LightPlate" "may" "I") ∈ lw_all := lw_g (lw_at lw_m2 9 rfl) rfl
theorem q309 : (Jvm.Cond.fieldLink "LightPlate" (241 : Nat) "LightPlate" "must" "I") ∈ lw_all := lw_g (lw_at lw_m2 10 rfl) rfl
theorem q311 : (Jvm.Cond.fieldLink "LightPlate" (111 : Nat) "LightPlate" "tape" "[B") ∈ lw_all := lw_g (lw_at lw_m2 12 rfl) rfl
theorem q313 : (Jvm.Cond.fieldLink "LightPlate" (261 : Nat) "LightPlate" "taped" "I") ∈ lw_all := lw_g (lw_at lw_m2 14 rfl) rfl
theorem q314 : (Jvm.Cond.fieldLink "LightPlate" (118 : Nat) "LightPlate" "reader" "LLightPlate$Reader;") ∈ lw_all := lw_g (lw_at lw_m2 15 rfl) rfl
theorem q316 : (Jvm.Cond.fieldLink "LightPlate" (125 : Nat) "LightPlate" "runs" "Ljava/util/ArrayList;") ∈ lw_all := lw_g (lw_at lw_m2 17 rfl) rfl
theorem q317 : (Jvm.Cond.fieldLink "LightPlate" (129 : Nat) "LightPlate" "findings" "Ljava/util/ArrayList;") ∈ lw_all := lw_g (lw_at lw_m2 18 rfl) rfl
theorem q318 : (Jvm.Cond.fieldLink "LightPlate" (161 : Nat) "LightPlate" "entries" "I") ∈ lw_all := lw_g (lw_at lw_m2 19 rfl) rfl
theorem q319 : (Jvm.Cond.fieldLink "LightPlate" (132 : Nat) "LightPlate" "hypotheses" "Ljava/util/ArrayList;") ∈ lw_all := lw_g (lw_at lw_m2 20 rfl) rfl
theorem q320 : (Jvm.Cond.fieldLink "LightPlate" (340 : Nat) "LightPlate" "probes" "I") ∈ lw_all := lw_g (lw_at lw_m2 21 rfl) rfl
theorem q321 : (Jvm.Cond.fieldLink "LightPlate" (135 : Nat) "LightPlate" "groups" "[[I") ∈ lw_all := lw_g (lw_at lw_m2 22 rfl) rfl
theorem q322 : (Jvm.Cond.laysFinal "LightPlate" "LightPlate" "cosines" "[I") ∈ lw_all := lw_g (lw_at lw_m2 23 rfl) rfl
theorem q323 : (Jvm.Cond.soleField "LightPlate" "cosines") ∈ lw_all := lw_g (lw_at lw_m2 24 rfl) rfl
theorem q324 : (Jvm.Cond.laysFinal "LightPlate" "LightPlate" "sines" "[I") ∈ lw_all := lw_g (lw_at lw_m2 25 rfl) rfl
theorem q325 : (Jvm.Cond.soleField "LightPlate" "sines") ∈ lw_all := lw_g (lw_at lw_m2 26 rfl) rfl
theorem q326 : (Jvm.Cond.laysFinal "LightPlate" "LightPlate" "lanes" "I") ∈ lw_all := lw_g (lw_at lw_m2 27 rfl) rfl
theorem q327 : (Jvm.Cond.soleField "LightPlate" "lanes") ∈ lw_all := lw_g (lw_at lw_m2 28 rfl) rfl
theorem q328 : (Jvm.Cond.laysFinal "LightPlate" "LightPlate" "cells" "[LLightPlate$Cell;") ∈ lw_all := lw_g (lw_at lw_m2 29 rfl) rfl
theorem q329 : (Jvm.Cond.soleField "LightPlate" "cells") ∈ lw_all := lw_g (lw_at lw_m2 30 rfl) rfl
theorem q330 : (Jvm.Cond.lays "LightPlate" "LightPlate" "creep" "I") ∈ lw_all := lw_g (lw_at lw_m2 31 rfl) rfl
theorem q331 : (Jvm.Cond.soleField "LightPlate" "creep") ∈ lw_all := lw_g (lw_at lw_m2 32 rfl) rfl
theorem q332 : (Jvm.Cond.laysFinal "LightPlate" "LightPlate" "plain" "LLightPlate$Plain;") ∈ lw_all := lw_g (lw_at lw_m2 33 rfl) rfl
theorem q333 : (Jvm.Cond.soleField "LightPlate" "plain") ∈ lw_all := lw_g (lw_at lw_m2 34 rfl) rfl
theorem q334 : (Jvm.Cond.laysFinal "LightPlate" "LightPlate" "real" "LLightPlate$True;") ∈ lw_all := lw_g (lw_at lw_m2 35 rfl) rfl
theorem q335 : (Jvm.Cond.soleField "LightPlate" "real") ∈ lw_all := lw_g (lw_at lw_m2 36 rfl) rfl
theorem q336 : (Jvm.Cond.laysFinal "LightPlate" "LightPlate" "guess" "LLightPlate$Guess;") ∈ lw_all := lw_g (lw_at lw_m2 37 rfl) rfl
theorem q337 : (Jvm.Cond.soleField "LightPlate" "guess") ∈ lw_all := lw_g (lw_at lw_m2 38 rfl) rfl
theorem q338 : (Jvm.Cond.laysFinal "LightPlate" "LightPlate" "again" "LLightPlate$Again;") ∈ lw_all := lw_g (lw_at lw_m2 39 rfl) rfl
theorem q339 : (Jvm.Cond.soleField "LightPlate" "again") ∈ lw_all := lw_g (lw_at lw_m2 40 rfl) rfl
theorem q340 : (Jvm.Cond.laysFinal "LightPlate" "LightPlate" "light" "[I") ∈ lw_all := lw_g (lw_at lw_m2 41 rfl) rfl
theorem q341 : (Jvm.Cond.soleField "LightPlate" "light") ∈ lw_all := lw_g (lw_at lw_m2 42 rfl) rfl
theorem q342 : (Jvm.Cond.laysFinal "LightPlate" "LightPlate" "told" "[[I") ∈ lw_all := lw_g (lw_at lw_m2 43 rfl) rfl
theorem q343 : (Jvm.Cond.soleField "LightPlate" "told") ∈ lw_all := lw_g (lw_at lw_m2 44 rfl) rfl
theorem q344 : (Jvm.Cond.laysFinal "LightPlate" "LightPlate" "left" "[[I") ∈ lw_all := lw_g (lw_at lw_m2 45 rfl) rfl
theorem q345 : (Jvm.Cond.soleField "LightPlate" "left") ∈ lw_all := lw_g (lw_at lw_m2 46 rfl) rfl
theorem q346 : (Jvm.Cond.laysFinal "LightPlate" "LightPlate" "stepLane" "[I") ∈ lw_all := lw_g (lw_at lw_m2 47 rfl) rfl
theorem q347 : (Jvm.Cond.soleField "LightPlate" "stepLane") ∈ lw_all := lw_g (lw_at lw_m2 48 rfl) rfl
theorem q348 : (Jvm.Cond.laysFinal "LightPlate" "LightPlate" "stepTurn" "[I") ∈ lw_all := lw_g (lw_at lw_m2 49 rfl) rfl
theorem q349 : (Jvm.Cond.soleField "LightPlate" "stepTurn") ∈ lw_all := lw_g (lw_at lw_m2 50 rfl) rfl
theorem q350 : (Jvm.Cond.laysFinal "LightPlate" "LightPlate" "sign" "[I") ∈ lw_all := lw_g (lw_at lw_m2 51 rfl) rfl
theorem q351 : (Jvm.Cond.soleField "LightPlate" "sign") ∈ lw_all := lw_g (lw_at lw_m2 52 rfl) rfl
theorem q352 : (Jvm.Cond.lays "LightPlate" "LightPlate" "steps" "I") ∈ lw_all := lw_g (lw_at lw_m2 53 rfl) rfl
theorem q353 : (Jvm.Cond.soleField "LightPlate" "steps") ∈ lw_all := lw_g (lw_at lw_m2 54 rfl) rfl
theorem q354 : (Jvm.Cond.lays "LightPlate" "LightPlate" "lacks" "I") ∈ lw_all := lw_g (lw_at lw_m2 55 rfl) rfl
theorem q355 : (Jvm.Cond.soleField "LightPlate" "lacks") ∈ lw_all := lw_g (lw_at lw_m2 56 rfl) rfl
theorem q356 : (Jvm.Cond.lays "LightPlate" "LightPlate" "isSplit" "Z") ∈ lw_all := lw_g (lw_at lw_m2 57 rfl) rfl
theorem q357 : (Jvm.Cond.soleField "LightPlate" "isSplit") ∈ lw_all := lw_g (lw_at lw_m2 58 rfl) rfl
theorem q358 : (Jvm.Cond.laysFinal "LightPlate" "LightPlate" "workLane" "[I") ∈ lw_all := lw_g (lw_at lw_m2 59 rfl) rfl
theorem q359 : (Jvm.Cond.soleField "LightPlate" "workLane") ∈ lw_all := lw_g (lw_at lw_m2 60 rfl) rfl
theorem q360 : (Jvm.Cond.laysFinal "LightPlate" "LightPlate" "workTurn" "[I") ∈ lw_all := lw_g (lw_at lw_m2 61 rfl) rfl
theorem q361 : (Jvm.Cond.soleField "LightPlate" "workTurn") ∈ lw_all := lw_g (lw_at lw_m2 62 rfl) rfl
theorem q362 : (Jvm.Cond.lays "LightPlate" "LightPlate" "works" "I") ∈ lw_all := lw_g (lw_at lw_m2 63 rfl) rfl
theorem q363 : (Jvm.Cond.soleField "LightPlate" "works") ∈ lw_all := lw_g (lw_at lw_m2 64 rfl) rfl
theorem q364 : (Jvm.Cond.laysFinal "LightPlate" "LightPlate" "canEnd" "[[Z") ∈ lw_all := lw_g (lw_at lw_m2 65 rfl) rfl
theorem q365 : (Jvm.Cond.soleField "LightPlate" "canEnd") ∈ lw_all := lw_g (lw_at lw_m2 66 rfl) rfl
theorem q366 : (Jvm.Cond.lays "LightPlate" "LightPlate" "may" "I") ∈ lw_all := lw_g (lw_at lw_m2 67 rfl) rfl
theorem q367 : (Jvm.Cond.soleField "LightPlate" "may") ∈ lw_all := lw_g (lw_at lw_m2 68 rfl) rfl
theorem q368 : (Jvm.Cond.lays "LightPlate" "LightPlate" "must" "I") ∈ lw_all := lw_g (lw_at lw_m2 69 rfl) rfl
theorem q369 : (Jvm.Cond.soleField "LightPlate" "must") ∈ lw_all := lw_g (lw_at lw_m2 70 rfl) rfl
theorem q370 : (Jvm.Cond.laysFinal "LightPlate" "LightPlate" "tape" "[B") ∈ lw_all := lw_g (lw_at lw_m2 71 rfl) rfl
theorem q371 : (Jvm.Cond.soleField "LightPlate" "tape") ∈ lw_all := lw_g (lw_at lw_m2 72 rfl) rfl
theorem q372 : (Jvm.Cond.lays "LightPlate" "LightPlate" "taped" "I") ∈ lw_all := lw_g (lw_at lw_m2 73 rfl) rfl
theorem q373 : (Jvm.Cond.soleField "LightPlate" "taped") ∈ lw_all := lw_g (lw_at lw_m2 74 rfl) rfl
theorem q374 : (Jvm.Cond.laysFinal "LightPlate" "LightPlate" "reader" "LLightPlate$Reader;") ∈ lw_all := lw_g (lw_at lw_m2 75 rfl) rfl
theorem q375 : (Jvm.Cond.soleField "LightPlate" "reader") ∈ lw_all := lw_g (lw_at lw_m2 76 rfl) rfl
theorem q376 : (Jvm.Cond.laysFinal "LightPlate" "LightPlate" "runs" "Ljava/util/ArrayList;") ∈ lw_all := lw_g (lw_at lw_m2 77 rfl) rfl
theorem q377 : (Jvm.Cond.soleField "LightPlate" "runs") ∈ lw_all := lw_g (lw_at lw_m2 78 rfl) rfl
theorem q378 : (Jvm.Cond.laysFinal "LightPlate" "LightPlate" "findings" "Ljava/util/ArrayList;") ∈ lw_all := lw_g (lw_at lw_m2 79 rfl) rfl
theorem q379 : (Jvm.Cond.soleField "LightPlate" "findings") ∈ lw_all := lw_g (lw_at lw_m2 80 rfl) rfl
theorem q380 : (Jvm.Cond.lays "LightPlate" "LightPlate" "entries" "I") ∈ lw_all := lw_g (lw_at lw_m2 81 rfl) rfl
theorem q381 : (Jvm.Cond.soleField "LightPlate" "entries") ∈ lw_all := lw_g (lw_at lw_m2 82 rfl) rfl
theorem q382 : (Jvm.Cond.laysFinal "LightPlate" "LightPlate" "hypotheses" "Ljava/util/ArrayList;") ∈ lw_all := lw_g (lw_at lw_m2 83 rfl) rfl
theorem q383 : (Jvm.Cond.soleField "LightPlate" "hypotheses") ∈ lw_all := lw_g (lw_at lw_m2 84 rfl) rfl
theorem q384 : (Jvm.Cond.lays "LightPlate" "LightPlate" "probes" "I") ∈ lw_all := lw_g (lw_at lw_m2 85 rfl) rfl
theorem q385 : (Jvm.Cond.soleField "LightPlate" "probes") ∈ lw_all := lw_g (lw_at lw_m2 86 rfl) rfl
theorem q386 : (Jvm.Cond.laysFinal "LightPlate" "LightPlate" "groups" "[[I") ∈ lw_all := lw_g (lw_at lw_m2 87 rfl) rfl
theorem q387 : (Jvm.Cond.soleField "LightPlate" "groups") ∈ lw_all := lw_g (lw_at lw_m2 88 rfl) rfl
theorem q388 : (Jvm.Cond.superclass "LightPlate" "java/lang/Object") ∈ lw_all := lw_g (lw_at lw_m2 89 rfl) rfl
theorem q390 : (Jvm.Cond.instanceMethod ({ cls := "LightPlate", name := "set", desc := "(III)I" } : Jvm.MethodName)) ∈ lw_all := lw_g (lw_at lw_m2 91 rfl) rfl
theorem q391 : (Jvm.Cond.selects "LightPlate" ({ cls := "LightPlate", name := "set", desc := "(III)I" } : Jvm.MethodName) ({ cls := "LightPlate", name := "set", desc := "(III)I" } : Jvm.MethodName)) ∈ lw_all := lw_g (lw_at lw_m2 92 rfl) rfl
theorem q392 : (Jvm.Cond.code ({ cls := "LightPlate", name := "set", desc := "(III)I" } : Jvm.MethodName) prog_1_method_11_code (6 : Nat) (Option.some Jvm.ClassFile.FieldType.int)) ∈ lw_all := lw_g (lw_at lw_m2 93 rfl) rfl
theorem q393 : (Jvm.Cond.methodLink "LightPlate" (154 : Nat) ({ cls := "LightPlate", name := "cellAt", desc := "(II)LLightPlate$Cell;" } : Jvm.MethodName)) ∈ lw_all := lw_g (lw_at lw_m2 94 rfl) rfl
theorem q394 : (Jvm.Cond.privateMethod ({ cls := "LightPlate", name := "cellAt", desc := "(II)LLightPlate$Cell;" } : Jvm.MethodName)) ∈ lw_tbl := lw_at lw_m2 95 rfl
theorem q395 : (Jvm.Cond.instanceMethod ({ cls := "LightPlate", name := "cellAt", desc := "(II)LLightPlate$Cell;" } : Jvm.MethodName)) ∈ lw_all := lw_g (lw_at lw_m2 96 rfl) rfl
theorem q396 : (Jvm.Cond.code ({ cls := "LightPlate", name := "cellAt", desc := "(II)LLightPlate$Cell;" } : Jvm.MethodName) prog_1_method_9_code (3 : Nat) (Option.some (Jvm.ClassFile.FieldType.object "LightPlate$Cell"))) ∈ lw_all := lw_g (lw_at lw_m2 97 rfl) rfl
theorem q397 : (Jvm.Cond.methodLink "LightPlate" (150 : Nat) ({ cls := "LightPlate", name := "isLane", desc := "(I)Z" } : Jvm.MethodName)) ∈ lw_all := lw_g (lw_at lw_m2 98 rfl) rfl
theorem q398 : (Jvm.Cond.privateMethod ({ cls := "LightPlate", name := "isLane", desc := "(I)Z" } : Jvm.MethodName)) ∈ lw_tbl := lw_at lw_m2 99 rfl
theorem q399 : (Jvm.Cond.instanceMethod ({ cls := "LightPlate", name := "isLane", desc := "(I)Z" } : Jvm.MethodName)) ∈ lw_all := lw_g (lw_at lw_m2 100 rfl) rfl
theorem q400 : (Jvm.Cond.code ({ cls := "LightPlate", name := "isLane", desc := "(I)Z" } : Jvm.MethodName) prog_1_method_8_code (2 : Nat) (Option.some Jvm.ClassFile.FieldType.boolean)) ∈ lw_all := lw_g (lw_at lw_m2 101 rfl) rfl
theorem q401 : (Jvm.Cond.methodLink "LightPlate" (158 : Nat) ({ cls := "LightPlate", name := "isTurn", desc := "(I)Z" } : Jvm.MethodName)) ∈ lw_all := lw_g (lw_at lw_m2 102 rfl) rfl
theorem q402 : (Jvm.Cond.static ({ cls := "LightPlate", name := "isTurn", desc := "(I)Z" } : Jvm.MethodName)) ∈ lw_all := lw_g (lw_at lw_m2 103 rfl) rfl
theorem q403 : (Jvm.Cond.code ({ cls := "LightPlate", name := "isTurn", desc := "(I)Z" } : Jvm.MethodName) prog_1_method_10_code (1 : Nat) (Option.some Jvm.ClassFile.FieldType.boolean)) ∈ lw_all := lw_g (lw_at lw_m2 104 rfl) rfl
theorem q405 : (Jvm.Cond.instanceMethod ({ cls := "LightPlate", name := "dies", desc := "(III)I" } : Jvm.MethodName)) ∈ lw_all := lw_g (lw_at lw_m2 106 rfl) rfl
theorem q406 : (Jvm.Cond.selects "LightPlate" ({ cls := "LightPlate", name := "dies", desc := "(III)I" } : Jvm.MethodName) ({ cls := "LightPlate", name := "dies", desc := "(III)I" } : Jvm.MethodName)) ∈ lw_all := lw_g (lw_at lw_m2 107 rfl) rfl
theorem q407 : (Jvm.Cond.code ({ cls := "LightPlate", name := "dies", desc := "(III)I" } : Jvm.MethodName) prog_1_method_12_code (6 : Nat) (Option.some Jvm.ClassFile.FieldType.int)) ∈ lw_all := lw_g (lw_at lw_m2 108 rfl) rfl
theorem q408 : (Jvm.Cond.methodLink "LightPlate" (167 : Nat) ({ cls := "LightPlate$Cell", name := "isDead", desc := "()Z" } : Jvm.MethodName)) ∈ lw_all := lw_g (lw_at lw_m2 109 rfl) rfl
theorem q413 : (Jvm.Cond.instanceMethod ({ cls := "LightPlate", name := "mend", desc := "(II)I" } : Jvm.MethodName)) ∈ lw_all := lw_g (lw_at lw_m2 114 rfl) rfl
theorem q414 : (Jvm.Cond.selects "LightPlate" ({ cls := "LightPlate", name := "mend", desc := "(II)I" } : Jvm.MethodName) ({ cls := "LightPlate", name := "mend", desc := "(II)I" } : Jvm.MethodName)) ∈ lw_all := lw_g (lw_at lw_m2 115 rfl) rfl
theorem q415 : (Jvm.Cond.code ({ cls := "LightPlate", name := "mend", desc := "(II)I" } : Jvm.MethodName) prog_1_method_13_code (5 : Nat) (Option.some Jvm.ClassFile.FieldType.int)) ∈ lw_all := lw_g (lw_at lw_m2 116 rfl) rfl
theorem q417 : (Jvm.Cond.instanceMethod ({ cls := "LightPlate", name := "cell", desc := "(III)I" } : Jvm.MethodName)) ∈ lw_all := lw_g (lw_at lw_m2 118 rfl) rfl
theorem q418 : (Jvm.Cond.selects "LightPlate" ({ cls := "LightPlate", name := "cell", desc := "(III)I" } : Jvm.MethodName) ({ cls := "LightPlate", name := "cell", desc := "(III)I" } : Jvm.MethodName)) ∈ lw_all := lw_g (lw_at lw_m2 119 rfl) rfl
theorem q419 : (Jvm.Cond.code ({ cls := "LightPlate", name := "cell", desc := "(III)I" } : Jvm.MethodName) prog_1_method_14_code (5 : Nat) (Option.some Jvm.ClassFile.FieldType.int)) ∈ lw_all := lw_g (lw_at lw_m2 120 rfl) rfl
theorem q420 : (Jvm.Cond.methodLink "LightPlate" (174 : Nat) ({ cls := "LightPlate$Cell", name := "does", desc := "()I" } : Jvm.MethodName)) ∈ lw_all := lw_g (lw_at lw_m2 121 rfl) rfl
theorem q425 : (Jvm.Cond.methodLink "LightPlate" (178 : Nat) ({ cls := "LightPlate", name := "heat", desc := "(I)I" } : Jvm.MethodName)) ∈ lw_all := lw_g (lw_at lw_m2 126 rfl) rfl
theorem q426 : (Jvm.Cond.static ({ cls := "LightPlate", name := "heat", desc := "(I)I" } : Jvm.MethodName)) ∈ lw_all := lw_g (lw_at lw_m2 127 rfl) rfl
theorem q427 : (Jvm.Cond.code ({ cls := "LightPlate", name := "heat", desc := "(I)I" } : Jvm.MethodName) prog_1_method_6_code (1 : Nat) (Option.some Jvm.ClassFile.FieldType.int)) ∈ lw_all := lw_g (lw_at lw_m2 128 rfl) rfl
theorem q428 : (Jvm.Cond.methodLink "LightPlate" (33 : Nat) ({ cls := "java/lang/Math", name := "min", desc := "(II)I" } : Jvm.MethodName)) ∈ lw_all := lw_g (lw_at lw_m2 129 rfl) rfl
theorem q431 : (Jvm.Cond.methodLink "LightPlate" (181 : Nat) ({ cls := "LightPlate$True", name := "turn", desc := "(LLightPlate$Cell;)I" } : Jvm.MethodName)) ∈ lw_all := lw_g (lw_at lw_m2 132 rfl) rfl
theorem q476 : (Jvm.Cond.privateMethod ({ cls := "LightPlate", name := "known", desc := "(LLightPlate$Cell;I)I" } : Jvm.MethodName)) ∈ lw_tbl := lw_at lw_m2 177 rfl
theorem q477 : (Jvm.Cond.instanceMethod ({ cls := "LightPlate", name := "known", desc := "(LLightPlate$Cell;I)I" } : Jvm.MethodName)) ∈ lw_all := lw_g (lw_at lw_m2 178 rfl) rfl
theorem q478 : (Jvm.Cond.code ({ cls := "LightPlate", name := "known", desc := "(LLightPlate$Cell;I)I" } : Jvm.MethodName) prog_1_method_35_code (6 : Nat) (Option.some Jvm.ClassFile.FieldType.int)) ∈ lw_all := lw_g (lw_at lw_m2 179 rfl) rfl
theorem q479 : (Jvm.Cond.methodLink "LightPlate" (284 : Nat) ({ cls := "java/util/ArrayList", name := "size", desc := "()I" } : Jvm.MethodName)) ∈ lw_all := lw_g (lw_at lw_m2 180 rfl) rfl
theorem q483 : (Jvm.Cond.methodLink "LightPlate" (287 : Nat) ({ cls := "java/util/ArrayList", name := "get", desc := "(I)Ljava/lang/Object;" } : Jvm.MethodName)) ∈ lw_all := lw_g (lw_at lw_m2 184 rfl) rfl
theorem q497 : (Jvm.Cond.classLink "LightPlate" (291 : Nat) "LightPlate$Finding") ∈ lw_all := lw_g (lw_at lw_m2 198 rfl) rfl
theorem q511 : (Jvm.Cond.instanceMethod ({ cls := "LightPlate", name := "table", desc := "(II)I" } : Jvm.MethodName)) ∈ lw_all := lw_g (lw_at lw_m2 212 rfl) rfl
theorem q512 : (Jvm.Cond.selects "LightPlate" ({ cls := "LightPlate", name := "table", desc := "(II)I" } : Jvm.MethodName) ({ cls := "LightPlate", name := "table", desc := "(II)I" } : Jvm.MethodName)) ∈ lw_all := lw_g (lw_at lw_m2 213 rfl) rfl
theorem q513 : (Jvm.Cond.code ({ cls := "LightPlate", name := "table", desc := "(II)I" } : Jvm.MethodName) prog_1_method_16_code (3 : Nat) (Option.some Jvm.ClassFile.FieldType.int)) ∈ lw_all := lw_g (lw_at lw_m2 214 rfl) rfl
theorem q514 : (Jvm.Cond.methodLink "LightPlate" (194 : Nat) ({ cls := "LightPlate", name := "send", desc := "(LLightPlate$Look;I)V" } : Jvm.MethodName)) ∈ lw_all := lw_g (lw_at lw_m2 215 rfl) rfl
theorem q515 : (Jvm.Cond.privateMethod ({ cls := "LightPlate", name := "send", desc := "(LLightPlate$Look;I)V" } : Jvm.MethodName)) ∈ lw_tbl := lw_at lw_m2 216 rfl
theorem q516 : (Jvm.Cond.instanceMethod ({ cls := "LightPlate", name := "send", desc := "(LLightPlate$Look;I)V" } : Jvm.MethodName)) ∈ lw_all := lw_g (lw_at lw_m2 217 rfl) rfl
theorem q517 : (Jvm.Cond.code ({ cls := "LightPlate", name := "send", desc := "(LLightPlate$Look;I)V" } : Jvm.MethodName) prog_1_method_15_code (4 : Nat) (Option.none : Option Jvm.ClassFile.FieldType)) ∈ lw_all := lw_g (lw_at lw_m2 218 rfl) rfl
theorem q518 : (Jvm.Cond.methodLink "LightPlate" (188 : Nat) ({ cls := "LightPlate$Look", name := "go", desc := "([I)V" } : Jvm.MethodName)) ∈ lw_all := lw_g (lw_at lw_m2 219 rfl) rfl
theorem q528 : (Jvm.Cond.privateMethod ({ cls := "LightPlate", name := "turns", desc := "([III)V" } : Jvm.MethodName)) ∈ lw_tbl := lw_at lw_m2 229 rfl
theorem q529 : (Jvm.Cond.instanceMethod ({ cls := "LightPlate", name := "turns", desc := "([III)V" } : Jvm.MethodName)) ∈ lw_all := lw_g (lw_at lw_m2 230 rfl) rfl
theorem q530 : (Jvm.Cond.code ({ cls := "LightPlate", name := "turns", desc := "([III)V" } : Jvm.MethodName) prog_1_method_4_code (6 : Nat) (Option.none : Option Jvm.ClassFile.FieldType)) ∈ lw_all := lw_g (lw_at lw_m2 231 rfl) rfl
theorem q532 : (Jvm.Cond.instanceMethod ({ cls := "LightPlate", name := "entry", desc := "(III)I" } : Jvm.MethodName)) ∈ lw_all := lw_g (lw_at lw_m2 233 rfl) rfl
theorem q533 : (Jvm.Cond.selects "LightPlate" ({ cls := "LightPlate", name := "entry", desc := "(III)I" } : Jvm.MethodName) ({ cls := "LightPlate", name := "entry", desc := "(III)I" } : Jvm.MethodName)) ∈ lw_all := lw_g (lw_at lw_m2 234 rfl) rfl
theorem q534 : (Jvm.Cond.code ({ cls := "LightPlate", name := "entry", desc := "(III)I" } : Jvm.MethodName) prog_1_method_17_code (5 : Nat) (Option.some Jvm.ClassFile.FieldType.int)) ∈ lw_all := lw_g (lw_at lw_m2 235 rfl) rfl
theorem q536 : (Jvm.Cond.instanceMethod ({ cls := "LightPlate", name := "take", desc := "()I" } : Jvm.MethodName)) ∈ lw_all := lw_g (lw_at lw_m2 237 rfl) rfl
theorem q537 : (Jvm.Cond.selects "LightPlate" ({ cls := "LightPlate", name := "take", desc := "()I" } : Jvm.MethodName) ({ cls := "LightPlate", name := "take", desc := "()I" } : Jvm.MethodName)) ∈ lw_all := lw_g (lw_at lw_m2 238 rfl) rfl
theorem q538 : (Jvm.Cond.code ({ cls := "LightPlate", name := "take", desc := "()I" } : Jvm.MethodName) prog_1_method_18_code (4 : Nat) (Option.some Jvm.ClassFile.FieldType.int)) ∈ lw_all := lw_g (lw_at lw_m2 239 rfl) rfl
theorem q540 : (Jvm.Cond.instanceMethod ({ cls := "LightPlate", name := "right", desc := "()I" } : Jvm.MethodName)) ∈ lw_all := lw_g (lw_at lw_m3 1 rfl) rfl
theorem q541 : (Jvm.Cond.selects "LightPlate" ({ cls := "LightPlate", name := "right", desc := "()I" } : Jvm.MethodName) ({ cls := "LightPlate", name := "right", desc := "()I" } : Jvm.MethodName)) ∈ lw_all := lw_g (lw_at lw_m3 2 rfl) rfl
theorem q542 : (Jvm.Cond.code ({ cls := "LightPlate", name := "right", desc := "()I" } : Jvm.MethodName) prog_1_method_19_code (6 : Nat) (Option.some Jvm.ClassFile.FieldType.int)) ∈ lw_all := lw_g (lw_at lw_m3 3 rfl) rfl
theorem q544 : (Jvm.Cond.instanceMethod ({ cls := "LightPlate", name := "split", desc := "()I" } : Jvm.MethodName)) ∈ lw_all := lw_g (lw_at lw_m3 5 rfl) rfl
theorem q545 : (Jvm.Cond.selects "LightPlate" ({ cls := "LightPlate", name := "split", desc := "()I" } : Jvm.MethodName) ({ cls := "LightPlate", name := "split", desc := "()I" } : Jvm.MethodName)) ∈ lw_all := lw_g (lw_at lw_m3 6 rfl) rfl
theorem q546 : (Jvm.Cond.code ({ cls := "LightPlate", name := "split", desc := "()I" } : Jvm.MethodName) prog_1_method_21_code (5 : Nat) (Option.some Jvm.ClassFile.FieldType.int)) ∈ lw_all := lw_g (lw_at lw_m3 7 rfl) rfl
theorem q547 : (Jvm.Cond.methodLink "LightPlate" (208 : Nat) ({ cls := "java/lang/System", name := "arraycopy", desc := "(Ljava/lang/Object;ILjava/lang/Object;II)V" } : Jvm.MethodName)) ∈ lw_all := lw_g (lw_at lw_m3 8 rfl) rfl
theorem q550 : (Jvm.Cond.methodLink "LightPlate" (214 : Nat) ({ cls := "LightPlate", name := "turnFor", desc := "(II)I" } : Jvm.MethodName)) ∈ lw_all := lw_g (lw_at lw_m3 11 rfl) rfl
theorem q551 : (Jvm.Cond.privateMethod ({ cls := "LightPlate", name := "turnFor", desc := "(II)I" } : Jvm.MethodName)) ∈ lw_tbl := lw_at lw_m3 12 rfl
theorem q552 : (Jvm.Cond.instanceMethod ({ cls := "LightPlate", name := "turnFor", desc := "(II)I" } : Jvm.MethodName)) ∈ lw_all := lw_g (lw_at lw_m3 13 rfl) rfl
theorem q553 : (Jvm.Cond.code ({ cls := "LightPlate", name := "turnFor", desc := "(II)I" } : Jvm.MethodName) prog_1_method_20_code (4 : Nat) (Option.some Jvm.ClassFile.FieldType.int)) ∈ lw_all := lw_g (lw_at lw_m3 14 rfl) rfl
theorem q554 : (Jvm.Cond.methodLink "LightPlate" (217 : Nat) ({ cls := "LightPlate", name := "turns", desc := "([III)V" } : Jvm.MethodName)) ∈ lw_all := lw_g (lw_at lw_m3 15 rfl) rfl
theorem q556 : (Jvm.Cond.instanceMethod ({ cls := "LightPlate", name := "step", desc := "(II)I" } : Jvm.MethodName)) ∈ lw_all := lw_g (lw_at lw_m3 17 rfl) rfl
theorem q557 : (Jvm.Cond.selects "LightPlate" ({ cls := "LightPlate", name := "step", desc := "(II)I" } : Jvm.MethodName) ({ cls := "LightPlate", name := "step", desc := "(II)I" } : Jvm.MethodName)) ∈ lw_all := lw_g (lw_at lw_m3 18 rfl) rfl
theorem q558 : (Jvm.Cond.code ({ cls := "LightPlate", name := "step", desc := "(II)I" } : Jvm.MethodName) prog_1_method_22_code (3 : Nat) (Option.some Jvm.ClassFile.FieldType.int)) ∈ lw_all := lw_g (lw_at lw_m3 19 rfl) rfl
theorem q560 : (Jvm.Cond.instanceMethod ({ cls := "LightPlate", name := "undo", desc := "()I" } : Jvm.MethodName)) ∈ lw_all := lw_g (lw_at lw_m3 21 rfl) rfl
theorem q561 : (Jvm.Cond.selects "LightPlate" ({ cls := "LightPlate", name := "undo", desc := "()I" } : Jvm.MethodName) ({ cls := "LightPlate", name := "undo", desc := "()I" } : Jvm.MethodName)) ∈ lw_all := lw_g (lw_at lw_m3 22 rfl) rfl
theorem q562 : (Jvm.Cond.code ({ cls := "LightPlate", name := "undo", desc := "()I" } : Jvm.MethodName) prog_1_method_23_code (3 : Nat) (Option.some Jvm.ClassFile.FieldType.int)) ∈ lw_all := lw_g (lw_at lw_m3 23 rfl) rfl
theorem q563 : (Jvm.Cond.methodLink "LightPlate" (224 : Nat) ({ cls := "LightPlate", name := "adds", desc := "(II)V" } : Jvm.MethodName)) ∈ lw_all := lw_g (lw_at lw_m3 24 rfl) rfl
theorem q564 : (Jvm.Cond.privateMethod ({ cls := "LightPlate", name := "adds", desc := "(II)V" } : Jvm.MethodName)) ∈ lw_tbl := lw_at lw_m3 25 rfl
theorem q565 : (Jvm.Cond.instanceMethod ({ cls := "LightPlate", name := "adds", desc := "(II)V" } : Jvm.MethodName)) ∈ lw_all := lw_g (lw_at lw_m3 26 rfl) rfl
theorem q566 : (Jvm.Cond.code ({ cls := "LightPlate", name := "adds", desc := "(II)V" } : Jvm.MethodName) prog_1_method_24_code (3 : Nat) (Option.none : Option Jvm.ClassFile.FieldType)) ∈ lw_all := lw_g (lw_at lw_m3 27 rfl) rfl
theorem q568 : (Jvm.Cond.instanceMethod ({ cls := "LightPlate", name := "work", desc := "(II)I" } : Jvm.MethodName)) ∈ lw_all := lw_g (lw_at lw_m3 29 rfl) rfl
theorem q569 : (Jvm.Cond.selects "LightPlate" ({ cls := "LightPlate", name := "work", desc := "(II)I" } : Jvm.MethodName) ({ cls := "LightPlate", name := "work", desc := "(II)I" } : Jvm.MethodName)) ∈ lw_all := lw_g (lw_at lw_m3 30 rfl) rfl
theorem q570 : (Jvm.Cond.code ({ cls := "LightPlate", name := "work", desc := "(II)I" } : Jvm.MethodName) prog_1_method_25_code (3 : Nat) (Option.some Jvm.ClassFile.FieldType.int)) ∈ lw_all := lw_g (lw_at lw_m3 31 rfl) rfl
theorem q572 : (Jvm.Cond.instanceMethod ({ cls := "LightPlate", name := "lay", desc := "()I" } : Jvm.MethodName)) ∈ lw_all := lw_g (lw_at lw_m3 33 rfl) rfl
theorem q573 : (Jvm.Cond.selects "LightPlate" ({ cls := "LightPlate", name := "lay", desc := "()I" } : Jvm.MethodName) ({ cls := "LightPlate", name := "lay", desc := "()I" } : Jvm.MethodName)) ∈ lw_all := lw_g (lw_at lw_m3 34 rfl) rfl
theorem q574 : (Jvm.Cond.code ({ cls := "LightPlate", name := "lay", desc := "()I" } : Jvm.MethodName) prog_1_method_32_code (2 : Nat) (Option.some Jvm.ClassFile.FieldType.int)) ∈ lw_all := lw_g (lw_at lw_m3 35 rfl) rfl
theorem q575 : (Jvm.Cond.methodLink "LightPlate" (254 : Nat) ({ cls := "LightPlate", name := "fits", desc := "(I)Z" } : Jvm.MethodName)) ∈ lw_all := lw_g (lw_at lw_m3 36 rfl) rfl
theorem q576 : (Jvm.Cond.privateMethod ({ cls := "LightPlate", name := "fits", desc := "(I)Z" } : Jvm.MethodName)) ∈ lw_tbl := lw_at lw_m3 37 rfl
theorem q577 : (Jvm.Cond.instanceMethod ({ cls := "LightPlate", name := "fits", desc := "(I)Z" } : Jvm.MethodName)) ∈ lw_all := lw_g (lw_at lw_m3 38 rfl) rfl
theorem q578 : (Jvm.Cond.code ({ cls := "LightPlate", name := "fits", desc := "(I)Z" } : Jvm.MethodName) prog_1_method_30_code (5 : Nat) (Option.some Jvm.ClassFile.FieldType.boolean)) ∈ lw_all := lw_g (lw_at lw_m3 39 rfl) rfl
theorem q579 : (Jvm.Cond.methodLink "LightPlate" (251 : Nat) ({ cls := "LightPlate", name := "choose", desc := "(II)I" } : Jvm.MethodName)) ∈ lw_all := lw_g (lw_at lw_m3 40 rfl) rfl
theorem q580 : (Jvm.Cond.privateMethod ({ cls := "LightPlate", name := "choose", desc := "(II)I" } : Jvm.MethodName)) ∈ lw_tbl := lw_at lw_m3 41 rfl
theorem q581 : (Jvm.Cond.instanceMethod ({ cls := "LightPlate", name := "choose", desc := "(II)I" } : Jvm.MethodName)) ∈ lw_all := lw_g (lw_at lw_m3 42 rfl) rfl
theorem q582 : (Jvm.Cond.code ({ cls := "LightPlate", name := "choose", desc := "(II)I" } : Jvm.MethodName) prog_1_method_29_code (6 : Nat) (Option.some Jvm.ClassFile.FieldType.int)) ∈ lw_all := lw_g (lw_at lw_m3 43 rfl) rfl
theorem q583 : (Jvm.Cond.methodLink "LightPlate" (248 : Nat) ({ cls := "LightPlate", name := "look", desc := "(II)V" } : Jvm.MethodName)) ∈ lw_all := lw_g (lw_at lw_m3 44 rfl) rfl
theorem q584 : (Jvm.Cond.privateMethod ({ cls := "LightPlate", name := "look", desc := "(II)V" } : Jvm.MethodName)) ∈ lw_tbl := lw_at lw_m3 45 rfl
theorem q585 : (Jvm.Cond.instanceMethod ({ cls := "LightPlate", name := "look", desc := "(II)V" } : Jvm.MethodName)) ∈ lw_all := lw_g (lw_at lw_m3 46 rfl) rfl
theorem q586 : (Jvm.Cond.code ({ cls := "LightPlate", name := "look", desc := "(II)V" } : Jvm.MethodName) prog_1_method_28_code (6 : Nat) (Option.none : Option Jvm.ClassFile.FieldType)) ∈ lw_all := lw_g (lw_at lw_m3 47 rfl) rfl
theorem q587 : (Jvm.Cond.methodLink "LightPlate" (244 : Nat) ({ cls := "LightPlate", name := "nextAt", desc := "(LLightPlate$Cell;I)I" } : Jvm.MethodName)) ∈ lw_all := lw_g (lw_at lw_m3 48 rfl) rfl
theorem q588 : (Jvm.Cond.privateMethod ({ cls := "LightPlate", name := "nextAt", desc := "(LLightPlate$Cell;I)I" } : Jvm.MethodName)) ∈ lw_tbl := lw_at lw_m3 49 rfl
theorem q589 : (Jvm.Cond.instanceMethod ({ cls := "LightPlate", name := "nextAt", desc := "(LLightPlate$Cell;I)I" } : Jvm.MethodName)) ∈ lw_all := lw_g (lw_at lw_m3 50 rfl) rfl
theorem q590 : (Jvm.Cond.code ({ cls := "LightPlate", name := "nextAt", desc := "(LLightPlate$Cell;I)I" } : Jvm.MethodName) prog_1_method_27_code (5 : Nat) (Option.some Jvm.ClassFile.FieldType.int)) ∈ lw_all := lw_g (lw_at lw_m3 51 rfl) rfl
theorem q591 : (Jvm.Cond.methodLink "LightPlate" (234 : Nat) ({ cls := "LightPlate", name := "areNear", desc := "(II)Z" } : Jvm.MethodName)) ∈ lw_all := lw_g (lw_at lw_m3 52 rfl) rfl
theorem q592 : (Jvm.Cond.privateMethod ({ cls := "LightPlate", name := "areNear", desc := "(II)Z" } : Jvm.MethodName)) ∈ lw_tbl := lw_at lw_m3 53 rfl
theorem q593 : (Jvm.Cond.instanceMethod ({ cls := "LightPlate", name := "areNear", desc := "(II)Z" } : Jvm.MethodName)) ∈ lw_all := lw_g (lw_at lw_m3 54 rfl) rfl
theorem q594 : (Jvm.Cond.code ({ cls := "LightPlate", name := "areNear", desc := "(II)Z" } : Jvm.MethodName) prog_1_method_26_code (3 : Nat) (Option.some Jvm.ClassFile.FieldType.boolean)) ∈ lw_all := lw_g (lw_at lw_m3 55 rfl) rfl
theorem q595 : (Jvm.Cond.methodLink "LightPlate" (228 : Nat) ({ cls := "java/lang/Math", name := "abs", desc := "(I)I" } : Jvm.MethodName)) ∈ lw_all := lw_g (lw_at lw_m3 56 rfl) rfl
theorem q598 : (Jvm.Cond.methodLink "LightPlate" (257 : Nat) ({ cls := "LightPlate", name := "put", desc := "(I)V" } : Jvm.MethodName)) ∈ lw_all := lw_g (lw_at lw_m3 59 rfl) rfl
theorem q599 : (Jvm.Cond.privateMethod ({ cls := "LightPlate", name := "put", desc := "(I)V" } : Jvm.MethodName)) ∈ lw_tbl := lw_at lw_m3 60 rfl
theorem q600 : (Jvm.Cond.instanceMethod ({ cls := "LightPlate", name := "put", desc := "(I)V" } : Jvm.MethodName)) ∈ lw_all := lw_g (lw_at lw_m3 61 rfl) rfl
theorem q601 : (Jvm.Cond.code ({ cls := "LightPlate", name := "put", desc := "(I)V" } : Jvm.MethodName) prog_1_method_31_code (7 : Nat) (Option.none : Option Jvm.ClassFile.FieldType)) ∈ lw_all := lw_g (lw_at lw_m3 62 rfl) rfl
theorem q603 : (Jvm.Cond.instanceMethod ({ cls := "LightPlate", name := "feed", desc := "(JI)I" } : Jvm.MethodName)) ∈ lw_all := lw_g (lw_at lw_m3 64 rfl) rfl
theorem q604 : (Jvm.Cond.selects "LightPlate" ({ cls := "LightPlate", name := "feed", desc := "(JI)I" } : Jvm.MethodName) ({ cls := "LightPlate", name := "feed", desc := "(JI)I" } : Jvm.MethodName)) ∈ lw_all := lw_g (lw_at lw_m3 65 rfl) rfl
theorem q605 : (Jvm.Cond.code ({ cls := "LightPlate", name := "feed", desc := "(JI)I" } : Jvm.MethodName) prog_1_method_33_code (5 : Nat) (Option.some Jvm.ClassFile.FieldType.int)) ∈ lw_all := lw_g (lw_at lw_m3 66 rfl) rfl
theorem q607 : (Jvm.Cond.instanceMethod ({ cls := "LightPlate", name := "program", desc := "()I" } : Jvm.MethodName)) ∈ lw_all := lw_g (lw_at lw_m3 68 rfl) rfl
theorem q608 : (Jvm.Cond.selects "LightPlate" ({ cls := "LightPlate", name := "program", desc := "()I" } : Jvm.MethodName) ({ cls := "LightPlate", name := "program", desc := "()I" } : Jvm.MethodName)) ∈ lw_all := lw_g (lw_at lw_m3 69 rfl) rfl
theorem q609 : (Jvm.Cond.codeWith ({ cls := "LightPlate", name := "program", desc := "()I" } : Jvm.MethodName) prog_1_method_34_code (4 : Nat) (Option.some Jvm.ClassFile.FieldType.int) [((0 : Nat), (29 : Nat), (36 : Nat), (276 : Nat)), ((0 : Nat), (29 : Nat), (58 : Nat), (0 : Nat)), ((36 : Nat), (51 : Nat), (58 : Nat), (0 : Nat))]) ∈ lw_all := lw_g (lw_at lw_m3 70 rfl) rfl
theorem q610 : (Jvm.Cond.classLink "LightPlate" (276 : Nat) "LightPlate$Wrong") ∈ lw_all := lw_g (lw_at lw_m3 71 rfl) rfl
theorem q611 : (Jvm.Cond.methodLink "LightPlate" (264 : Nat) ({ cls := "LightPlate$Reader", name := "program", desc := "()LLightPlate$Node;" } : Jvm.MethodName)) ∈ lw_all := lw_g (lw_at lw_m3 72 rfl) rfl
theorem q678 : (Jvm.Cond.fieldLinkNest "LightPlate" (278 : Nat) "LightPlate$Wrong" "kind" "I" "LightPlate") ∈ lw_tbl := lw_at lw_m3 139 rfl
theorem q680 : (Jvm.Cond.fieldLinkNest "LightPlate" (281 : Nat) "LightPlate$Wrong" "place" "I" "LightPlate") ∈ lw_tbl := lw_at lw_m3 141 rfl
theorem q816 : (Jvm.Cond.selects "LightPlate" ({ cls := "java/lang/Object", name := "getClass", desc := "()Ljava/lang/Class;" } : Jvm.MethodName) ({ cls := "java/lang/Object", name := "getClass", desc := "()Ljava/lang/Class;" } : Jvm.MethodName)) ∈ lw_all := lw_g (lw_at lw_m4 37 rfl) rfl
theorem q860 : (Jvm.Cond.methodLink "LightPlate" (268 : Nat) ({ cls := "LightPlate$Node", name := "many", desc := "()I" } : Jvm.MethodName)) ∈ lw_all := lw_g (lw_at lw_m4 81 rfl) rfl
theorem q861 : (Jvm.Cond.methodLink "LightPlate" (273 : Nat) ({ cls := "LightPlate$Node", name := "gives", desc := "()V" } : Jvm.MethodName)) ∈ lw_all := lw_g (lw_at lw_m4 82 rfl) rfl
theorem q889 : (Jvm.Cond.instanceMethod ({ cls := "LightPlate", name := "creep", desc := "(I)I" } : Jvm.MethodName)) ∈ lw_all := lw_g (lw_at lw_m4 110 rfl) rfl
theorem q890 : (Jvm.Cond.selects "LightPlate" ({ cls := "LightPlate", name := "creep", desc := "(I)I" } : Jvm.MethodName) ({ cls := "LightPlate", name := "creep", desc := "(I)I" } : Jvm.MethodName)) ∈ lw_all := lw_g (lw_at lw_m4 111 rfl) rfl
theorem q891 : (Jvm.Cond.code ({ cls := "LightPlate", name := "creep", desc := "(I)I" } : Jvm.MethodName) prog_1_method_36_code (3 : Nat) (Option.some Jvm.ClassFile.FieldType.int)) ∈ lw_all := lw_g (lw_at lw_m4 112 rfl) rfl
theorem q893 : (Jvm.Cond.instanceMethod ({ cls := "LightPlate", name := "offset", desc := "(III)I" } : Jvm.MethodName)) ∈ lw_all := lw_g (lw_at lw_m4 114 rfl) rfl
theorem q894 : (Jvm.Cond.selects "LightPlate" ({ cls := "LightPlate", name := "offset", desc := "(III)I" } : Jvm.MethodName) ({ cls := "LightPlate", name := "offset", desc := "(III)I" } : Jvm.MethodName)) ∈ lw_all := lw_g (lw_at lw_m4 115 rfl) rfl
theorem q895 : (Jvm.Cond.code ({ cls := "LightPlate", name := "offset", desc := "(III)I" } : Jvm.MethodName) prog_1_method_37_code (6 : Nat) (Option.some Jvm.ClassFile.FieldType.int)) ∈ lw_all := lw_g (lw_at lw_m4 116 rfl) rfl
theorem q897 : (Jvm.Cond.instanceMethod ({ cls := "LightPlate", name := "run", desc := "(J)I" } : Jvm.MethodName)) ∈ lw_all := lw_g (lw_at lw_m4 118 rfl) rfl
theorem q898 : (Jvm.Cond.selects "LightPlate" ({ cls := "LightPlate", name := "run", desc := "(J)I" } : Jvm.MethodName) ({ cls := "LightPlate", name := "run", desc := "(J)I" } : Jvm.MethodName)) ∈ lw_all := lw_g (lw_at lw_m4 119 rfl) rfl
theorem q899 : (Jvm.Cond.code ({ cls := "LightPlate", name := "run", desc := "(J)I" } : Jvm.MethodName) prog_1_method_38_code (7 : Nat) (Option.some Jvm.ClassFile.FieldType.int)) ∈ lw_all := lw_g (lw_at lw_m4 120 rfl) rfl
theorem q900 : (Jvm.Cond.classLink "LightPlate" (304 : Nat) "LightPlate$Run") ∈ lw_all := lw_g (lw_at lw_m4 121 rfl) rfl
theorem q902 : (Jvm.Cond.methodLink "LightPlate" (306 : Nat) ({ cls := "LightPlate$Run", name := "<init>", desc := "(LLightPlate;I)V" } : Jvm.MethodName)) ∈ lw_all := lw_g (lw_at lw_m4 123 rfl) rfl
theorem q908 : (Jvm.Cond.fieldLinkNest "LightPlate" (320 : Nat) "LightPlate$Run" "tick" "I" "LightPlate") ∈ lw_tbl := lw_at lw_m4 129 rfl
theorem q910 : (Jvm.Cond.fieldLinkNest "LightPlate" (309 : Nat) "LightPlate$Run" "went" "[I" "LightPlate") ∈ lw_tbl := lw_at lw_m4 131 rfl
theorem q912 : (Jvm.Cond.fieldLinkNest "LightPlate" (312 : Nat) "LightPlate$Run" "came" "[I" "LightPlate") ∈ lw_tbl := lw_at lw_m4 133 rfl
theorem q927 : (Jvm.Cond.methodLink "LightPlate" (315 : Nat) ({ cls := "LightPlate$True", name := "go", desc := "([I)V" } : Jvm.MethodName)) ∈ lw_all := lw_g (lw_at lw_m4 148 rfl) rfl
theorem q932 : (Jvm.Cond.methodLink "LightPlate" (316 : Nat) ({ cls := "java/util/ArrayList", name := "add", desc := "(Ljava/lang/Object;)Z" } : Jvm.MethodName)) ∈ lw_all := lw_g (lw_at lw_m4 153 rfl) rfl
theorem q934 : (Jvm.Cond.instanceMethod ({ cls := "LightPlate", name := "out", desc := "(II)I" } : Jvm.MethodName)) ∈ lw_all := lw_g (lw_at lw_m4 155 rfl) rfl
theorem q935 : (Jvm.Cond.selects "LightPlate" ({ cls := "LightPlate", name := "out", desc := "(II)I" } : Jvm.MethodName) ({ cls := "LightPlate", name := "out", desc := "(II)I" } : Jvm.MethodName)) ∈ lw_all := lw_g (lw_at lw_m4 156 rfl) rfl
theorem q936 : (Jvm.Cond.code ({ cls := "LightPlate", name := "out", desc := "(II)I" } : Jvm.MethodName) prog_1_method_40_code (3 : Nat) (Option.some Jvm.ClassFile.FieldType.int)) ∈ lw_all := lw_g (lw_at lw_m4 157 rfl) rfl
theorem q937 : (Jvm.Cond.methodLink "LightPlate" (321 : Nat) ({ cls := "LightPlate", name := "runAt", desc := "(I)LLightPlate$Run;" } : Jvm.MethodName)) ∈ lw_all := lw_g (lw_at lw_m4 158 rfl) rfl
theorem q938 : (Jvm.Cond.privateMethod ({ cls := "LightPlate", name := "runAt", desc := "(I)LLightPlate$Run;" } : Jvm.MethodName)) ∈ lw_tbl := lw_at lw_m4 159 rfl
theorem q939 : (Jvm.Cond.instanceMethod ({ cls := "LightPlate", name := "runAt", desc := "(I)LLightPlate$Run;" } : Jvm.MethodName)) ∈ lw_all := lw_g (lw_at lw_m4 160 rfl) rfl
theorem q940 : (Jvm.Cond.code ({ cls := "LightPlate", name := "runAt", desc := "(I)LLightPlate$Run;" } : Jvm.MethodName) prog_1_method_39_code (2 : Nat) (Option.some (Jvm.ClassFile.FieldType.object "LightPlate$Run"))) ∈ lw_all := lw_g (lw_at lw_m4 161 rfl) rfl
theorem q942 : (Jvm.Cond.instanceMethod ({ cls := "LightPlate", name := "reworked", desc := "(II)I" } : Jvm.MethodName)) ∈ lw_all := lw_g (lw_at lw_m4 163 rfl) rfl
theorem q943 : (Jvm.Cond.selects "LightPlate" ({ cls := "LightPlate", name := "reworked", desc := "(II)I" } : Jvm.MethodName) ({ cls := "LightPlate", name := "reworked", desc := "(II)I" } : Jvm.MethodName)) ∈ lw_all := lw_g (lw_at lw_m4 164 rfl) rfl
theorem q944 : (Jvm.Cond.code ({ cls := "LightPlate", name := "reworked", desc := "(II)I" } : Jvm.MethodName) prog_1_method_42_code (3 : Nat) (Option.some Jvm.ClassFile.FieldType.int)) ∈ lw_all := lw_g (lw_at lw_m4 165 rfl) rfl
theorem q945 : (Jvm.Cond.methodLink "LightPlate" (330 : Nat) ({ cls := "LightPlate", name := "rework", desc := "(LLightPlate$Run;)V" } : Jvm.MethodName)) ∈ lw_all := lw_g (lw_at lw_m4 166 rfl) rfl
theorem q946 : (Jvm.Cond.privateMethod ({ cls := "LightPlate", name := "rework", desc := "(LLightPlate$Run;)V" } : Jvm.MethodName)) ∈ lw_tbl := lw_at lw_m4 167 rfl
theorem q947 : (Jvm.Cond.instanceMethod ({ cls := "LightPlate", name := "rework", desc := "(LLightPlate$Run;)V" } : Jvm.MethodName)) ∈ lw_all := lw_g (lw_at lw_m4 168 rfl) rfl
theorem q948 : (Jvm.Cond.code ({ cls := "LightPlate", name := "rework", desc := "(LLightPlate$Run;)V" } : Jvm.MethodName) prog_1_method_41_code (2 : Nat) (Option.none : Option Jvm.ClassFile.FieldType)) ∈ lw_all := lw_g (lw_at lw_m4 169 rfl) rfl
theorem q949 : (Jvm.Cond.methodLink "LightPlate" (329 : Nat) ({ cls := "LightPlate$Again", name := "go", desc := "([I)V" } : Jvm.MethodName)) ∈ lw_all := lw_g (lw_at lw_m4 170 rfl) rfl
theorem q953 : (Jvm.Cond.instanceMethod ({ cls := "LightPlate", name := "since", desc := "()I" } : Jvm.MethodName)) ∈ lw_all := lw_g (lw_at lw_m4 174 rfl) rfl
theorem q954 : (Jvm.Cond.selects "LightPlate" ({ cls := "LightPlate", name := "since", desc := "()I" } : Jvm.MethodName) ({ cls := "LightPlate", name := "since", desc := "()I" } : Jvm.MethodName)) ∈ lw_all := lw_g (lw_at lw_m4 175 rfl) rfl
theorem q955 : (Jvm.Cond.code ({ cls := "LightPlate", name := "since", desc := "()I" } : Jvm.MethodName) prog_1_method_43_code (3 : Nat) (Option.some Jvm.ClassFile.FieldType.int)) ∈ lw_all := lw_g (lw_at lw_m4 176 rfl) rfl
theorem q957 : (Jvm.Cond.instanceMethod ({ cls := "LightPlate", name := "found", desc := "(IIII)I" } : Jvm.MethodName)) ∈ lw_all := lw_g (lw_at lw_m4 178 rfl) rfl
theorem q958 : (Jvm.Cond.selects "LightPlate" ({ cls := "LightPlate", name := "found", desc := "(IIII)I" } : Jvm.MethodName) ({ cls := "LightPlate", name := "found", desc := "(IIII)I" } : Jvm.MethodName)) ∈ lw_all := lw_g (lw_at lw_m4 179 rfl) rfl
theorem q959 : (Jvm.Cond.code ({ cls := "LightPlate", name := "found", desc := "(IIII)I" } : Jvm.MethodName) prog_1_method_44_code (6 : Nat) (Option.some Jvm.ClassFile.FieldType.int)) ∈ lw_all := lw_g (lw_at lw_m4 180 rfl) rfl
theorem q961 : (Jvm.Cond.methodLink "LightPlate" (334 : Nat) ({ cls := "LightPlate$Finding", name := "<init>", desc := "(LLightPlate$Cell;II)V" } : Jvm.MethodName)) ∈ lw_all := lw_g (lw_at lw_m4 182 rfl) rfl
theorem q966 : (Jvm.Cond.fieldLinkNest "LightPlate" (293 : Nat) "LightPlate$Finding" "cell" "LLightPlate$Cell;" "LightPlate") ∈ lw_tbl := lw_at lw_m4 187 rfl
theorem q968 : (Jvm.Cond.fieldLinkNest "LightPlate" (300 : Nat) "LightPlate$Finding" "offset" "I" "LightPlate") ∈ lw_tbl := lw_at lw_m4 189 rfl
theorem q970 : (Jvm.Cond.fieldLinkNest "LightPlate" (297 : Nat) "LightPlate$Finding" "tick" "I" "LightPlate") ∈ lw_tbl := lw_at lw_m4 191 rfl
theorem q979 : (Jvm.Cond.instanceMethod ({ cls := "LightPlate", name := "probing", desc := "()I" } : Jvm.MethodName)) ∈ lw_all := lw_g (lw_at lw_m4 200 rfl) rfl
theorem q980 : (Jvm.Cond.selects "LightPlate" ({ cls := "LightPlate", name := "probing", desc := "()I" } : Jvm.MethodName) ({ cls := "LightPlate", name := "probing", desc := "()I" } : Jvm.MethodName)) ∈ lw_all := lw_g (lw_at lw_m4 201 rfl) rfl
theorem q981 : (Jvm.Cond.code ({ cls := "LightPlate", name := "probing", desc := "()I" } : Jvm.MethodName) prog_1_method_45_code (6 : Nat) (Option.some Jvm.ClassFile.FieldType.int)) ∈ lw_all := lw_g (lw_at lw_m4 202 rfl) rfl
theorem q982 : (Jvm.Cond.methodLink "LightPlate" (337 : Nat) ({ cls := "java/util/ArrayList", name := "clear", desc := "()V" } : Jvm.MethodName)) ∈ lw_all := lw_g (lw_at lw_m4 203 rfl) rfl
theorem q986 : (Jvm.Cond.classLink "LightPlate" (343 : Nat) "LightPlate$Hypothesis") ∈ lw_all := lw_g (lw_at lw_m4 207 rfl) rfl
theorem q988 : (Jvm.Cond.methodLink "LightPlate" (345 : Nat) ({ cls := "LightPlate$Hypothesis", name := "<init>", desc := "(LLightPlate$Cell;I)V" } : Jvm.MethodName)) ∈ lw_all := lw_g (lw_at lw_m4 209 rfl) rfl
theorem q993 : (Jvm.Cond.fieldLinkNest "LightPlate" (348 : Nat) "LightPlate$Hypothesis" "cell" "LLightPlate$Cell;" "LightPlate") ∈ lw_tbl := lw_at lw_m4 214 rfl
theorem q995 : (Jvm.Cond.fieldLinkNest "LightPlate" (352 : Nat) "LightPlate$Hypothesis" "more" "I" "LightPlate") ∈ lw_tbl := lw_at lw_m4 216 rfl
theorem q997 : (Jvm.Cond.fieldLinkNest "LightPlate" (356 : Nat) "LightPlate$Hypothesis" "isHeld" "Z" "LightPlate") ∈ lw_tbl := lw_at lw_m4 218 rfl
theorem q1006 : (Jvm.Cond.instanceMethod ({ cls := "LightPlate", name := "probe", desc := "(II)I" } : Jvm.MethodName)) ∈ lw_all := lw_g (lw_at lw_m4 227 rfl) rfl
theorem q1007 : (Jvm.Cond.selects "LightPlate" ({ cls := "LightPlate", name := "probe", desc := "(II)I" } : Jvm.MethodName) ({ cls := "LightPlate", name := "probe", desc := "(II)I" } : Jvm.MethodName)) ∈ lw_all := lw_g (lw_at lw_m4 228 rfl) rfl
theorem q1008 : (Jvm.Cond.code ({ cls := "LightPlate", name := "probe", desc := "(II)I" } : Jvm.MethodName) prog_1_method_47_code (5 : Nat) (Option.some Jvm.ClassFile.FieldType.int)) ∈ lw_all := lw_g (lw_at lw_m4 229 rfl) rfl
theorem q1009 : (Jvm.Cond.methodLink "LightPlate" (359 : Nat) ({ cls := "LightPlate", name := "comes", desc := "(LLightPlate$Hypothesis;II)I" } : Jvm.MethodName)) ∈ lw_all := lw_g (lw_at lw_m4 230 rfl) rfl
theorem q1010 : (Jvm.Cond.privateMethod ({ cls := "LightPlate", name := "comes", desc := "(LLightPlate$Hypothesis;II)I" } : Jvm.MethodName)) ∈ lw_tbl := lw_at lw_m4 231 rfl
theorem q1011 : (Jvm.Cond.instanceMethod ({ cls := "LightPlate", name := "comes", desc := "(LLightPlate$Hypothesis;II)I" } : Jvm.MethodName)) ∈ lw_all := lw_g (lw_at lw_m4 232 rfl) rfl
theorem q1012 : (Jvm.Cond.code ({ cls := "LightPlate", name := "comes", desc := "(LLightPlate$Hypothesis;II)I" } : Jvm.MethodName) prog_1_method_46_code (4 : Nat) (Option.some Jvm.ClassFile.FieldType.int)) ∈ lw_all := lw_g (lw_at lw_m4 233 rfl) rfl
theorem q1014 : (Jvm.Cond.instanceMethod ({ cls := "LightPlate", name := "held", desc := "(I)I" } : Jvm.MethodName)) ∈ lw_all := lw_g (lw_at lw_m4 235 rfl) rfl
theorem q1015 : (Jvm.Cond.selects "LightPlate" ({ cls := "LightPlate", name := "held", desc := "(I)I" } : Jvm.MethodName) ({ cls := "LightPlate", name := "held", desc := "(I)I" } : Jvm.MethodName)) ∈ lw_all := lw_g (lw_at lw_m4 236 rfl) rfl
theorem q1016 : (Jvm.Cond.code ({ cls := "LightPlate", name := "held", desc := "(I)I" } : Jvm.MethodName) prog_1_method_48_code (4 : Nat) (Option.some Jvm.ClassFile.FieldType.int)) ∈ lw_all := lw_g (lw_at lw_m4 237 rfl) rfl
theorem q1018 : (Jvm.Cond.instanceMethod ({ cls := "LightPlate", name := "next", desc := "()I" } : Jvm.MethodName)) ∈ lw_all := lw_g (lw_at lw_m4 239 rfl) rfl
theorem q1019 : (Jvm.Cond.selects "LightPlate" ({ cls := "LightPlate", name := "next", desc := "()I" } : Jvm.MethodName) ({ cls := "LightPlate", name := "next", desc := "()I" } : Jvm.MethodName)) ∈ lw_all := lw_g (lw_at lw_m5 0 rfl) rfl
theorem q1020 : (Jvm.Cond.code ({ cls := "LightPlate", name := "next", desc := "()I" } : Jvm.MethodName) prog_1_method_49_code (8 : Nat) (Option.some Jvm.ClassFile.FieldType.int)) ∈ lw_all := lw_g (lw_at lw_m5 1 rfl) rfl
theorem q1021 : (Jvm.Cond.methodLink "LightPlate" (363 : Nat) ({ cls := "LightPlate", name := "held", desc := "(I)I" } : Jvm.MethodName)) ∈ lw_all := lw_g (lw_at lw_m5 2 rfl) rfl
theorem q1022 : (Jvm.Cond.methodLink "LightPlate" (366 : Nat) ({ cls := "java/lang/Math", name := "max", desc := "(II)I" } : Jvm.MethodName)) ∈ lw_all := lw_g (lw_at lw_m5 3 rfl) rfl
theorem q1024 : (Jvm.Cond.instanceMethod ({ cls := "LightPlate", name := "claim", desc := "(III)I" } : Jvm.MethodName)) ∈ lw_all := lw_g (lw_at lw_m5 5 rfl) rfl
theorem q1025 : (Jvm.Cond.selects "LightPlate" ({ cls := "LightPlate", name := "claim", desc := "(III)I" } : Jvm.MethodName) ({ cls := "LightPlate", name := "claim", desc := "(III)I" } : Jvm.MethodName)) ∈ lw_all := lw_g (lw_at lw_m5 6 rfl) rfl
theorem q1026 : (Jvm.Cond.code ({ cls := "LightPlate", name := "claim", desc := "(III)I" } : Jvm.MethodName) prog_1_method_50_code (6 : Nat) (Option.some Jvm.ClassFile.FieldType.int)) ∈ lw_all := lw_g (lw_at lw_m5 7 rfl) rfl
theorem q1028 : (Jvm.Cond.instanceMethod ({ cls := "LightPlate", name := "meeting", desc := "()I" } : Jvm.MethodName)) ∈ lw_all := lw_g (lw_at lw_m5 9 rfl) rfl
theorem q1029 : (Jvm.Cond.selects "LightPlate" ({ cls := "LightPlate", name := "meeting", desc := "()I" } : Jvm.MethodName) ({ cls := "LightPlate", name := "meeting", desc := "()I" } : Jvm.MethodName)) ∈ lw_all := lw_g (lw_at lw_m5 10 rfl) rfl
theorem q1030 : (Jvm.Cond.code ({ cls := "LightPlate", name := "meeting", desc := "()I" } : Jvm.MethodName) prog_1_method_52_code (2 : Nat) (Option.some Jvm.ClassFile.FieldType.int)) ∈ lw_all := lw_g (lw_at lw_m5 11 rfl) rfl
theorem q1031 : (Jvm.Cond.methodLink "LightPlate" (369 : Nat) ({ cls := "LightPlate", name := "meets", desc := "(I)Z" } : Jvm.MethodName)) ∈ lw_all := lw_g (lw_at lw_m5 12 rfl) rfl
theorem q1032 : (Jvm.Cond.privateMethod ({ cls := "LightPlate", name := "meets", desc := "(I)Z" } : Jvm.MethodName)) ∈ lw_tbl := lw_at lw_m5 13 rfl
theorem q1033 : (Jvm.Cond.instanceMethod ({ cls := "LightPlate", name := "meets", desc := "(I)Z" } : Jvm.MethodName)) ∈ lw_all := lw_g (lw_at lw_m5 14 rfl) rfl
theorem q1034 : (Jvm.Cond.code ({ cls := "LightPlate", name := "meets", desc := "(I)Z" } : Jvm.MethodName) prog_1_method_51_code (8 : Nat) (Option.some Jvm.ClassFile.FieldType.boolean)) ∈ lw_all := lw_g (lw_at lw_m5 15 rfl) rfl
theorem q1036 : (Jvm.Cond.instanceMethod ({ cls := "LightPlate", name := "count", desc := "(I)I" } : Jvm.MethodName)) ∈ lw_all := lw_g (lw_at lw_m5 17 rfl) rfl
theorem q1037 : (Jvm.Cond.selects "LightPlate" ({ cls := "LightPlate", name := "count", desc := "(I)I" } : Jvm.MethodName) ({ cls := "LightPlate", name := "count", desc := "(I)I" } : Jvm.MethodName)) ∈ lw_all := lw_g (lw_at lw_m5 18 rfl) rfl
theorem q1038 : (Jvm.Cond.code ({ cls := "LightPlate", name := "count", desc := "(I)I" } : Jvm.MethodName) prog_1_method_54_code (7 : Nat) (Option.some Jvm.ClassFile.FieldType.int)) ∈ lw_all := lw_g (lw_at lw_m5 19 rfl) rfl
theorem q1039 : (Jvm.Cond.methodLink "LightPlate" (372 : Nat) ({ cls := "LightPlate", name := "usedLayers", desc := "()I" } : Jvm.MethodName)) ∈ lw_all := lw_g (lw_at lw_m5 20 rfl) rfl
theorem q1040 : (Jvm.Cond.privateMethod ({ cls := "LightPlate", name := "usedLayers", desc := "()I" } : Jvm.MethodName)) ∈ lw_tbl := lw_at lw_m5 21 rfl
theorem q1041 : (Jvm.Cond.instanceMethod ({ cls := "LightPlate", name := "usedLayers", desc := "()I" } : Jvm.MethodName)) ∈ lw_all := lw_g (lw_at lw_m5 22 rfl) rfl
theorem q1042 : (Jvm.Cond.code ({ cls := "LightPlate", name := "usedLayers", desc := "()I" } : Jvm.MethodName) prog_1_method_53_code (5 : Nat) (Option.some Jvm.ClassFile.FieldType.int)) ∈ lw_all := lw_g (lw_at lw_m5 23 rfl) rfl
theorem q1488 : (Jvm.Cond.castable "LightPlate" "java/lang/Object") ∈ lw_tbl := lw_at lw_m6 229 rfl
theorem in_X1 : ∀ w ∈ wsX10, w ∈ lw_all := lw_in wsX10 [322, 324, 326, 328, 330, 332, 334, 336, 338, 340, 342, 344, 346, 348, 350, 352, 354, 356, 358, 360, 362, 364, 366, 368, 370, 372, 374, 376, 378, 380, 382, 384, 386] (by decide +kernel) (by decide +kernel)
