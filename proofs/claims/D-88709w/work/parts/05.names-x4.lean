/-! PennyJudgeModel -/
set_option maxRecDepth 100000
def RX4 : String := "PennyJudgeModel"
def TX4 : u_T := fun k => match k with
  | 0 => ("PennyJudgeModel", "thrown", "I", false)
  | 1 => ("PennyJudgeModel", "rateP", "[I", true)
  | 2 => ("PennyJudgeModel", "rateQ", "[I", true)
  | 3 => ("PennyJudgeModel", "lines", "I", false)
  | 4 => ("PennyJudgeModel", "bill", "[I", true)
  | 5 => ("PennyJudgeModel", "weights", "[I", true)
  | 6 => ("PennyJudgeModel", "weight", "[I", true)
  | 7 => ("PennyJudgeModel", "programs", "I", false)
  | 8 => ("PennyJudgeModel", "acts", "[I", true)
  | 9 => ("PennyJudgeModel", "kind", "[I", true)
  | 10 => ("PennyJudgeModel", "actS", "[I", true)
  | 11 => ("PennyJudgeModel", "actT", "[I", true)
  | 12 => ("PennyJudgeModel", "actV", "[I", true)
  | 13 => ("PennyJudgeModel", "leaks", "I", false)
  | 14 => ("PennyJudgeModel", "failedAct", "I", false)
  | 15 => ("PennyJudgeModel", "refusals", "I", false)
  | 16 => ("PennyJudgeModel", "base", "I", false)
  | 17 => ("PennyJudgeModel", "billMany", "I", false)
  | 18 => ("PennyJudgeModel", "billRow", "[I", true)
  | 19 => ("PennyJudgeModel", "up", "[J", true)
  | 20 => ("PennyJudgeModel", "low", "[J", true)
  | 21 => ("PennyJudgeModel", "parts", "[J", true)
  | 22 => ("PennyJudgeModel", "results", "[J", true)
  | 23 => ("PennyJudgeModel", "account", "[J", true)
  | 24 => ("PennyJudgeModel", "carriedUp", "[J", true)
  | 25 => ("PennyJudgeModel", "carriedLow", "[J", true)
  | 26 => ("PennyJudgeModel", "isShown", "[Z", true)
  | 27 => ("PennyJudgeModel", "wasSplit", "Z", false)
  | 28 => ("PennyJudgeModel", "splitShown", "Z", false)
  | 29 => ("PennyJudgeModel", "splitOf", "J", false)
  | 30 => ("PennyJudgeModel", "splitSet", "I", false)
  | 31 => ("PennyJudgeModel", "runLeaks", "I", false)
  | 32 => ("PennyJudgeModel", "failing", "I", false)
  | 33 => ("PennyJudgeModel", "sort", "[I", true)
  | 34 => ("PennyJudgeModel", "size", "[I", true)
  | 35 => ("PennyJudgeModel", "cells", "[J", true)
  | 36 => ("PennyJudgeModel", "iPrograms", "[I", true)
  | 37 => ("PennyJudgeModel", "iLeaks", "[I", true)
  | 38 => ("PennyJudgeModel", "iAccount", "[J", true)
  | 39 => ("PennyJudgeModel", "iUp", "[J", true)
  | 40 => ("PennyJudgeModel", "iLow", "[J", true)
  | 41 => ("PennyJudgeModel", "aheadAccount", "[J", true)
  | 42 => ("PennyJudgeModel", "first", "[J", true)
  | 43 => ("PennyJudgeModel", "slotF", "[D", true)
  | 44 => ("PennyJudgeModel", "partF", "[D", true)
  | 45 => ("PennyJudgeModel", "carriedF", "D", false)
  | 46 => ("PennyJudgeModel", "place", "[I", true)
  | 47 => ("PennyJudgeModel", "firstResult", "[J", true)
  | 48 => ("PennyJudgeModel", "best", "[J", true)
  | 49 => ("PennyJudgeModel", "next", "[J", true)
  | 50 => ("PennyJudgeModel", "isReached", "[Z", true)
  | _ => ("PennyJudgeModel", "moved", "[J", true)
def tyX4 : Nat → FieldType := fun k => match k with
  | 0 => .int
  | 1 => .array .int
  | 2 => .array .int
  | 3 => .int
  | 4 => .array .int
  | 5 => .array .int
  | 6 => .array .int
  | 7 => .int
  | 8 => .array .int
  | 9 => .array .int
  | 10 => .array .int
  | 11 => .array .int
  | 12 => .array .int
  | 13 => .int
  | 14 => .int
  | 15 => .int
  | 16 => .int
  | 17 => .int
  | 18 => .array .int
  | 19 => .array .long
  | 20 => .array .long
  | 21 => .array .long
  | 22 => .array .long
  | 23 => .array .long
  | 24 => .array .long
  | 25 => .array .long
  | 26 => .array .boolean
  | 27 => .boolean
  | 28 => .boolean
  | 29 => .long
  | 30 => .int
  | 31 => .int
  | 32 => .int
  | 33 => .array .int
  | 34 => .array .int
  | 35 => .array .long
  | 36 => .array .int
  | 37 => .array .int
  | 38 => .array .long
  | 39 => .array .long
  | 40 => .array .long
  | 41 => .array .long
  | 42 => .array .long
  | 43 => .array .double
  | 44 => .array .double
  | 45 => .double
  | 46 => .array .int
  | 47 => .array .long
  | 48 => .array .long
  | 49 => .array .long
  | 50 => .array .boolean
  | _ => .array .long
abbrev wsX40 : List Cond := u_ws RX4 TX4 52
set_option maxRecDepth 100000 in
theorem nmX4 : ∀ a, a < 52 → ∀ b, b < 52 → a ≠ b → (TX4 a).2.1 ≠ (TX4 b).2.1 := by decide +kernel
set_option maxRecDepth 100000 in
theorem tyX4_ok : ∀ k, k < 52 → parseFieldDescriptor (TX4 k).2.2.1 = some (tyX4 k) := by decide +kernel
abbrev cX4_init : ByteArray := prog_23_method_1_code
def yX4_init : MethodName := ⟨RX4, "<init>", "()V"⟩
def dkwX4_init_13 : List UInt8 := [181, 0, 125, 42, 182, 0, 128, 177]
abbrev dktX4_init_13 : List UInt8 := dkwX4_init_13 ++ []
def dkwX4_init_12 : List UInt8 := [17, 0, 200, 188, 11, 181, 0, 119, 42, 17, 0, 200, 188, 4, 181, 0, 122, 42, 16, 64, 188, 11]
abbrev dktX4_init_12 : List UInt8 := dkwX4_init_12 ++ dktX4_init_13
def dkwX4_init_11 : List UInt8 := [188, 10, 181, 0, 110, 42, 16, 12, 188, 11, 181, 0, 113, 42, 17, 0, 200, 188, 11, 181, 0, 116, 42]
abbrev dktX4_init_11 : List UInt8 := dkwX4_init_11 ++ dktX4_init_12
def dkwX4_init_10 : List UInt8 := [188, 11, 181, 0, 100, 42, 16, 8, 188, 7, 181, 0, 103, 42, 16, 8, 188, 7, 181, 0, 107, 42, 16, 6]
abbrev dktX4_init_10 : List UInt8 := dkwX4_init_10 ++ dktX4_init_11
def dkwX4_init_9 : List UInt8 := [188, 11, 181, 0, 91, 42, 16, 24, 188, 11, 181, 0, 94, 42, 16, 8, 188, 11, 181, 0, 97, 42, 16, 8]
abbrev dktX4_init_9 : List UInt8 := dkwX4_init_9 ++ dktX4_init_10
def dkwX4_init_8 : List UInt8 := [188, 10, 181, 0, 82, 42, 16, 6, 188, 10, 181, 0, 85, 42, 16, 48, 188, 11, 181, 0, 88, 42, 16, 24]
abbrev dktX4_init_8 : List UInt8 := dkwX4_init_8 ++ dktX4_init_9
def dkwX4_init_7 : List UInt8 := [181, 0, 73, 42, 16, 6, 188, 10, 181, 0, 76, 42, 17, 1, 128, 188, 11, 181, 0, 79, 42, 16, 6]
abbrev dktX4_init_7 : List UInt8 := dkwX4_init_7 ++ dktX4_init_8
def dkwX4_init_6 : List UInt8 := [181, 0, 63, 42, 16, 8, 188, 11, 181, 0, 66, 42, 16, 16, 188, 4, 181, 0, 69, 42, 16, 6, 188, 10]
abbrev dktX4_init_6 : List UInt8 := dkwX4_init_6 ++ dktX4_init_7
def dkwX4_init_5 : List UInt8 := [181, 0, 54, 42, 16, 24, 188, 11, 181, 0, 57, 42, 16, 16, 188, 11, 181, 0, 60, 42, 16, 8, 188, 11]
abbrev dktX4_init_5 : List UInt8 := dkwX4_init_5 ++ dktX4_init_6
def dkwX4_init_4 : List UInt8 := [181, 0, 44, 42, 16, 16, 188, 11, 181, 0, 47, 42, 16, 16, 188, 11, 181, 0, 51, 42, 16, 16, 188, 11]
abbrev dktX4_init_4 : List UInt8 := dkwX4_init_4 ++ dktX4_init_5
def dkwX4_init_3 : List UInt8 := [181, 0, 34, 42, 16, 80, 188, 10, 181, 0, 37, 42, 16, 254, 181, 0, 40, 42, 16, 12, 188, 10]
abbrev dktX4_init_3 : List UInt8 := dkwX4_init_3 ++ dktX4_init_4
def dkwX4_init_2 : List UInt8 := [181, 0, 25, 42, 16, 80, 188, 10, 181, 0, 28, 42, 16, 80, 188, 10, 181, 0, 31, 42, 16, 80, 188, 10]
abbrev dktX4_init_2 : List UInt8 := dkwX4_init_2 ++ dktX4_init_3
def dkwX4_init_1 : List UInt8 := [188, 10, 181, 0, 16, 42, 7, 188, 10, 181, 0, 19, 42, 16, 32, 188, 10, 181, 0, 22, 42, 7, 188, 10]
abbrev dktX4_init_1 : List UInt8 := dkwX4_init_1 ++ dktX4_init_2
def dkwX4_init_0 : List UInt8 := [42, 183, 0, 1, 42, 16, 8, 188, 10, 181, 0, 7, 42, 16, 8, 188, 10, 181, 0, 13, 42, 16, 12]
abbrev dktX4_init_0 : List UInt8 := dkwX4_init_0 ++ dktX4_init_1
theorem dksX4_init_0 : cX4_init.data.toList.drop 0 = dktX4_init_0 := by decide +kernel
theorem dksX4_init_1 : cX4_init.data.toList.drop 23 = dktX4_init_1 := dk_seg dksX4_init_0 23 rfl rfl
theorem dksX4_init_2 : cX4_init.data.toList.drop 47 = dktX4_init_2 := dk_seg dksX4_init_1 24 rfl rfl
theorem dksX4_init_3 : cX4_init.data.toList.drop 71 = dktX4_init_3 := dk_seg dksX4_init_2 24 rfl rfl
theorem dksX4_init_4 : cX4_init.data.toList.drop 93 = dktX4_init_4 := dk_seg dksX4_init_3 22 rfl rfl
theorem dksX4_init_5 : cX4_init.data.toList.drop 117 = dktX4_init_5 := dk_seg dksX4_init_4 24 rfl rfl
theorem dksX4_init_6 : cX4_init.data.toList.drop 141 = dktX4_init_6 := dk_seg dksX4_init_5 24 rfl rfl
theorem dksX4_init_7 : cX4_init.data.toList.drop 165 = dktX4_init_7 := dk_seg dksX4_init_6 24 rfl rfl
theorem dksX4_init_8 : cX4_init.data.toList.drop 188 = dktX4_init_8 := dk_seg dksX4_init_7 23 rfl rfl
theorem dksX4_init_9 : cX4_init.data.toList.drop 212 = dktX4_init_9 := dk_seg dksX4_init_8 24 rfl rfl
theorem dksX4_init_10 : cX4_init.data.toList.drop 236 = dktX4_init_10 := dk_seg dksX4_init_9 24 rfl rfl
theorem dksX4_init_11 : cX4_init.data.toList.drop 260 = dktX4_init_11 := dk_seg dksX4_init_10 24 rfl rfl
theorem dksX4_init_12 : cX4_init.data.toList.drop 283 = dktX4_init_12 := dk_seg dksX4_init_11 23 rfl rfl
theorem dksX4_init_13 : cX4_init.data.toList.drop 305 = dktX4_init_13 := dk_seg dksX4_init_12 22 rfl rfl
theorem dX4_init_0 : decode cX4_init 0 = .ok (.aload_n 0, 1) := dk_42 (dk_at dksX4_init_0 0 rfl rfl)
theorem dX4_init_1 : decode cX4_init 1 = .ok (.invokespecial 1, 3) := dk_183 0 1 (dk_at dksX4_init_0 1 rfl rfl)
theorem dX4_init_4 : decode cX4_init 4 = .ok (.aload_n 0, 1) := dk_42 (dk_at dksX4_init_0 4 rfl rfl)
theorem dX4_init_5 : decode cX4_init 5 = .ok (.bipush 8, 2) := dk_16 8 (dk_at dksX4_init_0 5 rfl rfl)
theorem dX4_init_7 : decode cX4_init 7 = .ok (.newarray .int, 2) := dk_188_10 (dk_at dksX4_init_0 7 rfl rfl)
theorem dX4_init_9 : decode cX4_init 9 = .ok (.putfield 7, 3) := dk_181 0 7 (dk_at dksX4_init_0 9 rfl rfl)
theorem dX4_init_12 : decode cX4_init 12 = .ok (.aload_n 0, 1) := dk_42 (dk_at dksX4_init_0 12 rfl rfl)
theorem dX4_init_13 : decode cX4_init 13 = .ok (.bipush 8, 2) := dk_16 8 (dk_at dksX4_init_0 13 rfl rfl)
theorem dX4_init_15 : decode cX4_init 15 = .ok (.newarray .int, 2) := dk_188_10 (dk_at dksX4_init_0 15 rfl rfl)
theorem dX4_init_17 : decode cX4_init 17 = .ok (.putfield 13, 3) := dk_181 0 13 (dk_at dksX4_init_0 17 rfl rfl)
theorem dX4_init_20 : decode cX4_init 20 = .ok (.aload_n 0, 1) := dk_42 (dk_at dksX4_init_0 20 rfl rfl)
theorem dX4_init_21 : decode cX4_init 21 = .ok (.bipush 12, 2) := dk_16 12 (dk_at dksX4_init_0 21 rfl rfl)
theorem dX4_init_23 : decode cX4_init 23 = .ok (.newarray .int, 2) := dk_188_10 (dk_at dksX4_init_1 0 rfl rfl)
theorem dX4_init_25 : decode cX4_init 25 = .ok (.putfield 16, 3) := dk_181 0 16 (dk_at dksX4_init_1 2 rfl rfl)
theorem dX4_init_28 : decode cX4_init 28 = .ok (.aload_n 0, 1) := dk_42 (dk_at dksX4_init_1 5 rfl rfl)
theorem dX4_init_29 : decode cX4_init 29 = .ok (.iconst 4, 1) := dk_7 (dk_at dksX4_init_1 6 rfl rfl)
theorem dX4_init_30 : decode cX4_init 30 = .ok (.newarray .int, 2) := dk_188_10 (dk_at dksX4_init_1 7 rfl rfl)
theorem dX4_init_32 : decode cX4_init 32 = .ok (.putfield 19, 3) := dk_181 0 19 (dk_at dksX4_init_1 9 rfl rfl)
theorem dX4_init_35 : decode cX4_init 35 = .ok (.aload_n 0, 1) := dk_42 (dk_at dksX4_init_1 12 rfl rfl)
theorem dX4_init_36 : decode cX4_init 36 = .ok (.bipush 32, 2) := dk_16 32 (dk_at dksX4_init_1 13 rfl rfl)
theorem dX4_init_38 : decode cX4_init 38 = .ok (.newarray .int, 2) := dk_188_10 (dk_at dksX4_init_1 15 rfl rfl)
theorem dX4_init_40 : decode cX4_init 40 = .ok (.putfield 22, 3) := dk_181 0 22 (dk_at dksX4_init_1 17 rfl rfl)
theorem dX4_init_43 : decode cX4_init 43 = .ok (.aload_n 0, 1) := dk_42 (dk_at dksX4_init_1 20 rfl rfl)
theorem dX4_init_44 : decode cX4_init 44 = .ok (.iconst 4, 1) := dk_7 (dk_at dksX4_init_1 21 rfl rfl)
theorem dX4_init_45 : decode cX4_init 45 = .ok (.newarray .int, 2) := dk_188_10 (dk_at dksX4_init_1 22 rfl rfl)
theorem dX4_init_47 : decode cX4_init 47 = .ok (.putfield 25, 3) := dk_181 0 25 (dk_at dksX4_init_2 0 rfl rfl)
theorem dX4_init_50 : decode cX4_init 50 = .ok (.aload_n 0, 1) := dk_42 (dk_at dksX4_init_2 3 rfl rfl)
theorem dX4_init_51 : decode cX4_init 51 = .ok (.bipush 80, 2) := dk_16 80 (dk_at dksX4_init_2 4 rfl rfl)
theorem dX4_init_53 : decode cX4_init 53 = .ok (.newarray .int, 2) := dk_188_10 (dk_at dksX4_init_2 6 rfl rfl)
theorem dX4_init_55 : decode cX4_init 55 = .ok (.putfield 28, 3) := dk_181 0 28 (dk_at dksX4_init_2 8 rfl rfl)
theorem dX4_init_58 : decode cX4_init 58 = .ok (.aload_n 0, 1) := dk_42 (dk_at dksX4_init_2 11 rfl rfl)
theorem dX4_init_59 : decode cX4_init 59 = .ok (.bipush 80, 2) := dk_16 80 (dk_at dksX4_init_2 12 rfl rfl)
theorem dX4_init_61 : decode cX4_init 61 = .ok (.newarray .int, 2) := dk_188_10 (dk_at dksX4_init_2 14 rfl rfl)
theorem dX4_init_63 : decode cX4_init 63 = .ok (.putfield 31, 3) := dk_181 0 31 (dk_at dksX4_init_2 16 rfl rfl)
theorem dX4_init_66 : decode cX4_init 66 = .ok (.aload_n 0, 1) := dk_42 (dk_at dksX4_init_2 19 rfl rfl)
theorem dX4_init_67 : decode cX4_init 67 = .ok (.bipush 80, 2) := dk_16 80 (dk_at dksX4_init_2 20 rfl rfl)
theorem dX4_init_69 : decode cX4_init 69 = .ok (.newarray .int, 2) := dk_188_10 (dk_at dksX4_init_2 22 rfl rfl)
theorem dX4_init_71 : decode cX4_init 71 = .ok (.putfield 34, 3) := dk_181 0 34 (dk_at dksX4_init_3 0 rfl rfl)
theorem dX4_init_74 : decode cX4_init 74 = .ok (.aload_n 0, 1) := dk_42 (dk_at dksX4_init_3 3 rfl rfl)
theorem dX4_init_75 : decode cX4_init 75 = .ok (.bipush 80, 2) := dk_16 80 (dk_at dksX4_init_3 4 rfl rfl)
theorem dX4_init_77 : decode cX4_init 77 = .ok (.newarray .int, 2) := dk_188_10 (dk_at dksX4_init_3 6 rfl rfl)
theorem dX4_init_79 : decode cX4_init 79 = .ok (.putfield 37, 3) := dk_181 0 37 (dk_at dksX4_init_3 8 rfl rfl)
theorem dX4_init_82 : decode cX4_init 82 = .ok (.aload_n 0, 1) := dk_42 (dk_at dksX4_init_3 11 rfl rfl)
theorem dX4_init_83 : decode cX4_init 83 = .ok (.bipush (-2), 2) := dk_16 254 (dk_at dksX4_init_3 12 rfl rfl)
theorem dX4_init_85 : decode cX4_init 85 = .ok (.putfield 40, 3) := dk_181 0 40 (dk_at dksX4_init_3 14 rfl rfl)
theorem dX4_init_88 : decode cX4_init 88 = .ok (.aload_n 0, 1) := dk_42 (dk_at dksX4_init_3 17 rfl rfl)
theorem dX4_init_89 : decode cX4_init 89 = .ok (.bipush 12, 2) := dk_16 12 (dk_at dksX4_init_3 18 rfl rfl)
theorem dX4_init_91 : decode cX4_init 91 = .ok (.newarray .int, 2) := dk_188_10 (dk_at dksX4_init_3 20 rfl rfl)
theorem dX4_init_93 : decode cX4_init 93 = .ok (.putfield 44, 3) := dk_181 0 44 (dk_at dksX4_init_4 0 rfl rfl)
theorem dX4_init_96 : decode cX4_init 96 = .ok (.aload_n 0, 1) := dk_42 (dk_at dksX4_init_4 3 rfl rfl)
theorem dX4_init_97 : decode cX4_init 97 = .ok (.bipush 16, 2) := dk_16 16 (dk_at dksX4_init_4 4 rfl rfl)
theorem dX4_init_99 : decode cX4_init 99 = .ok (.newarray .long, 2) := dk_188_11 (dk_at dksX4_init_4 6 rfl rfl)
theorem dX4_init_101 : decode cX4_init 101 = .ok (.putfield 47, 3) := dk_181 0 47 (dk_at dksX4_init_4 8 rfl rfl)
theorem dX4_init_104 : decode cX4_init 104 = .ok (.aload_n 0, 1) := dk_42 (dk_at dksX4_init_4 11 rfl rfl)
theorem dX4_init_105 : decode cX4_init 105 = .ok (.bipush 16, 2) := dk_16 16 (dk_at dksX4_init_4 12 rfl rfl)
theorem dX4_init_107 : decode cX4_init 107 = .ok (.newarray .long, 2) := dk_188_11 (dk_at dksX4_init_4 14 rfl rfl)
theorem dX4_init_109 : decode cX4_init 109 = .ok (.putfield 51, 3) := dk_181 0 51 (dk_at dksX4_init_4 16 rfl rfl)
theorem dX4_init_112 : decode cX4_init 112 = .ok (.aload_n 0, 1) := dk_42 (dk_at dksX4_init_4 19 rfl rfl)
theorem dX4_init_113 : decode cX4_init 113 = .ok (.bipush 16, 2) := dk_16 16 (dk_at dksX4_init_4 20 rfl rfl)
theorem dX4_init_115 : decode cX4_init 115 = .ok (.newarray .long, 2) := dk_188_11 (dk_at dksX4_init_4 22 rfl rfl)
theorem dX4_init_117 : decode cX4_init 117 = .ok (.putfield 54, 3) := dk_181 0 54 (dk_at dksX4_init_5 0 rfl rfl)
theorem dX4_init_120 : decode cX4_init 120 = .ok (.aload_n 0, 1) := dk_42 (dk_at dksX4_init_5 3 rfl rfl)
theorem dX4_init_121 : decode cX4_init 121 = .ok (.bipush 24, 2) := dk_16 24 (dk_at dksX4_init_5 4 rfl rfl)
theorem dX4_init_123 : decode cX4_init 123 = .ok (.newarray .long, 2) := dk_188_11 (dk_at dksX4_init_5 6 rfl rfl)
theorem dX4_init_125 : decode cX4_init 125 = .ok (.putfield 57, 3) := dk_181 0 57 (dk_at dksX4_init_5 8 rfl rfl)
theorem dX4_init_128 : decode cX4_init 128 = .ok (.aload_n 0, 1) := dk_42 (dk_at dksX4_init_5 11 rfl rfl)
theorem dX4_init_129 : decode cX4_init 129 = .ok (.bipush 16, 2) := dk_16 16 (dk_at dksX4_init_5 12 rfl rfl)
theorem dX4_init_131 : decode cX4_init 131 = .ok (.newarray .long, 2) := dk_188_11 (dk_at dksX4_init_5 14 rfl rfl)
theorem dX4_init_133 : decode cX4_init 133 = .ok (.putfield 60, 3) := dk_181 0 60 (dk_at dksX4_init_5 16 rfl rfl)
theorem dX4_init_136 : decode cX4_init 136 = .ok (.aload_n 0, 1) := dk_42 (dk_at dksX4_init_5 19 rfl rfl)
theorem dX4_init_137 : decode cX4_init 137 = .ok (.bipush 8, 2) := dk_16 8 (dk_at dksX4_init_5 20 rfl rfl)
theorem dX4_init_139 : decode cX4_init 139 = .ok (.newarray .long, 2) := dk_188_11 (dk_at dksX4_init_5 22 rfl rfl)
theorem dX4_init_141 : decode cX4_init 141 = .ok (.putfield 63, 3) := dk_181 0 63 (dk_at dksX4_init_6 0 rfl rfl)
theorem dX4_init_144 : decode cX4_init 144 = .ok (.aload_n 0, 1) := dk_42 (dk_at dksX4_init_6 3 rfl rfl)
theorem dX4_init_145 : decode cX4_init 145 = .ok (.bipush 8, 2) := dk_16 8 (dk_at dksX4_init_6 4 rfl rfl)
theorem dX4_init_147 : decode cX4_init 147 = .ok (.newarray .long, 2) := dk_188_11 (dk_at dksX4_init_6 6 rfl rfl)
theorem dX4_init_149 : decode cX4_init 149 = .ok (.putfield 66, 3) := dk_181 0 66 (dk_at dksX4_init_6 8 rfl rfl)
theorem dX4_init_152 : decode cX4_init 152 = .ok (.aload_n 0, 1) := dk_42 (dk_at dksX4_init_6 11 rfl rfl)
theorem dX4_init_153 : decode cX4_init 153 = .ok (.bipush 16, 2) := dk_16 16 (dk_at dksX4_init_6 12 rfl rfl)
theorem dX4_init_155 : decode cX4_init 155 = .ok (.newarray .boolean, 2) := dk_188_4 (dk_at dksX4_init_6 14 rfl rfl)
theorem dX4_init_157 : decode cX4_init 157 = .ok (.putfield 69, 3) := dk_181 0 69 (dk_at dksX4_init_6 16 rfl rfl)
theorem dX4_init_160 : decode cX4_init 160 = .ok (.aload_n 0, 1) := dk_42 (dk_at dksX4_init_6 19 rfl rfl)
theorem dX4_init_161 : decode cX4_init 161 = .ok (.bipush 6, 2) := dk_16 6 (dk_at dksX4_init_6 20 rfl rfl)
theorem dX4_init_163 : decode cX4_init 163 = .ok (.newarray .int, 2) := dk_188_10 (dk_at dksX4_init_6 22 rfl rfl)
theorem dX4_init_165 : decode cX4_init 165 = .ok (.putfield 73, 3) := dk_181 0 73 (dk_at dksX4_init_7 0 rfl rfl)
theorem dX4_init_168 : decode cX4_init 168 = .ok (.aload_n 0, 1) := dk_42 (dk_at dksX4_init_7 3 rfl rfl)
theorem dX4_init_169 : decode cX4_init 169 = .ok (.bipush 6, 2) := dk_16 6 (dk_at dksX4_init_7 4 rfl rfl)
theorem dX4_init_171 : decode cX4_init 171 = .ok (.newarray .int, 2) := dk_188_10 (dk_at dksX4_init_7 6 rfl rfl)
theorem dX4_init_173 : decode cX4_init 173 = .ok (.putfield 76, 3) := dk_181 0 76 (dk_at dksX4_init_7 8 rfl rfl)
theorem dX4_init_176 : decode cX4_init 176 = .ok (.aload_n 0, 1) := dk_42 (dk_at dksX4_init_7 11 rfl rfl)
theorem dX4_init_177 : decode cX4_init 177 = .ok (.sipush 384, 3) := dk_17 1 128 (dk_at dksX4_init_7 12 rfl rfl)
theorem dX4_init_180 : decode cX4_init 180 = .ok (.newarray .long, 2) := dk_188_11 (dk_at dksX4_init_7 15 rfl rfl)
theorem dX4_init_182 : decode cX4_init 182 = .ok (.putfield 79, 3) := dk_181 0 79 (dk_at dksX4_init_7 17 rfl rfl)
theorem dX4_init_185 : decode cX4_init 185 = .ok (.aload_n 0, 1) := dk_42 (dk_at dksX4_init_7 20 rfl rfl)
theorem dX4_init_186 : decode cX4_init 186 = .ok (.bipush 6, 2) := dk_16 6 (dk_at dksX4_init_7 21 rfl rfl)
theorem dX4_init_188 : decode cX4_init 188 = .ok (.newarray .int, 2) := dk_188_10 (dk_at dksX4_init_8 0 rfl rfl)
theorem dX4_init_190 : decode cX4_init 190 = .ok (.putfield 82, 3) := dk_181 0 82 (dk_at dksX4_init_8 2 rfl rfl)
theorem dX4_init_193 : decode cX4_init 193 = .ok (.aload_n 0, 1) := dk_42 (dk_at dksX4_init_8 5 rfl rfl)
theorem dX4_init_194 : decode cX4_init 194 = .ok (.bipush 6, 2) := dk_16 6 (dk_at dksX4_init_8 6 rfl rfl)
theorem dX4_init_196 : decode cX4_init 196 = .ok (.newarray .int, 2) := dk_188_10 (dk_at dksX4_init_8 8 rfl rfl)
theorem dX4_init_198 : decode cX4_init 198 = .ok (.putfield 85, 3) := dk_181 0 85 (dk_at dksX4_init_8 10 rfl rfl)
theorem dX4_init_201 : decode cX4_init 201 = .ok (.aload_n 0, 1) := dk_42 (dk_at dksX4_init_8 13 rfl rfl)
theorem dX4_init_202 : decode cX4_init 202 = .ok (.bipush 48, 2) := dk_16 48 (dk_at dksX4_init_8 14 rfl rfl)
theorem dX4_init_204 : decode cX4_init 204 = .ok (.newarray .long, 2) := dk_188_11 (dk_at dksX4_init_8 16 rfl rfl)
theorem dX4_init_206 : decode cX4_init 206 = .ok (.putfield 88, 3) := dk_181 0 88 (dk_at dksX4_init_8 18 rfl rfl)
theorem dX4_init_209 : decode cX4_init 209 = .ok (.aload_n 0, 1) := dk_42 (dk_at dksX4_init_8 21 rfl rfl)
theorem dX4_init_210 : decode cX4_init 210 = .ok (.bipush 24, 2) := dk_16 24 (dk_at dksX4_init_8 22 rfl rfl)
theorem dX4_init_212 : decode cX4_init 212 = .ok (.newarray .long, 2) := dk_188_11 (dk_at dksX4_init_9 0 rfl rfl)
theorem dX4_init_214 : decode cX4_init 214 = .ok (.putfield 91, 3) := dk_181 0 91 (dk_at dksX4_init_9 2 rfl rfl)
theorem dX4_init_217 : decode cX4_init 217 = .ok (.aload_n 0, 1) := dk_42 (dk_at dksX4_init_9 5 rfl rfl)
theorem dX4_init_218 : decode cX4_init 218 = .ok (.bipush 24, 2) := dk_16 24 (dk_at dksX4_init_9 6 rfl rfl)
theorem dX4_init_220 : decode cX4_init 220 = .ok (.newarray .long, 2) := dk_188_11 (dk_at dksX4_init_9 8 rfl rfl)
theorem dX4_init_222 : decode cX4_init 222 = .ok (.putfield 94, 3) := dk_181 0 94 (dk_at dksX4_init_9 10 rfl rfl)
theorem dX4_init_225 : decode cX4_init 225 = .ok (.aload_n 0, 1) := dk_42 (dk_at dksX4_init_9 13 rfl rfl)
theorem dX4_init_226 : decode cX4_init 226 = .ok (.bipush 8, 2) := dk_16 8 (dk_at dksX4_init_9 14 rfl rfl)
theorem dX4_init_228 : decode cX4_init 228 = .ok (.newarray .long, 2) := dk_188_11 (dk_at dksX4_init_9 16 rfl rfl)
theorem dX4_init_230 : decode cX4_init 230 = .ok (.putfield 97, 3) := dk_181 0 97 (dk_at dksX4_init_9 18 rfl rfl)
theorem dX4_init_233 : decode cX4_init 233 = .ok (.aload_n 0, 1) := dk_42 (dk_at dksX4_init_9 21 rfl rfl)
theorem dX4_init_234 : decode cX4_init 234 = .ok (.bipush 8, 2) := dk_16 8 (dk_at dksX4_init_9 22 rfl rfl)
theorem dX4_init_236 : decode cX4_init 236 = .ok (.newarray .long, 2) := dk_188_11 (dk_at dksX4_init_10 0 rfl rfl)
theorem dX4_init_238 : decode cX4_init 238 = .ok (.putfield 100, 3) := dk_181 0 100 (dk_at dksX4_init_10 2 rfl rfl)
theorem dX4_init_241 : decode cX4_init 241 = .ok (.aload_n 0, 1) := dk_42 (dk_at dksX4_init_10 5 rfl rfl)
theorem dX4_init_242 : decode cX4_init 242 = .ok (.bipush 8, 2) := dk_16 8 (dk_at dksX4_init_10 6 rfl rfl)
theorem dX4_init_244 : decode cX4_init 244 = .ok (.newarray .double, 2) := dk_188_7 (dk_at dksX4_init_10 8 rfl rfl)
theorem dX4_init_246 : decode cX4_init 246 = .ok (.putfield 103, 3) := dk_181 0 103 (dk_at dksX4_init_10 10 rfl rfl)
theorem dX4_init_249 : decode cX4_init 249 = .ok (.aload_n 0, 1) := dk_42 (dk_at dksX4_init_10 13 rfl rfl)
theorem dX4_init_250 : decode cX4_init 250 = .ok (.bipush 8, 2) := dk_16 8 (dk_at dksX4_init_10 14 rfl rfl)
theorem dX4_init_252 : decode cX4_init 252 = .ok (.newarray .double, 2) := dk_188_7 (dk_at dksX4_init_10 16 rfl rfl)
theorem dX4_init_254 : decode cX4_init 254 = .ok (.putfield 107, 3) := dk_181 0 107 (dk_at dksX4_init_10 18 rfl rfl)
theorem dX4_init_257 : decode cX4_init 257 = .ok (.aload_n 0, 1) := dk_42 (dk_at dksX4_init_10 21 rfl rfl)
theorem dX4_init_258 : decode cX4_init 258 = .ok (.bipush 6, 2) := dk_16 6 (dk_at dksX4_init_10 22 rfl rfl)
theorem dX4_init_260 : decode cX4_init 260 = .ok (.newarray .int, 2) := dk_188_10 (dk_at dksX4_init_11 0 rfl rfl)
theorem dX4_init_262 : decode cX4_init 262 = .ok (.putfield 110, 3) := dk_181 0 110 (dk_at dksX4_init_11 2 rfl rfl)
theorem dX4_init_265 : decode cX4_init 265 = .ok (.aload_n 0, 1) := dk_42 (dk_at dksX4_init_11 5 rfl rfl)
theorem dX4_init_266 : decode cX4_init 266 = .ok (.bipush 12, 2) := dk_16 12 (dk_at dksX4_init_11 6 rfl rfl)
theorem dX4_init_268 : decode cX4_init 268 = .ok (.newarray .long, 2) := dk_188_11 (dk_at dksX4_init_11 8 rfl rfl)
theorem dX4_init_270 : decode cX4_init 270 = .ok (.putfield 113, 3) := dk_181 0 113 (dk_at dksX4_init_11 10 rfl rfl)
theorem dX4_init_273 : decode cX4_init 273 = .ok (.aload_n 0, 1) := dk_42 (dk_at dksX4_init_11 13 rfl rfl)
theorem dX4_init_274 : decode cX4_init 274 = .ok (.sipush 200, 3) := dk_17 0 200 (dk_at dksX4_init_11 14 rfl rfl)
theorem dX4_init_277 : decode cX4_init 277 = .ok (.newarray .long, 2) := dk_188_11 (dk_at dksX4_init_11 17 rfl rfl)
theorem dX4_init_279 : decode cX4_init 279 = .ok (.putfield 116, 3) := dk_181 0 116 (dk_at dksX4_init_11 19 rfl rfl)
theorem dX4_init_282 : decode cX4_init 282 = .ok (.aload_n 0, 1) := dk_42 (dk_at dksX4_init_11 22 rfl rfl)
theorem dX4_init_283 : decode cX4_init 283 = .ok (.sipush 200, 3) := dk_17 0 200 (dk_at dksX4_init_12 0 rfl rfl)
theorem dX4_init_286 : decode cX4_init 286 = .ok (.newarray .long, 2) := dk_188_11 (dk_at dksX4_init_12 3 rfl rfl)
theorem dX4_init_288 : decode cX4_init 288 = .ok (.putfield 119, 3) := dk_181 0 119 (dk_at dksX4_init_12 5 rfl rfl)
theorem dX4_init_291 : decode cX4_init 291 = .ok (.aload_n 0, 1) := dk_42 (dk_at dksX4_init_12 8 rfl rfl)
theorem dX4_init_292 : decode cX4_init 292 = .ok (.sipush 200, 3) := dk_17 0 200 (dk_at dksX4_init_12 9 rfl rfl)
theorem dX4_init_295 : decode cX4_init 295 = .ok (.newarray .boolean, 2) := dk_188_4 (dk_at dksX4_init_12 12 rfl rfl)
theorem dX4_init_297 : decode cX4_init 297 = .ok (.putfield 122, 3) := dk_181 0 122 (dk_at dksX4_init_12 14 rfl rfl)
theorem dX4_init_300 : decode cX4_init 300 = .ok (.aload_n 0, 1) := dk_42 (dk_at dksX4_init_12 17 rfl rfl)
theorem dX4_init_301 : decode cX4_init 301 = .ok (.bipush 64, 2) := dk_16 64 (dk_at dksX4_init_12 18 rfl rfl)
theorem dX4_init_303 : decode cX4_init 303 = .ok (.newarray .long, 2) := dk_188_11 (dk_at dksX4_init_12 20 rfl rfl)
theorem dX4_init_305 : decode cX4_init 305 = .ok (.putfield 125, 3) := dk_181 0 125 (dk_at dksX4_init_13 0 rfl rfl)
theorem dX4_init_308 : decode cX4_init 308 = .ok (.aload_n 0, 1) := dk_42 (dk_at dksX4_init_13 3 rfl rfl)
theorem dX4_init_309 : decode cX4_init 309 = .ok (.invokevirtual 128, 3) := dk_182 0 128 (dk_at dksX4_init_13 4 rfl rfl)
theorem dX4_init_312 : decode cX4_init 312 = .ok (.return_, 1) := dk_177 (dk_at dksX4_init_13 7 rfl rfl)
abbrev cX4_resets : ByteArray := prog_23_method_5_code
def yX4_resets : MethodName := ⟨RX4, "resets", "()V"⟩
def dkwX4_resets_6 : List UInt8 := [132, 1, 1, 167, 255, 240, 177]
abbrev dktX4_resets_6 : List UInt8 := dkwX4_resets_6 ++ []
def dkwX4_resets_5 : List UInt8 := [42, 3, 181, 0, 146, 42, 182, 0, 149, 3, 60, 27, 16, 12, 162, 0, 16, 42, 180, 0, 57, 27, 9, 80]
abbrev dktX4_resets_5 : List UInt8 := dkwX4_resets_5 ++ dktX4_resets_6
def dkwX4_resets_4 : List UInt8 := [181, 0, 137, 42, 3, 181, 0, 140, 42, 3, 181, 0, 143, 42, 16, 254, 181, 0, 40, 42, 3, 181, 0, 134]
abbrev dktX4_resets_4 : List UInt8 := dkwX4_resets_4 ++ dktX4_resets_5
def dkwX4_resets_3 : List UInt8 := [3, 60, 27, 16, 8, 162, 0, 16, 42, 180, 0, 60, 27, 9, 80, 132, 1, 1, 167, 255, 240, 42, 3]
abbrev dktX4_resets_3 : List UInt8 := dkwX4_resets_3 ++ dktX4_resets_4
def dkwX4_resets_2 : List UInt8 := [16, 8, 27, 104, 4, 79, 42, 180, 0, 22, 16, 8, 27, 104, 4, 96, 4, 79, 132, 1, 1, 167, 255, 219]
abbrev dktX4_resets_2 : List UInt8 := dkwX4_resets_2 ++ dktX4_resets_3
def dkwX4_resets_1 : List UInt8 := [132, 1, 1, 167, 255, 233, 3, 60, 27, 7, 162, 0, 38, 42, 180, 0, 19, 27, 5, 79, 42, 180, 0, 22]
abbrev dktX4_resets_1 : List UInt8 := dkwX4_resets_1 ++ dktX4_resets_2
def dkwX4_resets_0 : List UInt8 := [3, 60, 27, 16, 8, 162, 0, 23, 42, 180, 0, 7, 27, 3, 79, 42, 180, 0, 13, 27, 4, 79]
abbrev dktX4_resets_0 : List UInt8 := dkwX4_resets_0 ++ dktX4_resets_1
theorem dksX4_resets_0 : cX4_resets.data.toList.drop 0 = dktX4_resets_0 := by decide +kernel
theorem dksX4_resets_1 : cX4_resets.data.toList.drop 22 = dktX4_resets_1 := dk_seg dksX4_resets_0 22 rfl rfl
theorem dksX4_resets_2 : cX4_resets.data.toList.drop 46 = dktX4_resets_2 := dk_seg dksX4_resets_1 24 rfl rfl
theorem dksX4_resets_3 : cX4_resets.data.toList.drop 70 = dktX4_resets_3 := dk_seg dksX4_resets_2 24 rfl rfl
theorem dksX4_resets_4 : cX4_resets.data.toList.drop 93 = dktX4_resets_4 := dk_seg dksX4_resets_3 23 rfl rfl
theorem dksX4_resets_5 : cX4_resets.data.toList.drop 117 = dktX4_resets_5 := dk_seg dksX4_resets_4 24 rfl rfl
theorem dksX4_resets_6 : cX4_resets.data.toList.drop 141 = dktX4_resets_6 := dk_seg dksX4_resets_5 24 rfl rfl
theorem dX4_resets_0 : decode cX4_resets 0 = .ok (.iconst 0, 1) := dk_3 (dk_at dksX4_resets_0 0 rfl rfl)
theorem dX4_resets_1 : decode cX4_resets 1 = .ok (.istore_n 1, 1) := dk_60 (dk_at dksX4_resets_0 1 rfl rfl)
theorem dX4_resets_2 : decode cX4_resets 2 = .ok (.iload_n 1, 1) := dk_27 (dk_at dksX4_resets_0 2 rfl rfl)
theorem dX4_resets_3 : decode cX4_resets 3 = .ok (.bipush 8, 2) := dk_16 8 (dk_at dksX4_resets_0 3 rfl rfl)
theorem dX4_resets_5 : decode cX4_resets 5 = .ok (.if_icmp .ge 23, 3) := dk_162 0 23 (dk_at dksX4_resets_0 5 rfl rfl)
theorem dX4_resets_8 : decode cX4_resets 8 = .ok (.aload_n 0, 1) := dk_42 (dk_at dksX4_resets_0 8 rfl rfl)
theorem dX4_resets_9 : decode cX4_resets 9 = .ok (.getfield 7, 3) := dk_180 0 7 (dk_at dksX4_resets_0 9 rfl rfl)
theorem dX4_resets_12 : decode cX4_resets 12 = .ok (.iload_n 1, 1) := dk_27 (dk_at dksX4_resets_0 12 rfl rfl)
theorem dX4_resets_13 : decode cX4_resets 13 = .ok (.iconst 0, 1) := dk_3 (dk_at dksX4_resets_0 13 rfl rfl)
theorem dX4_resets_14 : decode cX4_resets 14 = .ok (.iastore, 1) := dk_79 (dk_at dksX4_resets_0 14 rfl rfl)
theorem dX4_resets_15 : decode cX4_resets 15 = .ok (.aload_n 0, 1) := dk_42 (dk_at dksX4_resets_0 15 rfl rfl)
theorem dX4_resets_16 : decode cX4_resets 16 = .ok (.getfield 13, 3) := dk_180 0 13 (dk_at dksX4_resets_0 16 rfl rfl)
theorem dX4_resets_19 : decode cX4_resets 19 = .ok (.iload_n 1, 1) := dk_27 (dk_at dksX4_resets_0 19 rfl rfl)
theorem dX4_resets_20 : decode cX4_resets 20 = .ok (.iconst 1, 1) := dk_4 (dk_at dksX4_resets_0 20 rfl rfl)
theorem dX4_resets_21 : decode cX4_resets 21 = .ok (.iastore, 1) := dk_79 (dk_at dksX4_resets_0 21 rfl rfl)
theorem dX4_resets_22 : decode cX4_resets 22 = .ok (.iinc 1 1, 3) := dk_132 1 1 (dk_at dksX4_resets_1 0 rfl rfl)
theorem dX4_resets_25 : decode cX4_resets 25 = .ok (.goto (-23), 3) := dk_167 255 233 (dk_at dksX4_resets_1 3 rfl rfl)
theorem dX4_resets_28 : decode cX4_resets 28 = .ok (.iconst 0, 1) := dk_3 (dk_at dksX4_resets_1 6 rfl rfl)
theorem dX4_resets_29 : decode cX4_resets 29 = .ok (.istore_n 1, 1) := dk_60 (dk_at dksX4_resets_1 7 rfl rfl)
theorem dX4_resets_30 : decode cX4_resets 30 = .ok (.iload_n 1, 1) := dk_27 (dk_at dksX4_resets_1 8 rfl rfl)
theorem dX4_resets_31 : decode cX4_resets 31 = .ok (.iconst 4, 1) := dk_7 (dk_at dksX4_resets_1 9 rfl rfl)
theorem dX4_resets_32 : decode cX4_resets 32 = .ok (.if_icmp .ge 38, 3) := dk_162 0 38 (dk_at dksX4_resets_1 10 rfl rfl)
theorem dX4_resets_35 : decode cX4_resets 35 = .ok (.aload_n 0, 1) := dk_42 (dk_at dksX4_resets_1 13 rfl rfl)
theorem dX4_resets_36 : decode cX4_resets 36 = .ok (.getfield 19, 3) := dk_180 0 19 (dk_at dksX4_resets_1 14 rfl rfl)
theorem dX4_resets_39 : decode cX4_resets 39 = .ok (.iload_n 1, 1) := dk_27 (dk_at dksX4_resets_1 17 rfl rfl)
theorem dX4_resets_40 : decode cX4_resets 40 = .ok (.iconst 2, 1) := dk_5 (dk_at dksX4_resets_1 18 rfl rfl)
theorem dX4_resets_41 : decode cX4_resets 41 = .ok (.iastore, 1) := dk_79 (dk_at dksX4_resets_1 19 rfl rfl)
theorem dX4_resets_42 : decode cX4_resets 42 = .ok (.aload_n 0, 1) := dk_42 (dk_at dksX4_resets_1 20 rfl rfl)
theorem dX4_resets_43 : decode cX4_resets 43 = .ok (.getfield 22, 3) := dk_180 0 22 (dk_at dksX4_resets_1 21 rfl rfl)
theorem dX4_resets_46 : decode cX4_resets 46 = .ok (.bipush 8, 2) := dk_16 8 (dk_at dksX4_resets_2 0 rfl rfl)
theorem dX4_resets_48 : decode cX4_resets 48 = .ok (.iload_n 1, 1) := dk_27 (dk_at dksX4_resets_2 2 rfl rfl)
theorem dX4_resets_49 : decode cX4_resets 49 = .ok (.imul, 1) := dk_104 (dk_at dksX4_resets_2 3 rfl rfl)
theorem dX4_resets_50 : decode cX4_resets 50 = .ok (.iconst 1, 1) := dk_4 (dk_at dksX4_resets_2 4 rfl rfl)
theorem dX4_resets_51 : decode cX4_resets 51 = .ok (.iastore, 1) := dk_79 (dk_at dksX4_resets_2 5 rfl rfl)
theorem dX4_resets_52 : decode cX4_resets 52 = .ok (.aload_n 0, 1) := dk_42 (dk_at dksX4_resets_2 6 rfl rfl)
theorem dX4_resets_53 : decode cX4_resets 53 = .ok (.getfield 22, 3) := dk_180 0 22 (dk_at dksX4_resets_2 7 rfl rfl)
theorem dX4_resets_56 : decode cX4_resets 56 = .ok (.bipush 8, 2) := dk_16 8 (dk_at dksX4_resets_2 10 rfl rfl)
theorem dX4_resets_58 : decode cX4_resets 58 = .ok (.iload_n 1, 1) := dk_27 (dk_at dksX4_resets_2 12 rfl rfl)
theorem dX4_resets_59 : decode cX4_resets 59 = .ok (.imul, 1) := dk_104 (dk_at dksX4_resets_2 13 rfl rfl)
theorem dX4_resets_60 : decode cX4_resets 60 = .ok (.iconst 1, 1) := dk_4 (dk_at dksX4_resets_2 14 rfl rfl)
theorem dX4_resets_61 : decode cX4_resets 61 = .ok (.iadd, 1) := dk_96 (dk_at dksX4_resets_2 15 rfl rfl)
theorem dX4_resets_62 : decode cX4_resets 62 = .ok (.iconst 1, 1) := dk_4 (dk_at dksX4_resets_2 16 rfl rfl)
theorem dX4_resets_63 : decode cX4_resets 63 = .ok (.iastore, 1) := dk_79 (dk_at dksX4_resets_2 17 rfl rfl)
theorem dX4_resets_64 : decode cX4_resets 64 = .ok (.iinc 1 1, 3) := dk_132 1 1 (dk_at dksX4_resets_2 18 rfl rfl)
theorem dX4_resets_67 : decode cX4_resets 67 = .ok (.goto (-37), 3) := dk_167 255 219 (dk_at dksX4_resets_2 21 rfl rfl)
theorem dX4_resets_70 : decode cX4_resets 70 = .ok (.iconst 0, 1) := dk_3 (dk_at dksX4_resets_3 0 rfl rfl)
theorem dX4_resets_71 : decode cX4_resets 71 = .ok (.istore_n 1, 1) := dk_60 (dk_at dksX4_resets_3 1 rfl rfl)
theorem dX4_resets_72 : decode cX4_resets 72 = .ok (.iload_n 1, 1) := dk_27 (dk_at dksX4_resets_3 2 rfl rfl)
theorem dX4_resets_73 : decode cX4_resets 73 = .ok (.bipush 8, 2) := dk_16 8 (dk_at dksX4_resets_3 3 rfl rfl)
theorem dX4_resets_75 : decode cX4_resets 75 = .ok (.if_icmp .ge 16, 3) := dk_162 0 16 (dk_at dksX4_resets_3 5 rfl rfl)
theorem dX4_resets_78 : decode cX4_resets 78 = .ok (.aload_n 0, 1) := dk_42 (dk_at dksX4_resets_3 8 rfl rfl)
theorem dX4_resets_79 : decode cX4_resets 79 = .ok (.getfield 60, 3) := dk_180 0 60 (dk_at dksX4_resets_3 9 rfl rfl)
theorem dX4_resets_82 : decode cX4_resets 82 = .ok (.iload_n 1, 1) := dk_27 (dk_at dksX4_resets_3 12 rfl rfl)
theorem dX4_resets_83 : decode cX4_resets 83 = .ok (.lconst 0, 1) := dk_9 (dk_at dksX4_resets_3 13 rfl rfl)
theorem dX4_resets_84 : decode cX4_resets 84 = .ok (.lastore, 1) := dk_80 (dk_at dksX4_resets_3 14 rfl rfl)
theorem dX4_resets_85 : decode cX4_resets 85 = .ok (.iinc 1 1, 3) := dk_132 1 1 (dk_at dksX4_resets_3 15 rfl rfl)
theorem dX4_resets_88 : decode cX4_resets 88 = .ok (.goto (-16), 3) := dk_167 255 240 (dk_at dksX4_resets_3 18 rfl rfl)
theorem dX4_resets_91 : decode cX4_resets 91 = .ok (.aload_n 0, 1) := dk_42 (dk_at dksX4_resets_3 21 rfl rfl)
theorem dX4_resets_92 : decode cX4_resets 92 = .ok (.iconst 0, 1) := dk_3 (dk_at dksX4_resets_3 22 rfl rfl)
theorem dX4_resets_93 : decode cX4_resets 93 = .ok (.putfield 137, 3) := dk_181 0 137 (dk_at dksX4_resets_4 0 rfl rfl)
theorem dX4_resets_96 : decode cX4_resets 96 = .ok (.aload_n 0, 1) := dk_42 (dk_at dksX4_resets_4 3 rfl rfl)
theorem dX4_resets_97 : decode cX4_resets 97 = .ok (.iconst 0, 1) := dk_3 (dk_at dksX4_resets_4 4 rfl rfl)
theorem dX4_resets_98 : decode cX4_resets 98 = .ok (.putfield 140, 3) := dk_181 0 140 (dk_at dksX4_resets_4 5 rfl rfl)
theorem dX4_resets_101 : decode cX4_resets 101 = .ok (.aload_n 0, 1) := dk_42 (dk_at dksX4_resets_4 8 rfl rfl)
theorem dX4_resets_102 : decode cX4_resets 102 = .ok (.iconst 0, 1) := dk_3 (dk_at dksX4_resets_4 9 rfl rfl)
theorem dX4_resets_103 : decode cX4_resets 103 = .ok (.putfield 143, 3) := dk_181 0 143 (dk_at dksX4_resets_4 10 rfl rfl)
theorem dX4_resets_106 : decode cX4_resets 106 = .ok (.aload_n 0, 1) := dk_42 (dk_at dksX4_resets_4 13 rfl rfl)
theorem dX4_resets_107 : decode cX4_resets 107 = .ok (.bipush (-2), 2) := dk_16 254 (dk_at dksX4_resets_4 14 rfl rfl)
theorem dX4_resets_109 : decode cX4_resets 109 = .ok (.putfield 40, 3) := dk_181 0 40 (dk_at dksX4_resets_4 16 rfl rfl)
theorem dX4_resets_112 : decode cX4_resets 112 = .ok (.aload_n 0, 1) := dk_42 (dk_at dksX4_resets_4 19 rfl rfl)
theorem dX4_resets_113 : decode cX4_resets 113 = .ok (.iconst 0, 1) := dk_3 (dk_at dksX4_resets_4 20 rfl rfl)
theorem dX4_resets_114 : decode cX4_resets 114 = .ok (.putfield 134, 3) := dk_181 0 134 (dk_at dksX4_resets_4 21 rfl rfl)
theorem dX4_resets_117 : decode cX4_resets 117 = .ok (.aload_n 0, 1) := dk_42 (dk_at dksX4_resets_5 0 rfl rfl)
theorem dX4_resets_118 : decode cX4_resets 118 = .ok (.iconst 0, 1) := dk_3 (dk_at dksX4_resets_5 1 rfl rfl)
theorem dX4_resets_119 : decode cX4_resets 119 = .ok (.putfield 146, 3) := dk_181 0 146 (dk_at dksX4_resets_5 2 rfl rfl)
theorem dX4_resets_122 : decode cX4_resets 122 = .ok (.aload_n 0, 1) := dk_42 (dk_at dksX4_resets_5 5 rfl rfl)
theorem dX4_resets_123 : decode cX4_resets 123 = .ok (.invokevirtual 149, 3) := dk_182 0 149 (dk_at dksX4_resets_5 6 rfl rfl)
theorem dX4_resets_126 : decode cX4_resets 126 = .ok (.iconst 0, 1) := dk_3 (dk_at dksX4_resets_5 9 rfl rfl)
theorem dX4_resets_127 : decode cX4_resets 127 = .ok (.istore_n 1, 1) := dk_60 (dk_at dksX4_resets_5 10 rfl rfl)
theorem dX4_resets_128 : decode cX4_resets 128 = .ok (.iload_n 1, 1) := dk_27 (dk_at dksX4_resets_5 11 rfl rfl)
theorem dX4_resets_129 : decode cX4_resets 129 = .ok (.bipush 12, 2) := dk_16 12 (dk_at dksX4_resets_5 12 rfl rfl)
theorem dX4_resets_131 : decode cX4_resets 131 = .ok (.if_icmp .ge 16, 3) := dk_162 0 16 (dk_at dksX4_resets_5 14 rfl rfl)
theorem dX4_resets_134 : decode cX4_resets 134 = .ok (.aload_n 0, 1) := dk_42 (dk_at dksX4_resets_5 17 rfl rfl)
theorem dX4_resets_135 : decode cX4_resets 135 = .ok (.getfield 57, 3) := dk_180 0 57 (dk_at dksX4_resets_5 18 rfl rfl)
theorem dX4_resets_138 : decode cX4_resets 138 = .ok (.iload_n 1, 1) := dk_27 (dk_at dksX4_resets_5 21 rfl rfl)
theorem dX4_resets_139 : decode cX4_resets 139 = .ok (.lconst 0, 1) := dk_9 (dk_at dksX4_resets_5 22 rfl rfl)
theorem dX4_resets_140 : decode cX4_resets 140 = .ok (.lastore, 1) := dk_80 (dk_at dksX4_resets_5 23 rfl rfl)
theorem dX4_resets_141 : decode cX4_resets 141 = .ok (.iinc 1 1, 3) := dk_132 1 1 (dk_at dksX4_resets_6 0 rfl rfl)
theorem dX4_resets_144 : decode cX4_resets 144 = .ok (.goto (-16), 3) := dk_167 255 240 (dk_at dksX4_resets_6 3 rfl rfl)
theorem dX4_resets_147 : decode cX4_resets 147 = .ok (.return_, 1) := dk_177 (dk_at dksX4_resets_6 6 rfl rfl)
abbrev cX4_clears : ByteArray := prog_23_method_6_code
def yX4_clears : MethodName := ⟨RX4, "clears", "()V"⟩
def dkwX4_clears_3 : List UInt8 := [167, 255, 187, 42, 3, 181, 0, 152, 42, 3, 181, 0, 156, 177]
abbrev dktX4_clears_3 : List UInt8 := dkwX4_clears_3 ++ []
def dkwX4_clears_2 : List UInt8 := [104, 27, 96, 3, 84, 42, 180, 0, 54, 16, 8, 42, 180, 0, 146, 104, 27, 96, 9, 80, 132, 1, 1]
abbrev dktX4_clears_2 : List UInt8 := dkwX4_clears_2 ++ dktX4_clears_3
def dkwX4_clears_1 : List UInt8 := [180, 0, 51, 16, 8, 42, 180, 0, 146, 104, 27, 96, 10, 80, 42, 180, 0, 69, 16, 8, 42, 180, 0, 146]
abbrev dktX4_clears_1 : List UInt8 := dkwX4_clears_1 ++ dktX4_clears_2
def dkwX4_clears_0 : List UInt8 := [3, 60, 27, 16, 8, 162, 0, 69, 42, 180, 0, 47, 16, 8, 42, 180, 0, 146, 104, 27, 96, 9, 80, 42]
abbrev dktX4_clears_0 : List UInt8 := dkwX4_clears_0 ++ dktX4_clears_1
theorem dksX4_clears_0 : cX4_clears.data.toList.drop 0 = dktX4_clears_0 := by decide +kernel
theorem dksX4_clears_1 : cX4_clears.data.toList.drop 24 = dktX4_clears_1 := dk_seg dksX4_clears_0 24 rfl rfl
theorem dksX4_clears_2 : cX4_clears.data.toList.drop 48 = dktX4_clears_2 := dk_seg dksX4_clears_1 24 rfl rfl
theorem dksX4_clears_3 : cX4_clears.data.toList.drop 71 = dktX4_clears_3 := dk_seg dksX4_clears_2 23 rfl rfl
theorem dX4_clears_0 : decode cX4_clears 0 = .ok (.iconst 0, 1) := dk_3 (dk_at dksX4_clears_0 0 rfl rfl)
theorem dX4_clears_1 : decode cX4_clears 1 = .ok (.istore_n 1, 1) := dk_60 (dk_at dksX4_clears_0 1 rfl rfl)
theorem dX4_clears_2 : decode cX4_clears 2 = .ok (.iload_n 1, 1) := dk_27 (dk_at dksX4_clears_0 2 rfl rfl)
theorem dX4_clears_3 : decode cX4_clears 3 = .ok (.bipush 8, 2) := dk_16 8 (dk_at dksX4_clears_0 3 rfl rfl)
theorem dX4_clears_5 : decode cX4_clears 5 = .ok (.if_icmp .ge 69, 3) := dk_162 0 69 (dk_at dksX4_clears_0 5 rfl rfl)
theorem dX4_clears_8 : decode cX4_clears 8 = .ok (.aload_n 0, 1) := dk_42 (dk_at dksX4_clears_0 8 rfl rfl)
theorem dX4_clears_9 : decode cX4_clears 9 = .ok (.getfield 47, 3) := dk_180 0 47 (dk_at dksX4_clears_0 9 rfl rfl)
theorem dX4_clears_12 : decode cX4_clears 12 = .ok (.bipush 8, 2) := dk_16 8 (dk_at dksX4_clears_0 12 rfl rfl)
theorem dX4_clears_14 : decode cX4_clears 14 = .ok (.aload_n 0, 1) := dk_42 (dk_at dksX4_clears_0 14 rfl rfl)
theorem dX4_clears_15 : decode cX4_clears 15 = .ok (.getfield 146, 3) := dk_180 0 146 (dk_at dksX4_clears_0 15 rfl rfl)
theorem dX4_clears_18 : decode cX4_clears 18 = .ok (.imul, 1) := dk_104 (dk_at dksX4_clears_0 18 rfl rfl)
theorem dX4_clears_19 : decode cX4_clears 19 = .ok (.iload_n 1, 1) := dk_27 (dk_at dksX4_clears_0 19 rfl rfl)
theorem dX4_clears_20 : decode cX4_clears 20 = .ok (.iadd, 1) := dk_96 (dk_at dksX4_clears_0 20 rfl rfl)
theorem dX4_clears_21 : decode cX4_clears 21 = .ok (.lconst 0, 1) := dk_9 (dk_at dksX4_clears_0 21 rfl rfl)
theorem dX4_clears_22 : decode cX4_clears 22 = .ok (.lastore, 1) := dk_80 (dk_at dksX4_clears_0 22 rfl rfl)
theorem dX4_clears_23 : decode cX4_clears 23 = .ok (.aload_n 0, 1) := dk_42 (dk_at dksX4_clears_0 23 rfl rfl)
theorem dX4_clears_24 : decode cX4_clears 24 = .ok (.getfield 51, 3) := dk_180 0 51 (dk_at dksX4_clears_1 0 rfl rfl)
theorem dX4_clears_27 : decode cX4_clears 27 = .ok (.bipush 8, 2) := dk_16 8 (dk_at dksX4_clears_1 3 rfl rfl)
theorem dX4_clears_29 : decode cX4_clears 29 = .ok (.aload_n 0, 1) := dk_42 (dk_at dksX4_clears_1 5 rfl rfl)
theorem dX4_clears_30 : decode cX4_clears 30 = .ok (.getfield 146, 3) := dk_180 0 146 (dk_at dksX4_clears_1 6 rfl rfl)
theorem dX4_clears_33 : decode cX4_clears 33 = .ok (.imul, 1) := dk_104 (dk_at dksX4_clears_1 9 rfl rfl)
theorem dX4_clears_34 : decode cX4_clears 34 = .ok (.iload_n 1, 1) := dk_27 (dk_at dksX4_clears_1 10 rfl rfl)
theorem dX4_clears_35 : decode cX4_clears 35 = .ok (.iadd, 1) := dk_96 (dk_at dksX4_clears_1 11 rfl rfl)
theorem dX4_clears_36 : decode cX4_clears 36 = .ok (.lconst 1, 1) := dk_10 (dk_at dksX4_clears_1 12 rfl rfl)
theorem dX4_clears_37 : decode cX4_clears 37 = .ok (.lastore, 1) := dk_80 (dk_at dksX4_clears_1 13 rfl rfl)
theorem dX4_clears_38 : decode cX4_clears 38 = .ok (.aload_n 0, 1) := dk_42 (dk_at dksX4_clears_1 14 rfl rfl)
theorem dX4_clears_39 : decode cX4_clears 39 = .ok (.getfield 69, 3) := dk_180 0 69 (dk_at dksX4_clears_1 15 rfl rfl)
theorem dX4_clears_42 : decode cX4_clears 42 = .ok (.bipush 8, 2) := dk_16 8 (dk_at dksX4_clears_1 18 rfl rfl)
theorem dX4_clears_44 : decode cX4_clears 44 = .ok (.aload_n 0, 1) := dk_42 (dk_at dksX4_clears_1 20 rfl rfl)
theorem dX4_clears_45 : decode cX4_clears 45 = .ok (.getfield 146, 3) := dk_180 0 146 (dk_at dksX4_clears_1 21 rfl rfl)
theorem dX4_clears_48 : decode cX4_clears 48 = .ok (.imul, 1) := dk_104 (dk_at dksX4_clears_2 0 rfl rfl)
theorem dX4_clears_49 : decode cX4_clears 49 = .ok (.iload_n 1, 1) := dk_27 (dk_at dksX4_clears_2 1 rfl rfl)
theorem dX4_clears_50 : decode cX4_clears 50 = .ok (.iadd, 1) := dk_96 (dk_at dksX4_clears_2 2 rfl rfl)
theorem dX4_clears_51 : decode cX4_clears 51 = .ok (.iconst 0, 1) := dk_3 (dk_at dksX4_clears_2 3 rfl rfl)
theorem dX4_clears_52 : decode cX4_clears 52 = .ok (.bastore, 1) := dk_84 (dk_at dksX4_clears_2 4 rfl rfl)
theorem dX4_clears_53 : decode cX4_clears 53 = .ok (.aload_n 0, 1) := dk_42 (dk_at dksX4_clears_2 5 rfl rfl)
theorem dX4_clears_54 : decode cX4_clears 54 = .ok (.getfield 54, 3) := dk_180 0 54 (dk_at dksX4_clears_2 6 rfl rfl)
theorem dX4_clears_57 : decode cX4_clears 57 = .ok (.bipush 8, 2) := dk_16 8 (dk_at dksX4_clears_2 9 rfl rfl)
theorem dX4_clears_59 : decode cX4_clears 59 = .ok (.aload_n 0, 1) := dk_42 (dk_at dksX4_clears_2 11 rfl rfl)
theorem dX4_clears_60 : decode cX4_clears 60 = .ok (.getfield 146, 3) := dk_180 0 146 (dk_at dksX4_clears_2 12 rfl rfl)
theorem dX4_clears_63 : decode cX4_clears 63 = .ok (.imul, 1) := dk_104 (dk_at dksX4_clears_2 15 rfl rfl)
theorem dX4_clears_64 : decode cX4_clears 64 = .ok (.iload_n 1, 1) := dk_27 (dk_at dksX4_clears_2 16 rfl rfl)
theorem dX4_clears_65 : decode cX4_clears 65 = .ok (.iadd, 1) := dk_96 (dk_at dksX4_clears_2 17 rfl rfl)
theorem dX4_clears_66 : decode cX4_clears 66 = .ok (.lconst 0, 1) := dk_9 (dk_at dksX4_clears_2 18 rfl rfl)
theorem dX4_clears_67 : decode cX4_clears 67 = .ok (.lastore, 1) := dk_80 (dk_at dksX4_clears_2 19 rfl rfl)
theorem dX4_clears_68 : decode cX4_clears 68 = .ok (.iinc 1 1, 3) := dk_132 1 1 (dk_at dksX4_clears_2 20 rfl rfl)
theorem dX4_clears_71 : decode cX4_clears 71 = .ok (.goto (-69), 3) := dk_167 255 187 (dk_at dksX4_clears_3 0 rfl rfl)
theorem dX4_clears_74 : decode cX4_clears 74 = .ok (.aload_n 0, 1) := dk_42 (dk_at dksX4_clears_3 3 rfl rfl)
theorem dX4_clears_75 : decode cX4_clears 75 = .ok (.iconst 0, 1) := dk_3 (dk_at dksX4_clears_3 4 rfl rfl)
theorem dX4_clears_76 : decode cX4_clears 76 = .ok (.putfield 152, 3) := dk_181 0 152 (dk_at dksX4_clears_3 5 rfl rfl)
theorem dX4_clears_79 : decode cX4_clears 79 = .ok (.aload_n 0, 1) := dk_42 (dk_at dksX4_clears_3 8 rfl rfl)
theorem dX4_clears_80 : decode cX4_clears 80 = .ok (.iconst 0, 1) := dk_3 (dk_at dksX4_clears_3 9 rfl rfl)
theorem dX4_clears_81 : decode cX4_clears 81 = .ok (.putfield 156, 3) := dk_181 0 156 (dk_at dksX4_clears_3 10 rfl rfl)
theorem dX4_clears_84 : decode cX4_clears 84 = .ok (.return_, 1) := dk_177 (dk_at dksX4_clears_3 13 rfl rfl)
abbrev cX4_thrown : ByteArray := prog_23_method_2_code
def yX4_thrown : MethodName := ⟨RX4, "thrown", "()I"⟩
theorem dX4_thrown_0 : decode cX4_thrown 0 = .ok (.aload_n 0, 1) := by decide +kernel
theorem dX4_thrown_1 : decode cX4_thrown 1 = .ok (.getfield 131, 3) := by decide +kernel
theorem dX4_thrown_4 : decode cX4_thrown 4 = .ok (.ireturn, 1) := by decide +kernel
abbrev cX4_begin : ByteArray := prog_23_method_7_code
def yX4_begin : MethodName := ⟨RX4, "begin", "()I"⟩
def dkwX4_begin_0 : List UInt8 := [42, 182, 0, 128, 3, 172]
abbrev dktX4_begin_0 : List UInt8 := dkwX4_begin_0 ++ []
theorem dksX4_begin_0 : cX4_begin.data.toList.drop 0 = dktX4_begin_0 := by decide +kernel
theorem dX4_begin_0 : decode cX4_begin 0 = .ok (.aload_n 0, 1) := dk_42 (dk_at dksX4_begin_0 0 rfl rfl)
theorem dX4_begin_1 : decode cX4_begin 1 = .ok (.invokevirtual 128, 3) := dk_182 0 128 (dk_at dksX4_begin_0 1 rfl rfl)
theorem dX4_begin_4 : decode cX4_begin 4 = .ok (.iconst 0, 1) := dk_3 (dk_at dksX4_begin_0 4 rfl rfl)
theorem dX4_begin_5 : decode cX4_begin 5 = .ok (.ireturn, 1) := dk_172 (dk_at dksX4_begin_0 5 rfl rfl)
abbrev cX4_rate : ByteArray := prog_23_method_8_code
def yX4_rate : MethodName := ⟨RX4, "rate", "(III)I"⟩
def dkwX4_rate_2 : List UInt8 := [79, 3, 172]
abbrev dktX4_rate_2 : List UInt8 := dkwX4_rate_2 ++ []
def dkwX4_rate_1 : List UInt8 := [17, 3, 232, 184, 0, 159, 154, 0, 5, 2, 172, 42, 180, 0, 7, 27, 28, 79, 42, 180, 0, 13, 27, 29]
abbrev dktX4_rate_1 : List UInt8 := dkwX4_rate_1 ++ dktX4_rate_2
def dkwX4_rate_0 : List UInt8 := [27, 3, 16, 7, 184, 0, 159, 153, 0, 25, 28, 3, 17, 39, 16, 184, 0, 159, 153, 0, 14, 29, 4]
abbrev dktX4_rate_0 : List UInt8 := dkwX4_rate_0 ++ dktX4_rate_1
theorem dksX4_rate_0 : cX4_rate.data.toList.drop 0 = dktX4_rate_0 := by decide +kernel
theorem dksX4_rate_1 : cX4_rate.data.toList.drop 23 = dktX4_rate_1 := dk_seg dksX4_rate_0 23 rfl rfl
theorem dksX4_rate_2 : cX4_rate.data.toList.drop 47 = dktX4_rate_2 := dk_seg dksX4_rate_1 24 rfl rfl
theorem dX4_rate_0 : decode cX4_rate 0 = .ok (.iload_n 1, 1) := dk_27 (dk_at dksX4_rate_0 0 rfl rfl)
theorem dX4_rate_1 : decode cX4_rate 1 = .ok (.iconst 0, 1) := dk_3 (dk_at dksX4_rate_0 1 rfl rfl)
theorem dX4_rate_2 : decode cX4_rate 2 = .ok (.bipush 7, 2) := dk_16 7 (dk_at dksX4_rate_0 2 rfl rfl)
theorem dX4_rate_4 : decode cX4_rate 4 = .ok (.invokestatic 159, 3) := dk_184 0 159 (dk_at dksX4_rate_0 4 rfl rfl)
theorem dX4_rate_7 : decode cX4_rate 7 = .ok (.ifCond .eq 25, 3) := dk_153 0 25 (dk_at dksX4_rate_0 7 rfl rfl)
theorem dX4_rate_10 : decode cX4_rate 10 = .ok (.iload_n 2, 1) := dk_28 (dk_at dksX4_rate_0 10 rfl rfl)
theorem dX4_rate_11 : decode cX4_rate 11 = .ok (.iconst 0, 1) := dk_3 (dk_at dksX4_rate_0 11 rfl rfl)
theorem dX4_rate_12 : decode cX4_rate 12 = .ok (.sipush 10000, 3) := dk_17 39 16 (dk_at dksX4_rate_0 12 rfl rfl)
theorem dX4_rate_15 : decode cX4_rate 15 = .ok (.invokestatic 159, 3) := dk_184 0 159 (dk_at dksX4_rate_0 15 rfl rfl)
theorem dX4_rate_18 : decode cX4_rate 18 = .ok (.ifCond .eq 14, 3) := dk_153 0 14 (dk_at dksX4_rate_0 18 rfl rfl)
theorem dX4_rate_21 : decode cX4_rate 21 = .ok (.iload_n 3, 1) := dk_29 (dk_at dksX4_rate_0 21 rfl rfl)
theorem dX4_rate_22 : decode cX4_rate 22 = .ok (.iconst 1, 1) := dk_4 (dk_at dksX4_rate_0 22 rfl rfl)
theorem dX4_rate_23 : decode cX4_rate 23 = .ok (.sipush 1000, 3) := dk_17 3 232 (dk_at dksX4_rate_1 0 rfl rfl)
theorem dX4_rate_26 : decode cX4_rate 26 = .ok (.invokestatic 159, 3) := dk_184 0 159 (dk_at dksX4_rate_1 3 rfl rfl)
theorem dX4_rate_29 : decode cX4_rate 29 = .ok (.ifCond .ne 5, 3) := dk_154 0 5 (dk_at dksX4_rate_1 6 rfl rfl)
theorem dX4_rate_32 : decode cX4_rate 32 = .ok (.iconst (-1), 1) := dk_2 (dk_at dksX4_rate_1 9 rfl rfl)
theorem dX4_rate_33 : decode cX4_rate 33 = .ok (.ireturn, 1) := dk_172 (dk_at dksX4_rate_1 10 rfl rfl)
theorem dX4_rate_34 : decode cX4_rate 34 = .ok (.aload_n 0, 1) := dk_42 (dk_at dksX4_rate_1 11 rfl rfl)
theorem dX4_rate_35 : decode cX4_rate 35 = .ok (.getfield 7, 3) := dk_180 0 7 (dk_at dksX4_rate_1 12 rfl rfl)
theorem dX4_rate_38 : decode cX4_rate 38 = .ok (.iload_n 1, 1) := dk_27 (dk_at dksX4_rate_1 15 rfl rfl)
theorem dX4_rate_39 : decode cX4_rate 39 = .ok (.iload_n 2, 1) := dk_28 (dk_at dksX4_rate_1 16 rfl rfl)
theorem dX4_rate_40 : decode cX4_rate 40 = .ok (.iastore, 1) := dk_79 (dk_at dksX4_rate_1 17 rfl rfl)
theorem dX4_rate_41 : decode cX4_rate 41 = .ok (.aload_n 0, 1) := dk_42 (dk_at dksX4_rate_1 18 rfl rfl)
theorem dX4_rate_42 : decode cX4_rate 42 = .ok (.getfield 13, 3) := dk_180 0 13 (dk_at dksX4_rate_1 19 rfl rfl)
theorem dX4_rate_45 : decode cX4_rate 45 = .ok (.iload_n 1, 1) := dk_27 (dk_at dksX4_rate_1 22 rfl rfl)
theorem dX4_rate_46 : decode cX4_rate 46 = .ok (.iload_n 3, 1) := dk_29 (dk_at dksX4_rate_1 23 rfl rfl)
theorem dX4_rate_47 : decode cX4_rate 47 = .ok (.iastore, 1) := dk_79 (dk_at dksX4_rate_2 0 rfl rfl)
theorem dX4_rate_48 : decode cX4_rate 48 = .ok (.iconst 0, 1) := dk_3 (dk_at dksX4_rate_2 1 rfl rfl)
theorem dX4_rate_49 : decode cX4_rate 49 = .ok (.ireturn, 1) := dk_172 (dk_at dksX4_rate_2 2 rfl rfl)
abbrev cX4_in : ByteArray := prog_23_method_3_code
def yX4_in : MethodName := ⟨RX4, "in", "(III)Z"⟩
def dkwX4_in_0 : List UInt8 := [26, 27, 161, 0, 12, 26, 28, 163, 0, 7, 4, 167, 0, 4, 3, 172]
abbrev dktX4_in_0 : List UInt8 := dkwX4_in_0 ++ []
theorem dksX4_in_0 : cX4_in.data.toList.drop 0 = dktX4_in_0 := by decide +kernel
theorem dX4_in_0 : decode cX4_in 0 = .ok (.iload_n 0, 1) := dk_26 (dk_at dksX4_in_0 0 rfl rfl)
theorem dX4_in_1 : decode cX4_in 1 = .ok (.iload_n 1, 1) := dk_27 (dk_at dksX4_in_0 1 rfl rfl)
theorem dX4_in_2 : decode cX4_in 2 = .ok (.if_icmp .lt 12, 3) := dk_161 0 12 (dk_at dksX4_in_0 2 rfl rfl)
theorem dX4_in_5 : decode cX4_in 5 = .ok (.iload_n 0, 1) := dk_26 (dk_at dksX4_in_0 5 rfl rfl)
theorem dX4_in_6 : decode cX4_in 6 = .ok (.iload_n 2, 1) := dk_28 (dk_at dksX4_in_0 6 rfl rfl)
theorem dX4_in_7 : decode cX4_in 7 = .ok (.if_icmp .gt 7, 3) := dk_163 0 7 (dk_at dksX4_in_0 7 rfl rfl)
theorem dX4_in_10 : decode cX4_in 10 = .ok (.iconst 1, 1) := dk_4 (dk_at dksX4_in_0 10 rfl rfl)
theorem dX4_in_11 : decode cX4_in 11 = .ok (.goto 4, 3) := dk_167 0 4 (dk_at dksX4_in_0 11 rfl rfl)
theorem dX4_in_14 : decode cX4_in 14 = .ok (.iconst 0, 1) := dk_3 (dk_at dksX4_in_0 14 rfl rfl)
theorem dX4_in_15 : decode cX4_in 15 = .ok (.ireturn, 1) := dk_172 (dk_at dksX4_in_0 15 rfl rfl)
abbrev cX4_line : ByteArray := prog_23_method_10_code
def yX4_line : MethodName := ⟨RX4, "line", "(I)I"⟩
def dkwX4_line_1 : List UInt8 := [180, 0, 16, 42, 180, 0, 137, 27, 79, 42, 89, 180, 0, 137, 4, 96, 181, 0, 137, 42, 180, 0, 137, 172]
abbrev dktX4_line_1 : List UInt8 := dkwX4_line_1 ++ []
def dkwX4_line_0 : List UInt8 := [27, 133, 184, 0, 167, 154, 0, 5, 2, 172, 42, 180, 0, 137, 16, 12, 160, 0, 6, 16, 254, 172, 42]
abbrev dktX4_line_0 : List UInt8 := dkwX4_line_0 ++ dktX4_line_1
theorem dksX4_line_0 : cX4_line.data.toList.drop 0 = dktX4_line_0 := by decide +kernel
theorem dksX4_line_1 : cX4_line.data.toList.drop 23 = dktX4_line_1 := dk_seg dksX4_line_0 23 rfl rfl
theorem dX4_line_0 : decode cX4_line 0 = .ok (.iload_n 1, 1) := dk_27 (dk_at dksX4_line_0 0 rfl rfl)
theorem dX4_line_1 : decode cX4_line 1 = .ok (.i2l, 1) := dk_133 (dk_at dksX4_line_0 1 rfl rfl)
theorem dX4_line_2 : decode cX4_line 2 = .ok (.invokestatic 167, 3) := dk_184 0 167 (dk_at dksX4_line_0 2 rfl rfl)
theorem dX4_line_5 : decode cX4_line 5 = .ok (.ifCond .ne 5, 3) := dk_154 0 5 (dk_at dksX4_line_0 5 rfl rfl)
theorem dX4_line_8 : decode cX4_line 8 = .ok (.iconst (-1), 1) := dk_2 (dk_at dksX4_line_0 8 rfl rfl)
theorem dX4_line_9 : decode cX4_line 9 = .ok (.ireturn, 1) := dk_172 (dk_at dksX4_line_0 9 rfl rfl)
theorem dX4_line_10 : decode cX4_line 10 = .ok (.aload_n 0, 1) := dk_42 (dk_at dksX4_line_0 10 rfl rfl)
theorem dX4_line_11 : decode cX4_line 11 = .ok (.getfield 137, 3) := dk_180 0 137 (dk_at dksX4_line_0 11 rfl rfl)
theorem dX4_line_14 : decode cX4_line 14 = .ok (.bipush 12, 2) := dk_16 12 (dk_at dksX4_line_0 14 rfl rfl)
theorem dX4_line_16 : decode cX4_line 16 = .ok (.if_icmp .ne 6, 3) := dk_160 0 6 (dk_at dksX4_line_0 16 rfl rfl)
theorem dX4_line_19 : decode cX4_line 19 = .ok (.bipush (-2), 2) := dk_16 254 (dk_at dksX4_line_0 19 rfl rfl)
theorem dX4_line_21 : decode cX4_line 21 = .ok (.ireturn, 1) := dk_172 (dk_at dksX4_line_0 21 rfl rfl)
theorem dX4_line_22 : decode cX4_line 22 = .ok (.aload_n 0, 1) := dk_42 (dk_at dksX4_line_0 22 rfl rfl)
theorem dX4_line_23 : decode cX4_line 23 = .ok (.getfield 16, 3) := dk_180 0 16 (dk_at dksX4_line_1 0 rfl rfl)
theorem dX4_line_26 : decode cX4_line 26 = .ok (.aload_n 0, 1) := dk_42 (dk_at dksX4_line_1 3 rfl rfl)
theorem dX4_line_27 : decode cX4_line 27 = .ok (.getfield 137, 3) := dk_180 0 137 (dk_at dksX4_line_1 4 rfl rfl)
theorem dX4_line_30 : decode cX4_line 30 = .ok (.iload_n 1, 1) := dk_27 (dk_at dksX4_line_1 7 rfl rfl)
theorem dX4_line_31 : decode cX4_line 31 = .ok (.iastore, 1) := dk_79 (dk_at dksX4_line_1 8 rfl rfl)
theorem dX4_line_32 : decode cX4_line 32 = .ok (.aload_n 0, 1) := dk_42 (dk_at dksX4_line_1 9 rfl rfl)
theorem dX4_line_33 : decode cX4_line 33 = .ok (.dup, 1) := dk_89 (dk_at dksX4_line_1 10 rfl rfl)
theorem dX4_line_34 : decode cX4_line 34 = .ok (.getfield 137, 3) := dk_180 0 137 (dk_at dksX4_line_1 11 rfl rfl)
theorem dX4_line_37 : decode cX4_line 37 = .ok (.iconst 1, 1) := dk_4 (dk_at dksX4_line_1 14 rfl rfl)
theorem dX4_line_38 : decode cX4_line 38 = .ok (.iadd, 1) := dk_96 (dk_at dksX4_line_1 15 rfl rfl)
theorem dX4_line_39 : decode cX4_line 39 = .ok (.putfield 137, 3) := dk_181 0 137 (dk_at dksX4_line_1 16 rfl rfl)
theorem dX4_line_42 : decode cX4_line 42 = .ok (.aload_n 0, 1) := dk_42 (dk_at dksX4_line_1 19 rfl rfl)
theorem dX4_line_43 : decode cX4_line 43 = .ok (.getfield 137, 3) := dk_180 0 137 (dk_at dksX4_line_1 20 rfl rfl)
theorem dX4_line_46 : decode cX4_line 46 = .ok (.ireturn, 1) := dk_172 (dk_at dksX4_line_1 23 rfl rfl)
abbrev cX4_isLine : ByteArray := prog_23_method_9_code
def yX4_isLine : MethodName := ⟨RX4, "isLine", "(J)Z"⟩
def dkwX4_isLine_0 : List UInt8 := [30, 20, 0, 163, 148, 155, 0, 15, 30, 20, 0, 165, 148, 157, 0, 7, 4, 167, 0, 4, 3, 172]
abbrev dktX4_isLine_0 : List UInt8 := dkwX4_isLine_0 ++ []
theorem dksX4_isLine_0 : cX4_isLine.data.toList.drop 0 = dktX4_isLine_0 := by decide +kernel
theorem dX4_isLine_0 : decode cX4_isLine 0 = .ok (.lload_n 0, 1) := dk_30 (dk_at dksX4_isLine_0 0 rfl rfl)
theorem dX4_isLine_1 : decode cX4_isLine 1 = .ok (.ldc2_w 163, 3) := dk_20 0 163 (dk_at dksX4_isLine_0 1 rfl rfl)
theorem dX4_isLine_4 : decode cX4_isLine 4 = .ok (.lcmp, 1) := dk_148 (dk_at dksX4_isLine_0 4 rfl rfl)
theorem dX4_isLine_5 : decode cX4_isLine 5 = .ok (.ifCond .lt 15, 3) := dk_155 0 15 (dk_at dksX4_isLine_0 5 rfl rfl)
theorem dX4_isLine_8 : decode cX4_isLine 8 = .ok (.lload_n 0, 1) := dk_30 (dk_at dksX4_isLine_0 8 rfl rfl)
theorem dX4_isLine_9 : decode cX4_isLine 9 = .ok (.ldc2_w 165, 3) := dk_20 0 165 (dk_at dksX4_isLine_0 9 rfl rfl)
theorem dX4_isLine_12 : decode cX4_isLine 12 = .ok (.lcmp, 1) := dk_148 (dk_at dksX4_isLine_0 12 rfl rfl)
theorem dX4_isLine_13 : decode cX4_isLine 13 = .ok (.ifCond .gt 7, 3) := dk_157 0 7 (dk_at dksX4_isLine_0 13 rfl rfl)
theorem dX4_isLine_16 : decode cX4_isLine 16 = .ok (.iconst 1, 1) := dk_4 (dk_at dksX4_isLine_0 16 rfl rfl)
theorem dX4_isLine_17 : decode cX4_isLine 17 = .ok (.goto 4, 3) := dk_167 0 4 (dk_at dksX4_isLine_0 17 rfl rfl)
theorem dX4_isLine_20 : decode cX4_isLine 20 = .ok (.iconst 0, 1) := dk_3 (dk_at dksX4_isLine_0 20 rfl rfl)
theorem dX4_isLine_21 : decode cX4_isLine 21 = .ok (.ireturn, 1) := dk_172 (dk_at dksX4_isLine_0 21 rfl rfl)
abbrev cX4_bare : ByteArray := prog_23_method_11_code
def yX4_bare : MethodName := ⟨RX4, "bare", "()I"⟩
def dkwX4_bare_0 : List UInt8 := [42, 180, 0, 137, 60, 42, 3, 181, 0, 137, 27, 172]
abbrev dktX4_bare_0 : List UInt8 := dkwX4_bare_0 ++ []
theorem dksX4_bare_0 : cX4_bare.data.toList.drop 0 = dktX4_bare_0 := by decide +kernel
theorem dX4_bare_0 : decode cX4_bare 0 = .ok (.aload_n 0, 1) := dk_42 (dk_at dksX4_bare_0 0 rfl rfl)
theorem dX4_bare_1 : decode cX4_bare 1 = .ok (.getfield 137, 3) := dk_180 0 137 (dk_at dksX4_bare_0 1 rfl rfl)
theorem dX4_bare_4 : decode cX4_bare 4 = .ok (.istore_n 1, 1) := dk_60 (dk_at dksX4_bare_0 4 rfl rfl)
theorem dX4_bare_5 : decode cX4_bare 5 = .ok (.aload_n 0, 1) := dk_42 (dk_at dksX4_bare_0 5 rfl rfl)
theorem dX4_bare_6 : decode cX4_bare 6 = .ok (.iconst 0, 1) := dk_3 (dk_at dksX4_bare_0 6 rfl rfl)
theorem dX4_bare_7 : decode cX4_bare 7 = .ok (.putfield 137, 3) := dk_181 0 137 (dk_at dksX4_bare_0 7 rfl rfl)
theorem dX4_bare_10 : decode cX4_bare 10 = .ok (.iload_n 1, 1) := dk_27 (dk_at dksX4_bare_0 10 rfl rfl)
theorem dX4_bare_11 : decode cX4_bare 11 = .ok (.ireturn, 1) := dk_172 (dk_at dksX4_bare_0 11 rfl rfl)
abbrev cX4_weight : ByteArray := prog_23_method_12_code
def yX4_weight : MethodName := ⟨RX4, "weight", "(II)I"⟩
def dkwX4_weight_3 : List UInt8 := [27, 92, 46, 4, 96, 79, 42, 180, 0, 19, 27, 46, 172]
abbrev dktX4_weight_3 : List UInt8 := dkwX4_weight_3 ++ []
def dkwX4_weight_2 : List UInt8 := [16, 254, 172, 42, 180, 0, 22, 16, 8, 27, 104, 42, 180, 0, 19, 27, 46, 96, 28, 79, 42, 180, 0, 19]
abbrev dktX4_weight_2 : List UInt8 := dkwX4_weight_2 ++ dktX4_weight_3
def dkwX4_weight_1 : List UInt8 := [160, 0, 12, 42, 180, 0, 19, 27, 3, 79, 3, 172, 42, 180, 0, 19, 27, 46, 16, 8, 160, 0, 6]
abbrev dktX4_weight_1 : List UInt8 := dkwX4_weight_1 ++ dktX4_weight_2
def dkwX4_weight_0 : List UInt8 := [27, 3, 6, 184, 0, 159, 153, 0, 14, 28, 2, 17, 3, 232, 184, 0, 159, 154, 0, 5, 2, 172, 28, 2]
abbrev dktX4_weight_0 : List UInt8 := dkwX4_weight_0 ++ dktX4_weight_1
theorem dksX4_weight_0 : cX4_weight.data.toList.drop 0 = dktX4_weight_0 := by decide +kernel
theorem dksX4_weight_1 : cX4_weight.data.toList.drop 24 = dktX4_weight_1 := dk_seg dksX4_weight_0 24 rfl rfl
theorem dksX4_weight_2 : cX4_weight.data.toList.drop 47 = dktX4_weight_2 := dk_seg dksX4_weight_1 23 rfl rfl
theorem dksX4_weight_3 : cX4_weight.data.toList.drop 71 = dktX4_weight_3 := dk_seg dksX4_weight_2 24 rfl rfl
theorem dX4_weight_0 : decode cX4_weight 0 = .ok (.iload_n 1, 1) := dk_27 (dk_at dksX4_weight_0 0 rfl rfl)
theorem dX4_weight_1 : decode cX4_weight 1 = .ok (.iconst 0, 1) := dk_3 (dk_at dksX4_weight_0 1 rfl rfl)
theorem dX4_weight_2 : decode cX4_weight 2 = .ok (.iconst 3, 1) := dk_6 (dk_at dksX4_weight_0 2 rfl rfl)
theorem dX4_weight_3 : decode cX4_weight 3 = .ok (.invokestatic 159, 3) := dk_184 0 159 (dk_at dksX4_weight_0 3 rfl rfl)
theorem dX4_weight_6 : decode cX4_weight 6 = .ok (.ifCond .eq 14, 3) := dk_153 0 14 (dk_at dksX4_weight_0 6 rfl rfl)
theorem dX4_weight_9 : decode cX4_weight 9 = .ok (.iload_n 2, 1) := dk_28 (dk_at dksX4_weight_0 9 rfl rfl)
theorem dX4_weight_10 : decode cX4_weight 10 = .ok (.iconst (-1), 1) := dk_2 (dk_at dksX4_weight_0 10 rfl rfl)
theorem dX4_weight_11 : decode cX4_weight 11 = .ok (.sipush 1000, 3) := dk_17 3 232 (dk_at dksX4_weight_0 11 rfl rfl)
theorem dX4_weight_14 : decode cX4_weight 14 = .ok (.invokestatic 159, 3) := dk_184 0 159 (dk_at dksX4_weight_0 14 rfl rfl)
theorem dX4_weight_17 : decode cX4_weight 17 = .ok (.ifCond .ne 5, 3) := dk_154 0 5 (dk_at dksX4_weight_0 17 rfl rfl)
theorem dX4_weight_20 : decode cX4_weight 20 = .ok (.iconst (-1), 1) := dk_2 (dk_at dksX4_weight_0 20 rfl rfl)
theorem dX4_weight_21 : decode cX4_weight 21 = .ok (.ireturn, 1) := dk_172 (dk_at dksX4_weight_0 21 rfl rfl)
theorem dX4_weight_22 : decode cX4_weight 22 = .ok (.iload_n 2, 1) := dk_28 (dk_at dksX4_weight_0 22 rfl rfl)
theorem dX4_weight_23 : decode cX4_weight 23 = .ok (.iconst (-1), 1) := dk_2 (dk_at dksX4_weight_0 23 rfl rfl)
theorem dX4_weight_24 : decode cX4_weight 24 = .ok (.if_icmp .ne 12, 3) := dk_160 0 12 (dk_at dksX4_weight_1 0 rfl rfl)
theorem dX4_weight_27 : decode cX4_weight 27 = .ok (.aload_n 0, 1) := dk_42 (dk_at dksX4_weight_1 3 rfl rfl)
theorem dX4_weight_28 : decode cX4_weight 28 = .ok (.getfield 19, 3) := dk_180 0 19 (dk_at dksX4_weight_1 4 rfl rfl)
theorem dX4_weight_31 : decode cX4_weight 31 = .ok (.iload_n 1, 1) := dk_27 (dk_at dksX4_weight_1 7 rfl rfl)
theorem dX4_weight_32 : decode cX4_weight 32 = .ok (.iconst 0, 1) := dk_3 (dk_at dksX4_weight_1 8 rfl rfl)
theorem dX4_weight_33 : decode cX4_weight 33 = .ok (.iastore, 1) := dk_79 (dk_at dksX4_weight_1 9 rfl rfl)
theorem dX4_weight_34 : decode cX4_weight 34 = .ok (.iconst 0, 1) := dk_3 (dk_at dksX4_weight_1 10 rfl rfl)
theorem dX4_weight_35 : decode cX4_weight 35 = .ok (.ireturn, 1) := dk_172 (dk_at dksX4_weight_1 11 rfl rfl)
theorem dX4_weight_36 : decode cX4_weight 36 = .ok (.aload_n 0, 1) := dk_42 (dk_at dksX4_weight_1 12 rfl rfl)
theorem dX4_weight_37 : decode cX4_weight 37 = .ok (.getfield 19, 3) := dk_180 0 19 (dk_at dksX4_weight_1 13 rfl rfl)
theorem dX4_weight_40 : decode cX4_weight 40 = .ok (.iload_n 1, 1) := dk_27 (dk_at dksX4_weight_1 16 rfl rfl)
theorem dX4_weight_41 : decode cX4_weight 41 = .ok (.iaload, 1) := dk_46 (dk_at dksX4_weight_1 17 rfl rfl)
theorem dX4_weight_42 : decode cX4_weight 42 = .ok (.bipush 8, 2) := dk_16 8 (dk_at dksX4_weight_1 18 rfl rfl)
theorem dX4_weight_44 : decode cX4_weight 44 = .ok (.if_icmp .ne 6, 3) := dk_160 0 6 (dk_at dksX4_weight_1 20 rfl rfl)
theorem dX4_weight_47 : decode cX4_weight 47 = .ok (.bipush (-2), 2) := dk_16 254 (dk_at dksX4_weight_2 0 rfl rfl)
theorem dX4_weight_49 : decode cX4_weight 49 = .ok (.ireturn, 1) := dk_172 (dk_at dksX4_weight_2 2 rfl rfl)
theorem dX4_weight_50 : decode cX4_weight 50 = .ok (.aload_n 0, 1) := dk_42 (dk_at dksX4_weight_2 3 rfl rfl)
theorem dX4_weight_51 : decode cX4_weight 51 = .ok (.getfield 22, 3) := dk_180 0 22 (dk_at dksX4_weight_2 4 rfl rfl)
theorem dX4_weight_54 : decode cX4_weight 54 = .ok (.bipush 8, 2) := dk_16 8 (dk_at dksX4_weight_2 7 rfl rfl)
theorem dX4_weight_56 : decode cX4_weight 56 = .ok (.iload_n 1, 1) := dk_27 (dk_at dksX4_weight_2 9 rfl rfl)
theorem dX4_weight_57 : decode cX4_weight 57 = .ok (.imul, 1) := dk_104 (dk_at dksX4_weight_2 10 rfl rfl)
theorem dX4_weight_58 : decode cX4_weight 58 = .ok (.aload_n 0, 1) := dk_42 (dk_at dksX4_weight_2 11 rfl rfl)
theorem dX4_weight_59 : decode cX4_weight 59 = .ok (.getfield 19, 3) := dk_180 0 19 (dk_at dksX4_weight_2 12 rfl rfl)
theorem dX4_weight_62 : decode cX4_weight 62 = .ok (.iload_n 1, 1) := dk_27 (dk_at dksX4_weight_2 15 rfl rfl)
theorem dX4_weight_63 : decode cX4_weight 63 = .ok (.iaload, 1) := dk_46 (dk_at dksX4_weight_2 16 rfl rfl)
theorem dX4_weight_64 : decode cX4_weight 64 = .ok (.iadd, 1) := dk_96 (dk_at dksX4_weight_2 17 rfl rfl)
theorem dX4_weight_65 : decode cX4_weight 65 = .ok (.iload_n 2, 1) := dk_28 (dk_at dksX4_weight_2 18 rfl rfl)
theorem dX4_weight_66 : decode cX4_weight 66 = .ok (.iastore, 1) := dk_79 (dk_at dksX4_weight_2 19 rfl rfl)
theorem dX4_weight_67 : decode cX4_weight 67 = .ok (.aload_n 0, 1) := dk_42 (dk_at dksX4_weight_2 20 rfl rfl)
theorem dX4_weight_68 : decode cX4_weight 68 = .ok (.getfield 19, 3) := dk_180 0 19 (dk_at dksX4_weight_2 21 rfl rfl)
theorem dX4_weight_71 : decode cX4_weight 71 = .ok (.iload_n 1, 1) := dk_27 (dk_at dksX4_weight_3 0 rfl rfl)
theorem dX4_weight_72 : decode cX4_weight 72 = .ok (.dup2, 1) := dk_92 (dk_at dksX4_weight_3 1 rfl rfl)
theorem dX4_weight_73 : decode cX4_weight 73 = .ok (.iaload, 1) := dk_46 (dk_at dksX4_weight_3 2 rfl rfl)
theorem dX4_weight_74 : decode cX4_weight 74 = .ok (.iconst 1, 1) := dk_4 (dk_at dksX4_weight_3 3 rfl rfl)
theorem dX4_weight_75 : decode cX4_weight 75 = .ok (.iadd, 1) := dk_96 (dk_at dksX4_weight_3 4 rfl rfl)
theorem dX4_weight_76 : decode cX4_weight 76 = .ok (.iastore, 1) := dk_79 (dk_at dksX4_weight_3 5 rfl rfl)
theorem dX4_weight_77 : decode cX4_weight 77 = .ok (.aload_n 0, 1) := dk_42 (dk_at dksX4_weight_3 6 rfl rfl)
theorem dX4_weight_78 : decode cX4_weight 78 = .ok (.getfield 19, 3) := dk_180 0 19 (dk_at dksX4_weight_3 7 rfl rfl)
theorem dX4_weight_81 : decode cX4_weight 81 = .ok (.iload_n 1, 1) := dk_27 (dk_at dksX4_weight_3 10 rfl rfl)
theorem dX4_weight_82 : decode cX4_weight 82 = .ok (.iaload, 1) := dk_46 (dk_at dksX4_weight_3 11 rfl rfl)
theorem dX4_weight_83 : decode cX4_weight 83 = .ok (.ireturn, 1) := dk_172 (dk_at dksX4_weight_3 12 rfl rfl)
abbrev cX4_program : ByteArray := prog_23_method_13_code
def yX4_program : MethodName := ⟨RX4, "program", "()I"⟩
def dkwX4_program_2 : List UInt8 := [4, 96, 181, 0, 140, 42, 180, 0, 140, 4, 100, 172]
abbrev dktX4_program_2 : List UInt8 := dkwX4_program_2 ++ []
def dkwX4_program_1 : List UInt8 := [180, 0, 63, 42, 180, 0, 140, 9, 80, 42, 180, 0, 66, 42, 180, 0, 140, 10, 80, 42, 89, 180, 0, 140]
abbrev dktX4_program_1 : List UInt8 := dkwX4_program_1 ++ dktX4_program_2
def dkwX4_program_0 : List UInt8 := [42, 180, 0, 140, 7, 160, 0, 6, 16, 254, 172, 42, 180, 0, 25, 42, 180, 0, 140, 3, 79, 42]
abbrev dktX4_program_0 : List UInt8 := dkwX4_program_0 ++ dktX4_program_1
theorem dksX4_program_0 : cX4_program.data.toList.drop 0 = dktX4_program_0 := by decide +kernel
theorem dksX4_program_1 : cX4_program.data.toList.drop 22 = dktX4_program_1 := dk_seg dksX4_program_0 22 rfl rfl
theorem dksX4_program_2 : cX4_program.data.toList.drop 46 = dktX4_program_2 := dk_seg dksX4_program_1 24 rfl rfl
theorem dX4_program_0 : decode cX4_program 0 = .ok (.aload_n 0, 1) := dk_42 (dk_at dksX4_program_0 0 rfl rfl)
theorem dX4_program_1 : decode cX4_program 1 = .ok (.getfield 140, 3) := dk_180 0 140 (dk_at dksX4_program_0 1 rfl rfl)
theorem dX4_program_4 : decode cX4_program 4 = .ok (.iconst 4, 1) := dk_7 (dk_at dksX4_program_0 4 rfl rfl)
theorem dX4_program_5 : decode cX4_program 5 = .ok (.if_icmp .ne 6, 3) := dk_160 0 6 (dk_at dksX4_program_0 5 rfl rfl)
theorem dX4_program_8 : decode cX4_program 8 = .ok (.bipush (-2), 2) := dk_16 254 (dk_at dksX4_program_0 8 rfl rfl)
theorem dX4_program_10 : decode cX4_program 10 = .ok (.ireturn, 1) := dk_172 (dk_at dksX4_program_0 10 rfl rfl)
theorem dX4_program_11 : decode cX4_program 11 = .ok (.aload_n 0, 1) := dk_42 (dk_at dksX4_program_0 11 rfl rfl)
theorem dX4_program_12 : decode cX4_program 12 = .ok (.getfield 25, 3) := dk_180 0 25 (dk_at dksX4_program_0 12 rfl rfl)
theorem dX4_program_15 : decode cX4_program 15 = .ok (.aload_n 0, 1) := dk_42 (dk_at dksX4_program_0 15 rfl rfl)
theorem dX4_program_16 : decode cX4_program 16 = .ok (.getfield 140, 3) := dk_180 0 140 (dk_at dksX4_program_0 16 rfl rfl)
theorem dX4_program_19 : decode cX4_program 19 = .ok (.iconst 0, 1) := dk_3 (dk_at dksX4_program_0 19 rfl rfl)
theorem dX4_program_20 : decode cX4_program 20 = .ok (.iastore, 1) := dk_79 (dk_at dksX4_program_0 20 rfl rfl)
theorem dX4_program_21 : decode cX4_program 21 = .ok (.aload_n 0, 1) := dk_42 (dk_at dksX4_program_0 21 rfl rfl)
theorem dX4_program_22 : decode cX4_program 22 = .ok (.getfield 63, 3) := dk_180 0 63 (dk_at dksX4_program_1 0 rfl rfl)
theorem dX4_program_25 : decode cX4_program 25 = .ok (.aload_n 0, 1) := dk_42 (dk_at dksX4_program_1 3 rfl rfl)
theorem dX4_program_26 : decode cX4_program 26 = .ok (.getfield 140, 3) := dk_180 0 140 (dk_at dksX4_program_1 4 rfl rfl)
theorem dX4_program_29 : decode cX4_program 29 = .ok (.lconst 0, 1) := dk_9 (dk_at dksX4_program_1 7 rfl rfl)
theorem dX4_program_30 : decode cX4_program 30 = .ok (.lastore, 1) := dk_80 (dk_at dksX4_program_1 8 rfl rfl)
theorem dX4_program_31 : decode cX4_program 31 = .ok (.aload_n 0, 1) := dk_42 (dk_at dksX4_program_1 9 rfl rfl)
theorem dX4_program_32 : decode cX4_program 32 = .ok (.getfield 66, 3) := dk_180 0 66 (dk_at dksX4_program_1 10 rfl rfl)
theorem dX4_program_35 : decode cX4_program 35 = .ok (.aload_n 0, 1) := dk_42 (dk_at dksX4_program_1 13 rfl rfl)
theorem dX4_program_36 : decode cX4_program 36 = .ok (.getfield 140, 3) := dk_180 0 140 (dk_at dksX4_program_1 14 rfl rfl)
theorem dX4_program_39 : decode cX4_program 39 = .ok (.lconst 1, 1) := dk_10 (dk_at dksX4_program_1 17 rfl rfl)
theorem dX4_program_40 : decode cX4_program 40 = .ok (.lastore, 1) := dk_80 (dk_at dksX4_program_1 18 rfl rfl)
theorem dX4_program_41 : decode cX4_program 41 = .ok (.aload_n 0, 1) := dk_42 (dk_at dksX4_program_1 19 rfl rfl)
theorem dX4_program_42 : decode cX4_program 42 = .ok (.dup, 1) := dk_89 (dk_at dksX4_program_1 20 rfl rfl)
theorem dX4_program_43 : decode cX4_program 43 = .ok (.getfield 140, 3) := dk_180 0 140 (dk_at dksX4_program_1 21 rfl rfl)
theorem dX4_program_46 : decode cX4_program 46 = .ok (.iconst 1, 1) := dk_4 (dk_at dksX4_program_2 0 rfl rfl)
theorem dX4_program_47 : decode cX4_program 47 = .ok (.iadd, 1) := dk_96 (dk_at dksX4_program_2 1 rfl rfl)
theorem dX4_program_48 : decode cX4_program 48 = .ok (.putfield 140, 3) := dk_181 0 140 (dk_at dksX4_program_2 2 rfl rfl)
theorem dX4_program_51 : decode cX4_program 51 = .ok (.aload_n 0, 1) := dk_42 (dk_at dksX4_program_2 5 rfl rfl)
theorem dX4_program_52 : decode cX4_program 52 = .ok (.getfield 140, 3) := dk_180 0 140 (dk_at dksX4_program_2 6 rfl rfl)
theorem dX4_program_55 : decode cX4_program 55 = .ok (.iconst 1, 1) := dk_4 (dk_at dksX4_program_2 9 rfl rfl)
theorem dX4_program_56 : decode cX4_program 56 = .ok (.isub, 1) := dk_100 (dk_at dksX4_program_2 10 rfl rfl)
theorem dX4_program_57 : decode cX4_program 57 = .ok (.ireturn, 1) := dk_172 (dk_at dksX4_program_2 11 rfl rfl)
abbrev cX4_act : ByteArray := prog_23_method_16_code
def yX4_act : MethodName := ⟨RX4, "act", "(IIIII)I"⟩
def dkwX4_act_5 : List UInt8 := [46, 172]
abbrev dktX4_act_5 : List UInt8 := dkwX4_act_5 ++ []
def dkwX4_act_4 : List UInt8 := [42, 180, 0, 37, 21, 6, 21, 5, 79, 42, 180, 0, 25, 27, 92, 46, 4, 96, 79, 42, 180, 0, 25, 27]
abbrev dktX4_act_4 : List UInt8 := dkwX4_act_4 ++ dktX4_act_5
def dkwX4_act_3 : List UInt8 := [180, 0, 28, 21, 6, 28, 79, 42, 180, 0, 31, 21, 6, 29, 79, 42, 180, 0, 34, 21, 6, 21, 4, 79]
abbrev dktX4_act_3 : List UInt8 := dkwX4_act_3 ++ dktX4_act_4
def dkwX4_act_2 : List UInt8 := [46, 16, 20, 160, 0, 6, 16, 254, 172, 16, 20, 27, 104, 42, 180, 0, 25, 27, 46, 96, 54, 6, 42]
abbrev dktX4_act_2 : List UInt8 := dkwX4_act_2 ++ dktX4_act_3
def dkwX4_act_1 : List UInt8 := [184, 0, 159, 153, 0, 14, 28, 21, 4, 21, 5, 184, 0, 176, 154, 0, 5, 2, 172, 42, 180, 0, 25, 27]
abbrev dktX4_act_1 : List UInt8 := dkwX4_act_1 ++ dktX4_act_2
def dkwX4_act_0 : List UInt8 := [42, 27, 182, 0, 172, 153, 0, 34, 28, 3, 16, 12, 184, 0, 159, 153, 0, 24, 29, 3, 16, 7]
abbrev dktX4_act_0 : List UInt8 := dkwX4_act_0 ++ dktX4_act_1
theorem dksX4_act_0 : cX4_act.data.toList.drop 0 = dktX4_act_0 := by decide +kernel
theorem dksX4_act_1 : cX4_act.data.toList.drop 22 = dktX4_act_1 := dk_seg dksX4_act_0 22 rfl rfl
theorem dksX4_act_2 : cX4_act.data.toList.drop 46 = dktX4_act_2 := dk_seg dksX4_act_1 24 rfl rfl
theorem dksX4_act_3 : cX4_act.data.toList.drop 69 = dktX4_act_3 := dk_seg dksX4_act_2 23 rfl rfl
theorem dksX4_act_4 : cX4_act.data.toList.drop 93 = dktX4_act_4 := dk_seg dksX4_act_3 24 rfl rfl
theorem dksX4_act_5 : cX4_act.data.toList.drop 117 = dktX4_act_5 := dk_seg dksX4_act_4 24 rfl rfl
theorem dX4_act_0 : decode cX4_act 0 = .ok (.aload_n 0, 1) := dk_42 (dk_at dksX4_act_0 0 rfl rfl)
theorem dX4_act_1 : decode cX4_act 1 = .ok (.iload_n 1, 1) := dk_27 (dk_at dksX4_act_0 1 rfl rfl)
theorem dX4_act_2 : decode cX4_act 2 = .ok (.invokevirtual 172, 3) := dk_182 0 172 (dk_at dksX4_act_0 2 rfl rfl)
theorem dX4_act_5 : decode cX4_act 5 = .ok (.ifCond .eq 34, 3) := dk_153 0 34 (dk_at dksX4_act_0 5 rfl rfl)
theorem dX4_act_8 : decode cX4_act 8 = .ok (.iload_n 2, 1) := dk_28 (dk_at dksX4_act_0 8 rfl rfl)
theorem dX4_act_9 : decode cX4_act 9 = .ok (.iconst 0, 1) := dk_3 (dk_at dksX4_act_0 9 rfl rfl)
theorem dX4_act_10 : decode cX4_act 10 = .ok (.bipush 12, 2) := dk_16 12 (dk_at dksX4_act_0 10 rfl rfl)
theorem dX4_act_12 : decode cX4_act 12 = .ok (.invokestatic 159, 3) := dk_184 0 159 (dk_at dksX4_act_0 12 rfl rfl)
theorem dX4_act_15 : decode cX4_act 15 = .ok (.ifCond .eq 24, 3) := dk_153 0 24 (dk_at dksX4_act_0 15 rfl rfl)
theorem dX4_act_18 : decode cX4_act 18 = .ok (.iload_n 3, 1) := dk_29 (dk_at dksX4_act_0 18 rfl rfl)
theorem dX4_act_19 : decode cX4_act 19 = .ok (.iconst 0, 1) := dk_3 (dk_at dksX4_act_0 19 rfl rfl)
theorem dX4_act_20 : decode cX4_act 20 = .ok (.bipush 7, 2) := dk_16 7 (dk_at dksX4_act_0 20 rfl rfl)
theorem dX4_act_22 : decode cX4_act 22 = .ok (.invokestatic 159, 3) := dk_184 0 159 (dk_at dksX4_act_1 0 rfl rfl)
theorem dX4_act_25 : decode cX4_act 25 = .ok (.ifCond .eq 14, 3) := dk_153 0 14 (dk_at dksX4_act_1 3 rfl rfl)
theorem dX4_act_28 : decode cX4_act 28 = .ok (.iload_n 2, 1) := dk_28 (dk_at dksX4_act_1 6 rfl rfl)
theorem dX4_act_29 : decode cX4_act 29 = .ok (.iload 4, 2) := dk_21 4 (dk_at dksX4_act_1 7 rfl rfl)
theorem dX4_act_31 : decode cX4_act 31 = .ok (.iload 5, 2) := dk_21 5 (dk_at dksX4_act_1 9 rfl rfl)
theorem dX4_act_33 : decode cX4_act 33 = .ok (.invokestatic 176, 3) := dk_184 0 176 (dk_at dksX4_act_1 11 rfl rfl)
theorem dX4_act_36 : decode cX4_act 36 = .ok (.ifCond .ne 5, 3) := dk_154 0 5 (dk_at dksX4_act_1 14 rfl rfl)
theorem dX4_act_39 : decode cX4_act 39 = .ok (.iconst (-1), 1) := dk_2 (dk_at dksX4_act_1 17 rfl rfl)
theorem dX4_act_40 : decode cX4_act 40 = .ok (.ireturn, 1) := dk_172 (dk_at dksX4_act_1 18 rfl rfl)
theorem dX4_act_41 : decode cX4_act 41 = .ok (.aload_n 0, 1) := dk_42 (dk_at dksX4_act_1 19 rfl rfl)
theorem dX4_act_42 : decode cX4_act 42 = .ok (.getfield 25, 3) := dk_180 0 25 (dk_at dksX4_act_1 20 rfl rfl)
theorem dX4_act_45 : decode cX4_act 45 = .ok (.iload_n 1, 1) := dk_27 (dk_at dksX4_act_1 23 rfl rfl)
theorem dX4_act_46 : decode cX4_act 46 = .ok (.iaload, 1) := dk_46 (dk_at dksX4_act_2 0 rfl rfl)
theorem dX4_act_47 : decode cX4_act 47 = .ok (.bipush 20, 2) := dk_16 20 (dk_at dksX4_act_2 1 rfl rfl)
theorem dX4_act_49 : decode cX4_act 49 = .ok (.if_icmp .ne 6, 3) := dk_160 0 6 (dk_at dksX4_act_2 3 rfl rfl)
theorem dX4_act_52 : decode cX4_act 52 = .ok (.bipush (-2), 2) := dk_16 254 (dk_at dksX4_act_2 6 rfl rfl)
theorem dX4_act_54 : decode cX4_act 54 = .ok (.ireturn, 1) := dk_172 (dk_at dksX4_act_2 8 rfl rfl)
theorem dX4_act_55 : decode cX4_act 55 = .ok (.bipush 20, 2) := dk_16 20 (dk_at dksX4_act_2 9 rfl rfl)
theorem dX4_act_57 : decode cX4_act 57 = .ok (.iload_n 1, 1) := dk_27 (dk_at dksX4_act_2 11 rfl rfl)
theorem dX4_act_58 : decode cX4_act 58 = .ok (.imul, 1) := dk_104 (dk_at dksX4_act_2 12 rfl rfl)
theorem dX4_act_59 : decode cX4_act 59 = .ok (.aload_n 0, 1) := dk_42 (dk_at dksX4_act_2 13 rfl rfl)
theorem dX4_act_60 : decode cX4_act 60 = .ok (.getfield 25, 3) := dk_180 0 25 (dk_at dksX4_act_2 14 rfl rfl)
theorem dX4_act_63 : decode cX4_act 63 = .ok (.iload_n 1, 1) := dk_27 (dk_at dksX4_act_2 17 rfl rfl)
theorem dX4_act_64 : decode cX4_act 64 = .ok (.iaload, 1) := dk_46 (dk_at dksX4_act_2 18 rfl rfl)
theorem dX4_act_65 : decode cX4_act 65 = .ok (.iadd, 1) := dk_96 (dk_at dksX4_act_2 19 rfl rfl)
theorem dX4_act_66 : decode cX4_act 66 = .ok (.istore 6, 2) := dk_54 6 (dk_at dksX4_act_2 20 rfl rfl)
theorem dX4_act_68 : decode cX4_act 68 = .ok (.aload_n 0, 1) := dk_42 (dk_at dksX4_act_2 22 rfl rfl)
theorem dX4_act_69 : decode cX4_act 69 = .ok (.getfield 28, 3) := dk_180 0 28 (dk_at dksX4_act_3 0 rfl rfl)
theorem dX4_act_72 : decode cX4_act 72 = .ok (.iload 6, 2) := dk_21 6 (dk_at dksX4_act_3 3 rfl rfl)
theorem dX4_act_74 : decode cX4_act 74 = .ok (.iload_n 2, 1) := dk_28 (dk_at dksX4_act_3 5 rfl rfl)
theorem dX4_act_75 : decode cX4_act 75 = .ok (.iastore, 1) := dk_79 (dk_at dksX4_act_3 6 rfl rfl)
theorem dX4_act_76 : decode cX4_act 76 = .ok (.aload_n 0, 1) := dk_42 (dk_at dksX4_act_3 7 rfl rfl)
theorem dX4_act_77 : decode cX4_act 77 = .ok (.getfield 31, 3) := dk_180 0 31 (dk_at dksX4_act_3 8 rfl rfl)
theorem dX4_act_80 : decode cX4_act 80 = .ok (.iload 6, 2) := dk_21 6 (dk_at dksX4_act_3 11 rfl rfl)
theorem dX4_act_82 : decode cX4_act 82 = .ok (.iload_n 3, 1) := dk_29 (dk_at dksX4_act_3 13 rfl rfl)
theorem dX4_act_83 : decode cX4_act 83 = .ok (.iastore, 1) := dk_79 (dk_at dksX4_act_3 14 rfl rfl)
theorem dX4_act_84 : decode cX4_act 84 = .ok (.aload_n 0, 1) := dk_42 (dk_at dksX4_act_3 15 rfl rfl)
theorem dX4_act_85 : decode cX4_act 85 = .ok (.getfield 34, 3) := dk_180 0 34 (dk_at dksX4_act_3 16 rfl rfl)
theorem dX4_act_88 : decode cX4_act 88 = .ok (.iload 6, 2) := dk_21 6 (dk_at dksX4_act_3 19 rfl rfl)
theorem dX4_act_90 : decode cX4_act 90 = .ok (.iload 4, 2) := dk_21 4 (dk_at dksX4_act_3 21 rfl rfl)
theorem dX4_act_92 : decode cX4_act 92 = .ok (.iastore, 1) := dk_79 (dk_at dksX4_act_3 23 rfl rfl)
theorem dX4_act_93 : decode cX4_act 93 = .ok (.aload_n 0, 1) := dk_42 (dk_at dksX4_act_4 0 rfl rfl)
theorem dX4_act_94 : decode cX4_act 94 = .ok (.getfield 37, 3) := dk_180 0 37 (dk_at dksX4_act_4 1 rfl rfl)
theorem dX4_act_97 : decode cX4_act 97 = .ok (.iload 6, 2) := dk_21 6 (dk_at dksX4_act_4 4 rfl rfl)
theorem dX4_act_99 : decode cX4_act 99 = .ok (.iload 5, 2) := dk_21 5 (dk_at dksX4_act_4 6 rfl rfl)
theorem dX4_act_101 : decode cX4_act 101 = .ok (.iastore, 1) := dk_79 (dk_at dksX4_act_4 8 rfl rfl)
theorem dX4_act_102 : decode cX4_act 102 = .ok (.aload_n 0, 1) := dk_42 (dk_at dksX4_act_4 9 rfl rfl)
theorem dX4_act_103 : decode cX4_act 103 = .ok (.getfield 25, 3) := dk_180 0 25 (dk_at dksX4_act_4 10 rfl rfl)
theorem dX4_act_106 : decode cX4_act 106 = .ok (.iload_n 1, 1) := dk_27 (dk_at dksX4_act_4 13 rfl rfl)
theorem dX4_act_107 : decode cX4_act 107 = .ok (.dup2, 1) := dk_92 (dk_at dksX4_act_4 14 rfl rfl)
theorem dX4_act_108 : decode cX4_act 108 = .ok (.iaload, 1) := dk_46 (dk_at dksX4_act_4 15 rfl rfl)
theorem dX4_act_109 : decode cX4_act 109 = .ok (.iconst 1, 1) := dk_4 (dk_at dksX4_act_4 16 rfl rfl)
theorem dX4_act_110 : decode cX4_act 110 = .ok (.iadd, 1) := dk_96 (dk_at dksX4_act_4 17 rfl rfl)
theorem dX4_act_111 : decode cX4_act 111 = .ok (.iastore, 1) := dk_79 (dk_at dksX4_act_4 18 rfl rfl)
theorem dX4_act_112 : decode cX4_act 112 = .ok (.aload_n 0, 1) := dk_42 (dk_at dksX4_act_4 19 rfl rfl)
theorem dX4_act_113 : decode cX4_act 113 = .ok (.getfield 25, 3) := dk_180 0 25 (dk_at dksX4_act_4 20 rfl rfl)
theorem dX4_act_116 : decode cX4_act 116 = .ok (.iload_n 1, 1) := dk_27 (dk_at dksX4_act_4 23 rfl rfl)
theorem dX4_act_117 : decode cX4_act 117 = .ok (.iaload, 1) := dk_46 (dk_at dksX4_act_5 0 rfl rfl)
theorem dX4_act_118 : decode cX4_act 118 = .ok (.ireturn, 1) := dk_172 (dk_at dksX4_act_5 1 rfl rfl)
abbrev cX4_isProgram : ByteArray := prog_23_method_14_code
def yX4_isProgram : MethodName := ⟨RX4, "isProgram", "(I)Z"⟩
def dkwX4_isProgram_0 : List UInt8 := [27, 3, 42, 180, 0, 140, 4, 100, 184, 0, 159, 172]
abbrev dktX4_isProgram_0 : List UInt8 := dkwX4_isProgram_0 ++ []
theorem dksX4_isProgram_0 : cX4_isProgram.data.toList.drop 0 = dktX4_isProgram_0 := by decide +kernel
theorem dX4_isProgram_0 : decode cX4_isProgram 0 = .ok (.iload_n 1, 1) := dk_27 (dk_at dksX4_isProgram_0 0 rfl rfl)
theorem dX4_isProgram_1 : decode cX4_isProgram 1 = .ok (.iconst 0, 1) := dk_3 (dk_at dksX4_isProgram_0 1 rfl rfl)
theorem dX4_isProgram_2 : decode cX4_isProgram 2 = .ok (.aload_n 0, 1) := dk_42 (dk_at dksX4_isProgram_0 2 rfl rfl)
theorem dX4_isProgram_3 : decode cX4_isProgram 3 = .ok (.getfield 140, 3) := dk_180 0 140 (dk_at dksX4_isProgram_0 3 rfl rfl)
theorem dX4_isProgram_6 : decode cX4_isProgram 6 = .ok (.iconst 1, 1) := dk_4 (dk_at dksX4_isProgram_0 6 rfl rfl)
theorem dX4_isProgram_7 : decode cX4_isProgram 7 = .ok (.isub, 1) := dk_100 (dk_at dksX4_isProgram_0 7 rfl rfl)
theorem dX4_isProgram_8 : decode cX4_isProgram 8 = .ok (.invokestatic 159, 3) := dk_184 0 159 (dk_at dksX4_isProgram_0 8 rfl rfl)
theorem dX4_isProgram_11 : decode cX4_isProgram 11 = .ok (.ireturn, 1) := dk_172 (dk_at dksX4_isProgram_0 11 rfl rfl)
abbrev cX4_fits : ByteArray := prog_23_method_15_code
def yX4_fits : MethodName := ⟨RX4, "fits", "(III)Z"⟩
def dkwX4_fits_11 : List UInt8 := [154, 0, 11, 28, 154, 0, 7, 4, 167, 0, 4, 3, 172]
abbrev dktX4_fits_11 : List UInt8 := dkwX4_fits_11 ++ []
def dkwX4_fits_10 : List UInt8 := [184, 0, 159, 153, 0, 17, 28, 4, 16, 30, 184, 0, 159, 153, 0, 7, 4, 167, 0, 4, 3, 172, 27]
abbrev dktX4_fits_10 : List UInt8 := dkwX4_fits_10 ++ dktX4_fits_11
def dkwX4_fits_9 : List UInt8 := [16, 7, 184, 0, 159, 153, 0, 11, 29, 153, 0, 7, 4, 167, 0, 4, 3, 172, 27, 3, 16, 7]
abbrev dktX4_fits_9 : List UInt8 := dkwX4_fits_9 ++ dktX4_fits_10
def dkwX4_fits_8 : List UInt8 := [184, 0, 159, 153, 0, 17, 28, 3, 18, 171, 184, 0, 159, 153, 0, 7, 4, 167, 0, 4, 3, 172, 27, 3]
abbrev dktX4_fits_8 : List UInt8 := dkwX4_fits_8 ++ dktX4_fits_9
def dkwX4_fits_7 : List UInt8 := [27, 3, 16, 7, 184, 0, 159, 153, 0, 11, 28, 154, 0, 7, 4, 167, 0, 4, 3, 172, 27, 3, 4]
abbrev dktX4_fits_7 : List UInt8 := dkwX4_fits_7 ++ dktX4_fits_8
def dkwX4_fits_6 : List UInt8 := [27, 3, 6, 184, 0, 159, 153, 0, 16, 28, 3, 6, 184, 0, 159, 153, 0, 7, 4, 167, 0, 4, 3, 172]
abbrev dktX4_fits_6 : List UInt8 := dkwX4_fits_6 ++ dktX4_fits_7
def dkwX4_fits_5 : List UInt8 := [3, 16, 7, 184, 0, 159, 153, 0, 16, 28, 3, 4, 184, 0, 159, 153, 0, 7, 4, 167, 0, 4, 3, 172]
abbrev dktX4_fits_5 : List UInt8 := dkwX4_fits_5 ++ dktX4_fits_6
def dkwX4_fits_4 : List UInt8 := [8, 184, 0, 159, 153, 0, 17, 28, 4, 16, 100, 184, 0, 159, 153, 0, 7, 4, 167, 0, 4, 3, 172, 27]
abbrev dktX4_fits_4 : List UInt8 := dkwX4_fits_4 ++ dktX4_fits_5
def dkwX4_fits_3 : List UInt8 := [184, 0, 159, 153, 0, 17, 28, 3, 16, 7, 184, 0, 159, 153, 0, 7, 4, 167, 0, 4, 3, 172, 27, 3]
abbrev dktX4_fits_3 : List UInt8 := dkwX4_fits_3 ++ dktX4_fits_4
def dkwX4_fits_2 : List UInt8 := [27, 3, 16, 7, 184, 0, 159, 153, 0, 11, 29, 153, 0, 7, 4, 167, 0, 4, 3, 172, 27, 3, 16, 7]
abbrev dktX4_fits_2 : List UInt8 := dkwX4_fits_2 ++ dktX4_fits_3
def dkwX4_fits_1 : List UInt8 := [170, 0, 0, 0, 0, 0, 1, 19, 0, 0, 0, 1, 0, 0, 0, 12, 0, 0, 0, 64, 0, 0, 0, 64, 0, 0, 0, 84, 0, 0, 0, 110, 0, 0, 0, 135, 0, 0, 0, 160, 0, 0, 0, 184, 0, 0, 1, 19, 0, 0, 0, 204, 0, 0, 0, 135, 0, 0, 0, 229, 0, 0, 0, 249]
abbrev dktX4_fits_1 : List UInt8 := dkwX4_fits_1 ++ dktX4_fits_2
def dkwX4_fits_0 : List UInt8 := [28, 3, 8, 184, 0, 159, 62, 26]
abbrev dktX4_fits_0 : List UInt8 := dkwX4_fits_0 ++ dktX4_fits_1
theorem dksX4_fits_0 : cX4_fits.data.toList.drop 0 = dktX4_fits_0 := by decide +kernel
theorem dksX4_fits_1 : cX4_fits.data.toList.drop 8 = dktX4_fits_1 := dk_seg dksX4_fits_0 8 rfl rfl
theorem dksX4_fits_2 : cX4_fits.data.toList.drop 72 = dktX4_fits_2 := dk_seg dksX4_fits_1 64 rfl rfl
theorem dksX4_fits_3 : cX4_fits.data.toList.drop 96 = dktX4_fits_3 := dk_seg dksX4_fits_2 24 rfl rfl
theorem dksX4_fits_4 : cX4_fits.data.toList.drop 120 = dktX4_fits_4 := dk_seg dksX4_fits_3 24 rfl rfl
theorem dksX4_fits_5 : cX4_fits.data.toList.drop 144 = dktX4_fits_5 := dk_seg dksX4_fits_4 24 rfl rfl
theorem dksX4_fits_6 : cX4_fits.data.toList.drop 168 = dktX4_fits_6 := dk_seg dksX4_fits_5 24 rfl rfl
theorem dksX4_fits_7 : cX4_fits.data.toList.drop 192 = dktX4_fits_7 := dk_seg dksX4_fits_6 24 rfl rfl
theorem dksX4_fits_8 : cX4_fits.data.toList.drop 215 = dktX4_fits_8 := dk_seg dksX4_fits_7 23 rfl rfl
theorem dksX4_fits_9 : cX4_fits.data.toList.drop 239 = dktX4_fits_9 := dk_seg dksX4_fits_8 24 rfl rfl
theorem dksX4_fits_10 : cX4_fits.data.toList.drop 261 = dktX4_fits_10 := dk_seg dksX4_fits_9 22 rfl rfl
theorem dksX4_fits_11 : cX4_fits.data.toList.drop 284 = dktX4_fits_11 := dk_seg dksX4_fits_10 23 rfl rfl
theorem dX4_fits_0 : decode cX4_fits 0 = .ok (.iload_n 2, 1) := dk_28 (dk_at dksX4_fits_0 0 rfl rfl)
theorem dX4_fits_1 : decode cX4_fits 1 = .ok (.iconst 0, 1) := dk_3 (dk_at dksX4_fits_0 1 rfl rfl)
theorem dX4_fits_2 : decode cX4_fits 2 = .ok (.iconst 5, 1) := dk_8 (dk_at dksX4_fits_0 2 rfl rfl)
theorem dX4_fits_3 : decode cX4_fits 3 = .ok (.invokestatic 159, 3) := dk_184 0 159 (dk_at dksX4_fits_0 3 rfl rfl)
theorem dX4_fits_6 : decode cX4_fits 6 = .ok (.istore_n 3, 1) := dk_62 (dk_at dksX4_fits_0 6 rfl rfl)
theorem dX4_fits_7 : decode cX4_fits 7 = .ok (.iload_n 0, 1) := dk_26 (dk_at dksX4_fits_0 7 rfl rfl)
theorem dX4_fits_8 : decode cX4_fits 8 = .ok (.tableswitch 275 1 12 #[64, 64, 84, 110, 135, 160, 184, 275, 204, 135, 229, 249], 64) := by decide +kernel
theorem dX4_fits_72 : decode cX4_fits 72 = .ok (.iload_n 1, 1) := dk_27 (dk_at dksX4_fits_2 0 rfl rfl)
theorem dX4_fits_73 : decode cX4_fits 73 = .ok (.iconst 0, 1) := dk_3 (dk_at dksX4_fits_2 1 rfl rfl)
theorem dX4_fits_74 : decode cX4_fits 74 = .ok (.bipush 7, 2) := dk_16 7 (dk_at dksX4_fits_2 2 rfl rfl)
theorem dX4_fits_76 : decode cX4_fits 76 = .ok (.invokestatic 159, 3) := dk_184 0 159 (dk_at dksX4_fits_2 4 rfl rfl)
theorem dX4_fits_79 : decode cX4_fits 79 = .ok (.ifCond .eq 11, 3) := dk_153 0 11 (dk_at dksX4_fits_2 7 rfl rfl)
theorem dX4_fits_82 : decode cX4_fits 82 = .ok (.iload_n 3, 1) := dk_29 (dk_at dksX4_fits_2 10 rfl rfl)
theorem dX4_fits_83 : decode cX4_fits 83 = .ok (.ifCond .eq 7, 3) := dk_153 0 7 (dk_at dksX4_fits_2 11 rfl rfl)
theorem dX4_fits_86 : decode cX4_fits 86 = .ok (.iconst 1, 1) := dk_4 (dk_at dksX4_fits_2 14 rfl rfl)
theorem dX4_fits_87 : decode cX4_fits 87 = .ok (.goto 4, 3) := dk_167 0 4 (dk_at dksX4_fits_2 15 rfl rfl)
theorem dX4_fits_90 : decode cX4_fits 90 = .ok (.iconst 0, 1) := dk_3 (dk_at dksX4_fits_2 18 rfl rfl)
theorem dX4_fits_91 : decode cX4_fits 91 = .ok (.ireturn, 1) := dk_172 (dk_at dksX4_fits_2 19 rfl rfl)
theorem dX4_fits_92 : decode cX4_fits 92 = .ok (.iload_n 1, 1) := dk_27 (dk_at dksX4_fits_2 20 rfl rfl)
theorem dX4_fits_93 : decode cX4_fits 93 = .ok (.iconst 0, 1) := dk_3 (dk_at dksX4_fits_2 21 rfl rfl)
theorem dX4_fits_94 : decode cX4_fits 94 = .ok (.bipush 7, 2) := dk_16 7 (dk_at dksX4_fits_2 22 rfl rfl)
theorem dX4_fits_96 : decode cX4_fits 96 = .ok (.invokestatic 159, 3) := dk_184 0 159 (dk_at dksX4_fits_3 0 rfl rfl)
theorem dX4_fits_99 : decode cX4_fits 99 = .ok (.ifCond .eq 17, 3) := dk_153 0 17 (dk_at dksX4_fits_3 3 rfl rfl)
theorem dX4_fits_102 : decode cX4_fits 102 = .ok (.iload_n 2, 1) := dk_28 (dk_at dksX4_fits_3 6 rfl rfl)
theorem dX4_fits_103 : decode cX4_fits 103 = .ok (.iconst 0, 1) := dk_3 (dk_at dksX4_fits_3 7 rfl rfl)
theorem dX4_fits_104 : decode cX4_fits 104 = .ok (.bipush 7, 2) := dk_16 7 (dk_at dksX4_fits_3 8 rfl rfl)
theorem dX4_fits_106 : decode cX4_fits 106 = .ok (.invokestatic 159, 3) := dk_184 0 159 (dk_at dksX4_fits_3 10 rfl rfl)
theorem dX4_fits_109 : decode cX4_fits 109 = .ok (.ifCond .eq 7, 3) := dk_153 0 7 (dk_at dksX4_fits_3 13 rfl rfl)
theorem dX4_fits_112 : decode cX4_fits 112 = .ok (.iconst 1, 1) := dk_4 (dk_at dksX4_fits_3 16 rfl rfl)
theorem dX4_fits_113 : decode cX4_fits 113 = .ok (.goto 4, 3) := dk_167 0 4 (dk_at dksX4_fits_3 17 rfl rfl)
theorem dX4_fits_116 : decode cX4_fits 116 = .ok (.iconst 0, 1) := dk_3 (dk_at dksX4_fits_3 20 rfl rfl)
theorem dX4_fits_117 : decode cX4_fits 117 = .ok (.ireturn, 1) := dk_172 (dk_at dksX4_fits_3 21 rfl rfl)
theorem dX4_fits_118 : decode cX4_fits 118 = .ok (.iload_n 1, 1) := dk_27 (dk_at dksX4_fits_3 22 rfl rfl)
theorem dX4_fits_119 : decode cX4_fits 119 = .ok (.iconst 0, 1) := dk_3 (dk_at dksX4_fits_3 23 rfl rfl)
theorem dX4_fits_120 : decode cX4_fits 120 = .ok (.iconst 5, 1) := dk_8 (dk_at dksX4_fits_4 0 rfl rfl)
theorem dX4_fits_121 : decode cX4_fits 121 = .ok (.invokestatic 159, 3) := dk_184 0 159 (dk_at dksX4_fits_4 1 rfl rfl)
theorem dX4_fits_124 : decode cX4_fits 124 = .ok (.ifCond .eq 17, 3) := dk_153 0 17 (dk_at dksX4_fits_4 4 rfl rfl)
theorem dX4_fits_127 : decode cX4_fits 127 = .ok (.iload_n 2, 1) := dk_28 (dk_at dksX4_fits_4 7 rfl rfl)
theorem dX4_fits_128 : decode cX4_fits 128 = .ok (.iconst 1, 1) := dk_4 (dk_at dksX4_fits_4 8 rfl rfl)
theorem dX4_fits_129 : decode cX4_fits 129 = .ok (.bipush 100, 2) := dk_16 100 (dk_at dksX4_fits_4 9 rfl rfl)
theorem dX4_fits_131 : decode cX4_fits 131 = .ok (.invokestatic 159, 3) := dk_184 0 159 (dk_at dksX4_fits_4 11 rfl rfl)
theorem dX4_fits_134 : decode cX4_fits 134 = .ok (.ifCond .eq 7, 3) := dk_153 0 7 (dk_at dksX4_fits_4 14 rfl rfl)
theorem dX4_fits_137 : decode cX4_fits 137 = .ok (.iconst 1, 1) := dk_4 (dk_at dksX4_fits_4 17 rfl rfl)
theorem dX4_fits_138 : decode cX4_fits 138 = .ok (.goto 4, 3) := dk_167 0 4 (dk_at dksX4_fits_4 18 rfl rfl)
theorem dX4_fits_141 : decode cX4_fits 141 = .ok (.iconst 0, 1) := dk_3 (dk_at dksX4_fits_4 21 rfl rfl)
theorem dX4_fits_142 : decode cX4_fits 142 = .ok (.ireturn, 1) := dk_172 (dk_at dksX4_fits_4 22 rfl rfl)
theorem dX4_fits_143 : decode cX4_fits 143 = .ok (.iload_n 1, 1) := dk_27 (dk_at dksX4_fits_4 23 rfl rfl)
theorem dX4_fits_144 : decode cX4_fits 144 = .ok (.iconst 0, 1) := dk_3 (dk_at dksX4_fits_5 0 rfl rfl)
theorem dX4_fits_145 : decode cX4_fits 145 = .ok (.bipush 7, 2) := dk_16 7 (dk_at dksX4_fits_5 1 rfl rfl)
theorem dX4_fits_147 : decode cX4_fits 147 = .ok (.invokestatic 159, 3) := dk_184 0 159 (dk_at dksX4_fits_5 3 rfl rfl)
theorem dX4_fits_150 : decode cX4_fits 150 = .ok (.ifCond .eq 16, 3) := dk_153 0 16 (dk_at dksX4_fits_5 6 rfl rfl)
theorem dX4_fits_153 : decode cX4_fits 153 = .ok (.iload_n 2, 1) := dk_28 (dk_at dksX4_fits_5 9 rfl rfl)
theorem dX4_fits_154 : decode cX4_fits 154 = .ok (.iconst 0, 1) := dk_3 (dk_at dksX4_fits_5 10 rfl rfl)
theorem dX4_fits_155 : decode cX4_fits 155 = .ok (.iconst 1, 1) := dk_4 (dk_at dksX4_fits_5 11 rfl rfl)
theorem dX4_fits_156 : decode cX4_fits 156 = .ok (.invokestatic 159, 3) := dk_184 0 159 (dk_at dksX4_fits_5 12 rfl rfl)
theorem dX4_fits_159 : decode cX4_fits 159 = .ok (.ifCond .eq 7, 3) := dk_153 0 7 (dk_at dksX4_fits_5 15 rfl rfl)
theorem dX4_fits_162 : decode cX4_fits 162 = .ok (.iconst 1, 1) := dk_4 (dk_at dksX4_fits_5 18 rfl rfl)
theorem dX4_fits_163 : decode cX4_fits 163 = .ok (.goto 4, 3) := dk_167 0 4 (dk_at dksX4_fits_5 19 rfl rfl)
theorem dX4_fits_166 : decode cX4_fits 166 = .ok (.iconst 0, 1) := dk_3 (dk_at dksX4_fits_5 22 rfl rfl)
theorem dX4_fits_167 : decode cX4_fits 167 = .ok (.ireturn, 1) := dk_172 (dk_at dksX4_fits_5 23 rfl rfl)
theorem dX4_fits_168 : decode cX4_fits 168 = .ok (.iload_n 1, 1) := dk_27 (dk_at dksX4_fits_6 0 rfl rfl)
theorem dX4_fits_169 : decode cX4_fits 169 = .ok (.iconst 0, 1) := dk_3 (dk_at dksX4_fits_6 1 rfl rfl)
theorem dX4_fits_170 : decode cX4_fits 170 = .ok (.iconst 3, 1) := dk_6 (dk_at dksX4_fits_6 2 rfl rfl)
theorem dX4_fits_171 : decode cX4_fits 171 = .ok (.invokestatic 159, 3) := dk_184 0 159 (dk_at dksX4_fits_6 3 rfl rfl)
theorem dX4_fits_174 : decode cX4_fits 174 = .ok (.ifCond .eq 16, 3) := dk_153 0 16 (dk_at dksX4_fits_6 6 rfl rfl)
theorem dX4_fits_177 : decode cX4_fits 177 = .ok (.iload_n 2, 1) := dk_28 (dk_at dksX4_fits_6 9 rfl rfl)
theorem dX4_fits_178 : decode cX4_fits 178 = .ok (.iconst 0, 1) := dk_3 (dk_at dksX4_fits_6 10 rfl rfl)
theorem dX4_fits_179 : decode cX4_fits 179 = .ok (.iconst 3, 1) := dk_6 (dk_at dksX4_fits_6 11 rfl rfl)
theorem dX4_fits_180 : decode cX4_fits 180 = .ok (.invokestatic 159, 3) := dk_184 0 159 (dk_at dksX4_fits_6 12 rfl rfl)
theorem dX4_fits_183 : decode cX4_fits 183 = .ok (.ifCond .eq 7, 3) := dk_153 0 7 (dk_at dksX4_fits_6 15 rfl rfl)
theorem dX4_fits_186 : decode cX4_fits 186 = .ok (.iconst 1, 1) := dk_4 (dk_at dksX4_fits_6 18 rfl rfl)
theorem dX4_fits_187 : decode cX4_fits 187 = .ok (.goto 4, 3) := dk_167 0 4 (dk_at dksX4_fits_6 19 rfl rfl)
theorem dX4_fits_190 : decode cX4_fits 190 = .ok (.iconst 0, 1) := dk_3 (dk_at dksX4_fits_6 22 rfl rfl)
theorem dX4_fits_191 : decode cX4_fits 191 = .ok (.ireturn, 1) := dk_172 (dk_at dksX4_fits_6 23 rfl rfl)
theorem dX4_fits_192 : decode cX4_fits 192 = .ok (.iload_n 1, 1) := dk_27 (dk_at dksX4_fits_7 0 rfl rfl)
theorem dX4_fits_193 : decode cX4_fits 193 = .ok (.iconst 0, 1) := dk_3 (dk_at dksX4_fits_7 1 rfl rfl)
theorem dX4_fits_194 : decode cX4_fits 194 = .ok (.bipush 7, 2) := dk_16 7 (dk_at dksX4_fits_7 2 rfl rfl)
theorem dX4_fits_196 : decode cX4_fits 196 = .ok (.invokestatic 159, 3) := dk_184 0 159 (dk_at dksX4_fits_7 4 rfl rfl)
theorem dX4_fits_199 : decode cX4_fits 199 = .ok (.ifCond .eq 11, 3) := dk_153 0 11 (dk_at dksX4_fits_7 7 rfl rfl)
theorem dX4_fits_202 : decode cX4_fits 202 = .ok (.iload_n 2, 1) := dk_28 (dk_at dksX4_fits_7 10 rfl rfl)
theorem dX4_fits_203 : decode cX4_fits 203 = .ok (.ifCond .ne 7, 3) := dk_154 0 7 (dk_at dksX4_fits_7 11 rfl rfl)
theorem dX4_fits_206 : decode cX4_fits 206 = .ok (.iconst 1, 1) := dk_4 (dk_at dksX4_fits_7 14 rfl rfl)
theorem dX4_fits_207 : decode cX4_fits 207 = .ok (.goto 4, 3) := dk_167 0 4 (dk_at dksX4_fits_7 15 rfl rfl)
theorem dX4_fits_210 : decode cX4_fits 210 = .ok (.iconst 0, 1) := dk_3 (dk_at dksX4_fits_7 18 rfl rfl)
theorem dX4_fits_211 : decode cX4_fits 211 = .ok (.ireturn, 1) := dk_172 (dk_at dksX4_fits_7 19 rfl rfl)
theorem dX4_fits_212 : decode cX4_fits 212 = .ok (.iload_n 1, 1) := dk_27 (dk_at dksX4_fits_7 20 rfl rfl)
theorem dX4_fits_213 : decode cX4_fits 213 = .ok (.iconst 0, 1) := dk_3 (dk_at dksX4_fits_7 21 rfl rfl)
theorem dX4_fits_214 : decode cX4_fits 214 = .ok (.iconst 1, 1) := dk_4 (dk_at dksX4_fits_7 22 rfl rfl)
theorem dX4_fits_215 : decode cX4_fits 215 = .ok (.invokestatic 159, 3) := dk_184 0 159 (dk_at dksX4_fits_8 0 rfl rfl)
theorem dX4_fits_218 : decode cX4_fits 218 = .ok (.ifCond .eq 17, 3) := dk_153 0 17 (dk_at dksX4_fits_8 3 rfl rfl)
theorem dX4_fits_221 : decode cX4_fits 221 = .ok (.iload_n 2, 1) := dk_28 (dk_at dksX4_fits_8 6 rfl rfl)
theorem dX4_fits_222 : decode cX4_fits 222 = .ok (.iconst 0, 1) := dk_3 (dk_at dksX4_fits_8 7 rfl rfl)
theorem dX4_fits_223 : decode cX4_fits 223 = .ok (.ldc 171, 2) := dk_18 171 (dk_at dksX4_fits_8 8 rfl rfl)
theorem dX4_fits_225 : decode cX4_fits 225 = .ok (.invokestatic 159, 3) := dk_184 0 159 (dk_at dksX4_fits_8 10 rfl rfl)
theorem dX4_fits_228 : decode cX4_fits 228 = .ok (.ifCond .eq 7, 3) := dk_153 0 7 (dk_at dksX4_fits_8 13 rfl rfl)
theorem dX4_fits_231 : decode cX4_fits 231 = .ok (.iconst 1, 1) := dk_4 (dk_at dksX4_fits_8 16 rfl rfl)
theorem dX4_fits_232 : decode cX4_fits 232 = .ok (.goto 4, 3) := dk_167 0 4 (dk_at dksX4_fits_8 17 rfl rfl)
theorem dX4_fits_235 : decode cX4_fits 235 = .ok (.iconst 0, 1) := dk_3 (dk_at dksX4_fits_8 20 rfl rfl)
theorem dX4_fits_236 : decode cX4_fits 236 = .ok (.ireturn, 1) := dk_172 (dk_at dksX4_fits_8 21 rfl rfl)
theorem dX4_fits_237 : decode cX4_fits 237 = .ok (.iload_n 1, 1) := dk_27 (dk_at dksX4_fits_8 22 rfl rfl)
theorem dX4_fits_238 : decode cX4_fits 238 = .ok (.iconst 0, 1) := dk_3 (dk_at dksX4_fits_8 23 rfl rfl)
theorem dX4_fits_239 : decode cX4_fits 239 = .ok (.bipush 7, 2) := dk_16 7 (dk_at dksX4_fits_9 0 rfl rfl)
theorem dX4_fits_241 : decode cX4_fits 241 = .ok (.invokestatic 159, 3) := dk_184 0 159 (dk_at dksX4_fits_9 2 rfl rfl)
theorem dX4_fits_244 : decode cX4_fits 244 = .ok (.ifCond .eq 11, 3) := dk_153 0 11 (dk_at dksX4_fits_9 5 rfl rfl)
theorem dX4_fits_247 : decode cX4_fits 247 = .ok (.iload_n 3, 1) := dk_29 (dk_at dksX4_fits_9 8 rfl rfl)
theorem dX4_fits_248 : decode cX4_fits 248 = .ok (.ifCond .eq 7, 3) := dk_153 0 7 (dk_at dksX4_fits_9 9 rfl rfl)
theorem dX4_fits_251 : decode cX4_fits 251 = .ok (.iconst 1, 1) := dk_4 (dk_at dksX4_fits_9 12 rfl rfl)
theorem dX4_fits_252 : decode cX4_fits 252 = .ok (.goto 4, 3) := dk_167 0 4 (dk_at dksX4_fits_9 13 rfl rfl)
theorem dX4_fits_255 : decode cX4_fits 255 = .ok (.iconst 0, 1) := dk_3 (dk_at dksX4_fits_9 16 rfl rfl)
theorem dX4_fits_256 : decode cX4_fits 256 = .ok (.ireturn, 1) := dk_172 (dk_at dksX4_fits_9 17 rfl rfl)
theorem dX4_fits_257 : decode cX4_fits 257 = .ok (.iload_n 1, 1) := dk_27 (dk_at dksX4_fits_9 18 rfl rfl)
theorem dX4_fits_258 : decode cX4_fits 258 = .ok (.iconst 0, 1) := dk_3 (dk_at dksX4_fits_9 19 rfl rfl)
theorem dX4_fits_259 : decode cX4_fits 259 = .ok (.bipush 7, 2) := dk_16 7 (dk_at dksX4_fits_9 20 rfl rfl)
theorem dX4_fits_261 : decode cX4_fits 261 = .ok (.invokestatic 159, 3) := dk_184 0 159 (dk_at dksX4_fits_10 0 rfl rfl)
theorem dX4_fits_264 : decode cX4_fits 264 = .ok (.ifCond .eq 17, 3) := dk_153 0 17 (dk_at dksX4_fits_10 3 rfl rfl)
theorem dX4_fits_267 : decode cX4_fits 267 = .ok (.iload_n 2, 1) := dk_28 (dk_at dksX4_fits_10 6 rfl rfl)
theorem dX4_fits_268 : decode cX4_fits 268 = .ok (.iconst 1, 1) := dk_4 (dk_at dksX4_fits_10 7 rfl rfl)
theorem dX4_fits_269 : decode cX4_fits 269 = .ok (.bipush 30, 2) := dk_16 30 (dk_at dksX4_fits_10 8 rfl rfl)
theorem dX4_fits_271 : decode cX4_fits 271 = .ok (.invokestatic 159, 3) := dk_184 0 159 (dk_at dksX4_fits_10 10 rfl rfl)
theorem dX4_fits_274 : decode cX4_fits 274 = .ok (.ifCond .eq 7, 3) := dk_153 0 7 (dk_at dksX4_fits_10 13 rfl rfl)
theorem dX4_fits_277 : decode cX4_fits 277 = .ok (.iconst 1, 1) := dk_4 (dk_at dksX4_fits_10 16 rfl rfl)
theorem dX4_fits_278 : decode cX4_fits 278 = .ok (.goto 4, 3) := dk_167 0 4 (dk_at dksX4_fits_10 17 rfl rfl)
theorem dX4_fits_281 : decode cX4_fits 281 = .ok (.iconst 0, 1) := dk_3 (dk_at dksX4_fits_10 20 rfl rfl)
theorem dX4_fits_282 : decode cX4_fits 282 = .ok (.ireturn, 1) := dk_172 (dk_at dksX4_fits_10 21 rfl rfl)
theorem dX4_fits_283 : decode cX4_fits 283 = .ok (.iload_n 1, 1) := dk_27 (dk_at dksX4_fits_10 22 rfl rfl)
theorem dX4_fits_284 : decode cX4_fits 284 = .ok (.ifCond .ne 11, 3) := dk_154 0 11 (dk_at dksX4_fits_11 0 rfl rfl)
theorem dX4_fits_287 : decode cX4_fits 287 = .ok (.iload_n 2, 1) := dk_28 (dk_at dksX4_fits_11 3 rfl rfl)
theorem dX4_fits_288 : decode cX4_fits 288 = .ok (.ifCond .ne 7, 3) := dk_154 0 7 (dk_at dksX4_fits_11 4 rfl rfl)
theorem dX4_fits_291 : decode cX4_fits 291 = .ok (.iconst 1, 1) := dk_4 (dk_at dksX4_fits_11 7 rfl rfl)
theorem dX4_fits_292 : decode cX4_fits 292 = .ok (.goto 4, 3) := dk_167 0 4 (dk_at dksX4_fits_11 8 rfl rfl)
theorem dX4_fits_295 : decode cX4_fits 295 = .ok (.iconst 0, 1) := dk_3 (dk_at dksX4_fits_11 11 rfl rfl)
theorem dX4_fits_296 : decode cX4_fits 296 = .ok (.ireturn, 1) := dk_172 (dk_at dksX4_fits_11 12 rfl rfl)
abbrev cX4_set : ByteArray := prog_23_method_18_code
def yX4_set : MethodName := ⟨RX4, "set", "(IIII)I"⟩
def dkwX4_set_2 : List UInt8 := [16, 20, 27, 104, 28, 96, 21, 4, 79, 3, 172]
abbrev dktX4_set_2 : List UInt8 := dkwX4_set_2 ++ []
def dkwX4_set_1 : List UInt8 := [184, 0, 176, 154, 0, 5, 2, 172, 42, 180, 0, 34, 16, 20, 27, 104, 28, 96, 29, 79, 42, 180, 0, 37]
abbrev dktX4_set_1 : List UInt8 := dkwX4_set_1 ++ dktX4_set_2
def dkwX4_set_0 : List UInt8 := [42, 27, 28, 182, 0, 179, 153, 0, 23, 42, 180, 0, 28, 16, 20, 27, 104, 28, 96, 46, 29, 21, 4]
abbrev dktX4_set_0 : List UInt8 := dkwX4_set_0 ++ dktX4_set_1
theorem dksX4_set_0 : cX4_set.data.toList.drop 0 = dktX4_set_0 := by decide +kernel
theorem dksX4_set_1 : cX4_set.data.toList.drop 23 = dktX4_set_1 := dk_seg dksX4_set_0 23 rfl rfl
theorem dksX4_set_2 : cX4_set.data.toList.drop 47 = dktX4_set_2 := dk_seg dksX4_set_1 24 rfl rfl
theorem dX4_set_0 : decode cX4_set 0 = .ok (.aload_n 0, 1) := dk_42 (dk_at dksX4_set_0 0 rfl rfl)
theorem dX4_set_1 : decode cX4_set 1 = .ok (.iload_n 1, 1) := dk_27 (dk_at dksX4_set_0 1 rfl rfl)
theorem dX4_set_2 : decode cX4_set 2 = .ok (.iload_n 2, 1) := dk_28 (dk_at dksX4_set_0 2 rfl rfl)
theorem dX4_set_3 : decode cX4_set 3 = .ok (.invokevirtual 179, 3) := dk_182 0 179 (dk_at dksX4_set_0 3 rfl rfl)
theorem dX4_set_6 : decode cX4_set 6 = .ok (.ifCond .eq 23, 3) := dk_153 0 23 (dk_at dksX4_set_0 6 rfl rfl)
theorem dX4_set_9 : decode cX4_set 9 = .ok (.aload_n 0, 1) := dk_42 (dk_at dksX4_set_0 9 rfl rfl)
theorem dX4_set_10 : decode cX4_set 10 = .ok (.getfield 28, 3) := dk_180 0 28 (dk_at dksX4_set_0 10 rfl rfl)
theorem dX4_set_13 : decode cX4_set 13 = .ok (.bipush 20, 2) := dk_16 20 (dk_at dksX4_set_0 13 rfl rfl)
theorem dX4_set_15 : decode cX4_set 15 = .ok (.iload_n 1, 1) := dk_27 (dk_at dksX4_set_0 15 rfl rfl)
theorem dX4_set_16 : decode cX4_set 16 = .ok (.imul, 1) := dk_104 (dk_at dksX4_set_0 16 rfl rfl)
theorem dX4_set_17 : decode cX4_set 17 = .ok (.iload_n 2, 1) := dk_28 (dk_at dksX4_set_0 17 rfl rfl)
theorem dX4_set_18 : decode cX4_set 18 = .ok (.iadd, 1) := dk_96 (dk_at dksX4_set_0 18 rfl rfl)
theorem dX4_set_19 : decode cX4_set 19 = .ok (.iaload, 1) := dk_46 (dk_at dksX4_set_0 19 rfl rfl)
theorem dX4_set_20 : decode cX4_set 20 = .ok (.iload_n 3, 1) := dk_29 (dk_at dksX4_set_0 20 rfl rfl)
theorem dX4_set_21 : decode cX4_set 21 = .ok (.iload 4, 2) := dk_21 4 (dk_at dksX4_set_0 21 rfl rfl)
theorem dX4_set_23 : decode cX4_set 23 = .ok (.invokestatic 176, 3) := dk_184 0 176 (dk_at dksX4_set_1 0 rfl rfl)
theorem dX4_set_26 : decode cX4_set 26 = .ok (.ifCond .ne 5, 3) := dk_154 0 5 (dk_at dksX4_set_1 3 rfl rfl)
theorem dX4_set_29 : decode cX4_set 29 = .ok (.iconst (-1), 1) := dk_2 (dk_at dksX4_set_1 6 rfl rfl)
theorem dX4_set_30 : decode cX4_set 30 = .ok (.ireturn, 1) := dk_172 (dk_at dksX4_set_1 7 rfl rfl)
theorem dX4_set_31 : decode cX4_set 31 = .ok (.aload_n 0, 1) := dk_42 (dk_at dksX4_set_1 8 rfl rfl)
theorem dX4_set_32 : decode cX4_set 32 = .ok (.getfield 34, 3) := dk_180 0 34 (dk_at dksX4_set_1 9 rfl rfl)
theorem dX4_set_35 : decode cX4_set 35 = .ok (.bipush 20, 2) := dk_16 20 (dk_at dksX4_set_1 12 rfl rfl)
theorem dX4_set_37 : decode cX4_set 37 = .ok (.iload_n 1, 1) := dk_27 (dk_at dksX4_set_1 14 rfl rfl)
theorem dX4_set_38 : decode cX4_set 38 = .ok (.imul, 1) := dk_104 (dk_at dksX4_set_1 15 rfl rfl)
theorem dX4_set_39 : decode cX4_set 39 = .ok (.iload_n 2, 1) := dk_28 (dk_at dksX4_set_1 16 rfl rfl)
theorem dX4_set_40 : decode cX4_set 40 = .ok (.iadd, 1) := dk_96 (dk_at dksX4_set_1 17 rfl rfl)
theorem dX4_set_41 : decode cX4_set 41 = .ok (.iload_n 3, 1) := dk_29 (dk_at dksX4_set_1 18 rfl rfl)
theorem dX4_set_42 : decode cX4_set 42 = .ok (.iastore, 1) := dk_79 (dk_at dksX4_set_1 19 rfl rfl)
theorem dX4_set_43 : decode cX4_set 43 = .ok (.aload_n 0, 1) := dk_42 (dk_at dksX4_set_1 20 rfl rfl)
theorem dX4_set_44 : decode cX4_set 44 = .ok (.getfield 37, 3) := dk_180 0 37 (dk_at dksX4_set_1 21 rfl rfl)
theorem dX4_set_47 : decode cX4_set 47 = .ok (.bipush 20, 2) := dk_16 20 (dk_at dksX4_set_2 0 rfl rfl)
theorem dX4_set_49 : decode cX4_set 49 = .ok (.iload_n 1, 1) := dk_27 (dk_at dksX4_set_2 2 rfl rfl)
theorem dX4_set_50 : decode cX4_set 50 = .ok (.imul, 1) := dk_104 (dk_at dksX4_set_2 3 rfl rfl)
theorem dX4_set_51 : decode cX4_set 51 = .ok (.iload_n 2, 1) := dk_28 (dk_at dksX4_set_2 4 rfl rfl)
theorem dX4_set_52 : decode cX4_set 52 = .ok (.iadd, 1) := dk_96 (dk_at dksX4_set_2 5 rfl rfl)
theorem dX4_set_53 : decode cX4_set 53 = .ok (.iload 4, 2) := dk_21 4 (dk_at dksX4_set_2 6 rfl rfl)
theorem dX4_set_55 : decode cX4_set 55 = .ok (.iastore, 1) := dk_79 (dk_at dksX4_set_2 8 rfl rfl)
theorem dX4_set_56 : decode cX4_set 56 = .ok (.iconst 0, 1) := dk_3 (dk_at dksX4_set_2 9 rfl rfl)
theorem dX4_set_57 : decode cX4_set 57 = .ok (.ireturn, 1) := dk_172 (dk_at dksX4_set_2 10 rfl rfl)
abbrev cX4_isAct : ByteArray := prog_23_method_17_code
def yX4_isAct : MethodName := ⟨RX4, "isAct", "(II)Z"⟩
def dkwX4_isAct_1 : List UInt8 := [4, 167, 0, 4, 3, 172]
abbrev dktX4_isAct_1 : List UInt8 := dkwX4_isAct_1 ++ []
def dkwX4_isAct_0 : List UInt8 := [42, 27, 182, 0, 172, 153, 0, 23, 28, 3, 42, 180, 0, 25, 27, 46, 4, 100, 184, 0, 159, 153, 0, 7]
abbrev dktX4_isAct_0 : List UInt8 := dkwX4_isAct_0 ++ dktX4_isAct_1
theorem dksX4_isAct_0 : cX4_isAct.data.toList.drop 0 = dktX4_isAct_0 := by decide +kernel
theorem dksX4_isAct_1 : cX4_isAct.data.toList.drop 24 = dktX4_isAct_1 := dk_seg dksX4_isAct_0 24 rfl rfl
theorem dX4_isAct_0 : decode cX4_isAct 0 = .ok (.aload_n 0, 1) := dk_42 (dk_at dksX4_isAct_0 0 rfl rfl)
theorem dX4_isAct_1 : decode cX4_isAct 1 = .ok (.iload_n 1, 1) := dk_27 (dk_at dksX4_isAct_0 1 rfl rfl)
theorem dX4_isAct_2 : decode cX4_isAct 2 = .ok (.invokevirtual 172, 3) := dk_182 0 172 (dk_at dksX4_isAct_0 2 rfl rfl)
theorem dX4_isAct_5 : decode cX4_isAct 5 = .ok (.ifCond .eq 23, 3) := dk_153 0 23 (dk_at dksX4_isAct_0 5 rfl rfl)
theorem dX4_isAct_8 : decode cX4_isAct 8 = .ok (.iload_n 2, 1) := dk_28 (dk_at dksX4_isAct_0 8 rfl rfl)
theorem dX4_isAct_9 : decode cX4_isAct 9 = .ok (.iconst 0, 1) := dk_3 (dk_at dksX4_isAct_0 9 rfl rfl)
theorem dX4_isAct_10 : decode cX4_isAct 10 = .ok (.aload_n 0, 1) := dk_42 (dk_at dksX4_isAct_0 10 rfl rfl)
theorem dX4_isAct_11 : decode cX4_isAct 11 = .ok (.getfield 25, 3) := dk_180 0 25 (dk_at dksX4_isAct_0 11 rfl rfl)
theorem dX4_isAct_14 : decode cX4_isAct 14 = .ok (.iload_n 1, 1) := dk_27 (dk_at dksX4_isAct_0 14 rfl rfl)
theorem dX4_isAct_15 : decode cX4_isAct 15 = .ok (.iaload, 1) := dk_46 (dk_at dksX4_isAct_0 15 rfl rfl)
theorem dX4_isAct_16 : decode cX4_isAct 16 = .ok (.iconst 1, 1) := dk_4 (dk_at dksX4_isAct_0 16 rfl rfl)
theorem dX4_isAct_17 : decode cX4_isAct 17 = .ok (.isub, 1) := dk_100 (dk_at dksX4_isAct_0 17 rfl rfl)
theorem dX4_isAct_18 : decode cX4_isAct 18 = .ok (.invokestatic 159, 3) := dk_184 0 159 (dk_at dksX4_isAct_0 18 rfl rfl)
theorem dX4_isAct_21 : decode cX4_isAct 21 = .ok (.ifCond .eq 7, 3) := dk_153 0 7 (dk_at dksX4_isAct_0 21 rfl rfl)
theorem dX4_isAct_24 : decode cX4_isAct 24 = .ok (.iconst 1, 1) := dk_4 (dk_at dksX4_isAct_1 0 rfl rfl)
theorem dX4_isAct_25 : decode cX4_isAct 25 = .ok (.goto 4, 3) := dk_167 0 4 (dk_at dksX4_isAct_1 1 rfl rfl)
theorem dX4_isAct_28 : decode cX4_isAct 28 = .ok (.iconst 0, 1) := dk_3 (dk_at dksX4_isAct_1 4 rfl rfl)
theorem dX4_isAct_29 : decode cX4_isAct 29 = .ok (.ireturn, 1) := dk_172 (dk_at dksX4_isAct_1 5 rfl rfl)
abbrev cX4_told : ByteArray := prog_23_method_19_code
def yX4_told : MethodName := ⟨RX4, "told", "(III)I"⟩
def dkwX4_told_3 : List UInt8 := [21, 4, 46, 167, 0, 4, 2, 172]
abbrev dktX4_told_3 : List UInt8 := dkwX4_told_3 ++ []
def dkwX4_told_2 : List UInt8 := [29, 5, 160, 0, 13, 42, 180, 0, 34, 21, 4, 46, 167, 0, 19, 29, 6, 160, 0, 13, 42, 180, 0, 37]
abbrev dktX4_told_2 : List UInt8 := dkwX4_told_2 ++ dktX4_told_3
def dkwX4_told_1 : List UInt8 := [180, 0, 28, 21, 4, 46, 167, 0, 49, 29, 4, 160, 0, 13, 42, 180, 0, 31, 21, 4, 46, 167, 0, 34]
abbrev dktX4_told_1 : List UInt8 := dkwX4_told_1 ++ dktX4_told_2
def dkwX4_told_0 : List UInt8 := [42, 27, 28, 182, 0, 179, 154, 0, 5, 2, 172, 16, 20, 27, 104, 28, 96, 54, 4, 29, 154, 0, 13, 42]
abbrev dktX4_told_0 : List UInt8 := dkwX4_told_0 ++ dktX4_told_1
theorem dksX4_told_0 : cX4_told.data.toList.drop 0 = dktX4_told_0 := by decide +kernel
theorem dksX4_told_1 : cX4_told.data.toList.drop 24 = dktX4_told_1 := dk_seg dksX4_told_0 24 rfl rfl
theorem dksX4_told_2 : cX4_told.data.toList.drop 48 = dktX4_told_2 := dk_seg dksX4_told_1 24 rfl rfl
theorem dksX4_told_3 : cX4_told.data.toList.drop 72 = dktX4_told_3 := dk_seg dksX4_told_2 24 rfl rfl
theorem dX4_told_0 : decode cX4_told 0 = .ok (.aload_n 0, 1) := dk_42 (dk_at dksX4_told_0 0 rfl rfl)
theorem dX4_told_1 : decode cX4_told 1 = .ok (.iload_n 1, 1) := dk_27 (dk_at dksX4_told_0 1 rfl rfl)
theorem dX4_told_2 : decode cX4_told 2 = .ok (.iload_n 2, 1) := dk_28 (dk_at dksX4_told_0 2 rfl rfl)
theorem dX4_told_3 : decode cX4_told 3 = .ok (.invokevirtual 179, 3) := dk_182 0 179 (dk_at dksX4_told_0 3 rfl rfl)
theorem dX4_told_6 : decode cX4_told 6 = .ok (.ifCond .ne 5, 3) := dk_154 0 5 (dk_at dksX4_told_0 6 rfl rfl)
theorem dX4_told_9 : decode cX4_told 9 = .ok (.iconst (-1), 1) := dk_2 (dk_at dksX4_told_0 9 rfl rfl)
theorem dX4_told_10 : decode cX4_told 10 = .ok (.ireturn, 1) := dk_172 (dk_at dksX4_told_0 10 rfl rfl)
theorem dX4_told_11 : decode cX4_told 11 = .ok (.bipush 20, 2) := dk_16 20 (dk_at dksX4_told_0 11 rfl rfl)
theorem dX4_told_13 : decode cX4_told 13 = .ok (.iload_n 1, 1) := dk_27 (dk_at dksX4_told_0 13 rfl rfl)
theorem dX4_told_14 : decode cX4_told 14 = .ok (.imul, 1) := dk_104 (dk_at dksX4_told_0 14 rfl rfl)
theorem dX4_told_15 : decode cX4_told 15 = .ok (.iload_n 2, 1) := dk_28 (dk_at dksX4_told_0 15 rfl rfl)
theorem dX4_told_16 : decode cX4_told 16 = .ok (.iadd, 1) := dk_96 (dk_at dksX4_told_0 16 rfl rfl)
theorem dX4_told_17 : decode cX4_told 17 = .ok (.istore 4, 2) := dk_54 4 (dk_at dksX4_told_0 17 rfl rfl)
theorem dX4_told_19 : decode cX4_told 19 = .ok (.iload_n 3, 1) := dk_29 (dk_at dksX4_told_0 19 rfl rfl)
theorem dX4_told_20 : decode cX4_told 20 = .ok (.ifCond .ne 13, 3) := dk_154 0 13 (dk_at dksX4_told_0 20 rfl rfl)
theorem dX4_told_23 : decode cX4_told 23 = .ok (.aload_n 0, 1) := dk_42 (dk_at dksX4_told_0 23 rfl rfl)
theorem dX4_told_24 : decode cX4_told 24 = .ok (.getfield 28, 3) := dk_180 0 28 (dk_at dksX4_told_1 0 rfl rfl)
theorem dX4_told_27 : decode cX4_told 27 = .ok (.iload 4, 2) := dk_21 4 (dk_at dksX4_told_1 3 rfl rfl)
theorem dX4_told_29 : decode cX4_told 29 = .ok (.iaload, 1) := dk_46 (dk_at dksX4_told_1 5 rfl rfl)
theorem dX4_told_30 : decode cX4_told 30 = .ok (.goto 49, 3) := dk_167 0 49 (dk_at dksX4_told_1 6 rfl rfl)
theorem dX4_told_33 : decode cX4_told 33 = .ok (.iload_n 3, 1) := dk_29 (dk_at dksX4_told_1 9 rfl rfl)
theorem dX4_told_34 : decode cX4_told 34 = .ok (.iconst 1, 1) := dk_4 (dk_at dksX4_told_1 10 rfl rfl)
theorem dX4_told_35 : decode cX4_told 35 = .ok (.if_icmp .ne 13, 3) := dk_160 0 13 (dk_at dksX4_told_1 11 rfl rfl)
theorem dX4_told_38 : decode cX4_told 38 = .ok (.aload_n 0, 1) := dk_42 (dk_at dksX4_told_1 14 rfl rfl)
theorem dX4_told_39 : decode cX4_told 39 = .ok (.getfield 31, 3) := dk_180 0 31 (dk_at dksX4_told_1 15 rfl rfl)
theorem dX4_told_42 : decode cX4_told 42 = .ok (.iload 4, 2) := dk_21 4 (dk_at dksX4_told_1 18 rfl rfl)
theorem dX4_told_44 : decode cX4_told 44 = .ok (.iaload, 1) := dk_46 (dk_at dksX4_told_1 20 rfl rfl)
theorem dX4_told_45 : decode cX4_told 45 = .ok (.goto 34, 3) := dk_167 0 34 (dk_at dksX4_told_1 21 rfl rfl)
theorem dX4_told_48 : decode cX4_told 48 = .ok (.iload_n 3, 1) := dk_29 (dk_at dksX4_told_2 0 rfl rfl)
theorem dX4_told_49 : decode cX4_told 49 = .ok (.iconst 2, 1) := dk_5 (dk_at dksX4_told_2 1 rfl rfl)
theorem dX4_told_50 : decode cX4_told 50 = .ok (.if_icmp .ne 13, 3) := dk_160 0 13 (dk_at dksX4_told_2 2 rfl rfl)
theorem dX4_told_53 : decode cX4_told 53 = .ok (.aload_n 0, 1) := dk_42 (dk_at dksX4_told_2 5 rfl rfl)
theorem dX4_told_54 : decode cX4_told 54 = .ok (.getfield 34, 3) := dk_180 0 34 (dk_at dksX4_told_2 6 rfl rfl)
theorem dX4_told_57 : decode cX4_told 57 = .ok (.iload 4, 2) := dk_21 4 (dk_at dksX4_told_2 9 rfl rfl)
theorem dX4_told_59 : decode cX4_told 59 = .ok (.iaload, 1) := dk_46 (dk_at dksX4_told_2 11 rfl rfl)
theorem dX4_told_60 : decode cX4_told 60 = .ok (.goto 19, 3) := dk_167 0 19 (dk_at dksX4_told_2 12 rfl rfl)
theorem dX4_told_63 : decode cX4_told 63 = .ok (.iload_n 3, 1) := dk_29 (dk_at dksX4_told_2 15 rfl rfl)
theorem dX4_told_64 : decode cX4_told 64 = .ok (.iconst 3, 1) := dk_6 (dk_at dksX4_told_2 16 rfl rfl)
theorem dX4_told_65 : decode cX4_told 65 = .ok (.if_icmp .ne 13, 3) := dk_160 0 13 (dk_at dksX4_told_2 17 rfl rfl)
theorem dX4_told_68 : decode cX4_told 68 = .ok (.aload_n 0, 1) := dk_42 (dk_at dksX4_told_2 20 rfl rfl)
theorem dX4_told_69 : decode cX4_told 69 = .ok (.getfield 37, 3) := dk_180 0 37 (dk_at dksX4_told_2 21 rfl rfl)
theorem dX4_told_72 : decode cX4_told 72 = .ok (.iload 4, 2) := dk_21 4 (dk_at dksX4_told_3 0 rfl rfl)
theorem dX4_told_74 : decode cX4_told 74 = .ok (.iaload, 1) := dk_46 (dk_at dksX4_told_3 2 rfl rfl)
theorem dX4_told_75 : decode cX4_told 75 = .ok (.goto 4, 3) := dk_167 0 4 (dk_at dksX4_told_3 3 rfl rfl)
theorem dX4_told_78 : decode cX4_told 78 = .ok (.iconst (-1), 1) := dk_2 (dk_at dksX4_told_3 6 rfl rfl)
theorem dX4_told_79 : decode cX4_told 79 = .ok (.ireturn, 1) := dk_172 (dk_at dksX4_told_3 7 rfl rfl)
abbrev cX4_run : ByteArray := prog_23_method_41_code
def yX4_run : MethodName := ⟨RX4, "run", "(I)I"⟩
def dkwX4_run_1 : List UInt8 := [27, 46, 167, 0, 7, 42, 180, 0, 198, 172]
abbrev dktX4_run_1 : List UInt8 := dkwX4_run_1 ++ []
def dkwX4_run_0 : List UInt8 := [42, 27, 182, 0, 172, 154, 0, 5, 2, 172, 42, 27, 182, 1, 24, 16, 254, 160, 0, 12, 42, 180, 0, 25]
abbrev dktX4_run_0 : List UInt8 := dkwX4_run_0 ++ dktX4_run_1
theorem dksX4_run_0 : cX4_run.data.toList.drop 0 = dktX4_run_0 := by decide +kernel
theorem dksX4_run_1 : cX4_run.data.toList.drop 24 = dktX4_run_1 := dk_seg dksX4_run_0 24 rfl rfl
theorem dX4_run_0 : decode cX4_run 0 = .ok (.aload_n 0, 1) := dk_42 (dk_at dksX4_run_0 0 rfl rfl)
theorem dX4_run_1 : decode cX4_run 1 = .ok (.iload_n 1, 1) := dk_27 (dk_at dksX4_run_0 1 rfl rfl)
theorem dX4_run_2 : decode cX4_run 2 = .ok (.invokevirtual 172, 3) := dk_182 0 172 (dk_at dksX4_run_0 2 rfl rfl)
theorem dX4_run_5 : decode cX4_run 5 = .ok (.ifCond .ne 5, 3) := dk_154 0 5 (dk_at dksX4_run_0 5 rfl rfl)
theorem dX4_run_8 : decode cX4_run 8 = .ok (.iconst (-1), 1) := dk_2 (dk_at dksX4_run_0 8 rfl rfl)
theorem dX4_run_9 : decode cX4_run 9 = .ok (.ireturn, 1) := dk_172 (dk_at dksX4_run_0 9 rfl rfl)
theorem dX4_run_10 : decode cX4_run 10 = .ok (.aload_n 0, 1) := dk_42 (dk_at dksX4_run_0 10 rfl rfl)
theorem dX4_run_11 : decode cX4_run 11 = .ok (.iload_n 1, 1) := dk_27 (dk_at dksX4_run_0 11 rfl rfl)
theorem dX4_run_12 : decode cX4_run 12 = .ok (.invokevirtual 280, 3) := dk_182 1 24 (dk_at dksX4_run_0 12 rfl rfl)
theorem dX4_run_15 : decode cX4_run 15 = .ok (.bipush (-2), 2) := dk_16 254 (dk_at dksX4_run_0 15 rfl rfl)
theorem dX4_run_17 : decode cX4_run 17 = .ok (.if_icmp .ne 12, 3) := dk_160 0 12 (dk_at dksX4_run_0 17 rfl rfl)
theorem dX4_run_20 : decode cX4_run 20 = .ok (.aload_n 0, 1) := dk_42 (dk_at dksX4_run_0 20 rfl rfl)
theorem dX4_run_21 : decode cX4_run 21 = .ok (.getfield 25, 3) := dk_180 0 25 (dk_at dksX4_run_0 21 rfl rfl)
theorem dX4_run_24 : decode cX4_run 24 = .ok (.iload_n 1, 1) := dk_27 (dk_at dksX4_run_1 0 rfl rfl)
theorem dX4_run_25 : decode cX4_run 25 = .ok (.iaload, 1) := dk_46 (dk_at dksX4_run_1 1 rfl rfl)
theorem dX4_run_26 : decode cX4_run 26 = .ok (.goto 7, 3) := dk_167 0 7 (dk_at dksX4_run_1 2 rfl rfl)
theorem dX4_run_29 : decode cX4_run 29 = .ok (.aload_n 0, 1) := dk_42 (dk_at dksX4_run_1 5 rfl rfl)
theorem dX4_run_30 : decode cX4_run 30 = .ok (.getfield 198, 3) := dk_180 0 198 (dk_at dksX4_run_1 6 rfl rfl)
theorem dX4_run_33 : decode cX4_run 33 = .ok (.ireturn, 1) := dk_172 (dk_at dksX4_run_1 9 rfl rfl)
abbrev cX4_runsReal : ByteArray := prog_23_method_40_code
def yX4_runsReal : MethodName := ⟨RX4, "runsReal", "(I)I"⟩
def dkwX4_runsReal_2 : List UInt8 := [181, 0, 40, 42, 89, 180, 0, 143, 42, 180, 0, 235, 96, 181, 0, 143, 42, 180, 0, 40, 172]
abbrev dktX4_runsReal_2 : List UInt8 := dkwX4_runsReal_2 ++ []
def dkwX4_runsReal_1 : List UInt8 := [180, 0, 44, 28, 42, 180, 0, 16, 28, 46, 79, 132, 2, 1, 167, 255, 233, 42, 42, 27, 182, 1, 21]
abbrev dktX4_runsReal_1 : List UInt8 := dkwX4_runsReal_1 ++ dktX4_runsReal_2
def dkwX4_runsReal_0 : List UInt8 := [42, 3, 181, 0, 146, 42, 42, 180, 0, 137, 181, 0, 209, 3, 61, 28, 42, 180, 0, 137, 162, 0, 21, 42]
abbrev dktX4_runsReal_0 : List UInt8 := dkwX4_runsReal_0 ++ dktX4_runsReal_1
theorem dksX4_runsReal_0 : cX4_runsReal.data.toList.drop 0 = dktX4_runsReal_0 := by decide +kernel
theorem dksX4_runsReal_1 : cX4_runsReal.data.toList.drop 24 = dktX4_runsReal_1 := dk_seg dksX4_runsReal_0 24 rfl rfl
theorem dksX4_runsReal_2 : cX4_runsReal.data.toList.drop 47 = dktX4_runsReal_2 := dk_seg dksX4_runsReal_1 23 rfl rfl
theorem dX4_runsReal_0 : decode cX4_runsReal 0 = .ok (.aload_n 0, 1) := dk_42 (dk_at dksX4_runsReal_0 0 rfl rfl)
theorem dX4_runsReal_1 : decode cX4_runsReal 1 = .ok (.iconst 0, 1) := dk_3 (dk_at dksX4_runsReal_0 1 rfl rfl)
theorem dX4_runsReal_2 : decode cX4_runsReal 2 = .ok (.putfield 146, 3) := dk_181 0 146 (dk_at dksX4_runsReal_0 2 rfl rfl)
theorem dX4_runsReal_5 : decode cX4_runsReal 5 = .ok (.aload_n 0, 1) := dk_42 (dk_at dksX4_runsReal_0 5 rfl rfl)
theorem dX4_runsReal_6 : decode cX4_runsReal 6 = .ok (.aload_n 0, 1) := dk_42 (dk_at dksX4_runsReal_0 6 rfl rfl)
theorem dX4_runsReal_7 : decode cX4_runsReal 7 = .ok (.getfield 137, 3) := dk_180 0 137 (dk_at dksX4_runsReal_0 7 rfl rfl)
theorem dX4_runsReal_10 : decode cX4_runsReal 10 = .ok (.putfield 209, 3) := dk_181 0 209 (dk_at dksX4_runsReal_0 10 rfl rfl)
theorem dX4_runsReal_13 : decode cX4_runsReal 13 = .ok (.iconst 0, 1) := dk_3 (dk_at dksX4_runsReal_0 13 rfl rfl)
theorem dX4_runsReal_14 : decode cX4_runsReal 14 = .ok (.istore_n 2, 1) := dk_61 (dk_at dksX4_runsReal_0 14 rfl rfl)
theorem dX4_runsReal_15 : decode cX4_runsReal 15 = .ok (.iload_n 2, 1) := dk_28 (dk_at dksX4_runsReal_0 15 rfl rfl)
theorem dX4_runsReal_16 : decode cX4_runsReal 16 = .ok (.aload_n 0, 1) := dk_42 (dk_at dksX4_runsReal_0 16 rfl rfl)
theorem dX4_runsReal_17 : decode cX4_runsReal 17 = .ok (.getfield 137, 3) := dk_180 0 137 (dk_at dksX4_runsReal_0 17 rfl rfl)
theorem dX4_runsReal_20 : decode cX4_runsReal 20 = .ok (.if_icmp .ge 21, 3) := dk_162 0 21 (dk_at dksX4_runsReal_0 20 rfl rfl)
theorem dX4_runsReal_23 : decode cX4_runsReal 23 = .ok (.aload_n 0, 1) := dk_42 (dk_at dksX4_runsReal_0 23 rfl rfl)
theorem dX4_runsReal_24 : decode cX4_runsReal 24 = .ok (.getfield 44, 3) := dk_180 0 44 (dk_at dksX4_runsReal_1 0 rfl rfl)
theorem dX4_runsReal_27 : decode cX4_runsReal 27 = .ok (.iload_n 2, 1) := dk_28 (dk_at dksX4_runsReal_1 3 rfl rfl)
theorem dX4_runsReal_28 : decode cX4_runsReal 28 = .ok (.aload_n 0, 1) := dk_42 (dk_at dksX4_runsReal_1 4 rfl rfl)
theorem dX4_runsReal_29 : decode cX4_runsReal 29 = .ok (.getfield 16, 3) := dk_180 0 16 (dk_at dksX4_runsReal_1 5 rfl rfl)
theorem dX4_runsReal_32 : decode cX4_runsReal 32 = .ok (.iload_n 2, 1) := dk_28 (dk_at dksX4_runsReal_1 8 rfl rfl)
theorem dX4_runsReal_33 : decode cX4_runsReal 33 = .ok (.iaload, 1) := dk_46 (dk_at dksX4_runsReal_1 9 rfl rfl)
theorem dX4_runsReal_34 : decode cX4_runsReal 34 = .ok (.iastore, 1) := dk_79 (dk_at dksX4_runsReal_1 10 rfl rfl)
theorem dX4_runsReal_35 : decode cX4_runsReal 35 = .ok (.iinc 2 1, 3) := dk_132 2 1 (dk_at dksX4_runsReal_1 11 rfl rfl)
theorem dX4_runsReal_38 : decode cX4_runsReal 38 = .ok (.goto (-23), 3) := dk_167 255 233 (dk_at dksX4_runsReal_1 14 rfl rfl)
theorem dX4_runsReal_41 : decode cX4_runsReal 41 = .ok (.aload_n 0, 1) := dk_42 (dk_at dksX4_runsReal_1 17 rfl rfl)
theorem dX4_runsReal_42 : decode cX4_runsReal 42 = .ok (.aload_n 0, 1) := dk_42 (dk_at dksX4_runsReal_1 18 rfl rfl)
theorem dX4_runsReal_43 : decode cX4_runsReal 43 = .ok (.iload_n 1, 1) := dk_27 (dk_at dksX4_runsReal_1 19 rfl rfl)
theorem dX4_runsReal_44 : decode cX4_runsReal 44 = .ok (.invokevirtual 277, 3) := dk_182 1 21 (dk_at dksX4_runsReal_1 20 rfl rfl)
theorem dX4_runsReal_47 : decode cX4_runsReal 47 = .ok (.putfield 40, 3) := dk_181 0 40 (dk_at dksX4_runsReal_2 0 rfl rfl)
theorem dX4_runsReal_50 : decode cX4_runsReal 50 = .ok (.aload_n 0, 1) := dk_42 (dk_at dksX4_runsReal_2 3 rfl rfl)
theorem dX4_runsReal_51 : decode cX4_runsReal 51 = .ok (.dup, 1) := dk_89 (dk_at dksX4_runsReal_2 4 rfl rfl)
theorem dX4_runsReal_52 : decode cX4_runsReal 52 = .ok (.getfield 143, 3) := dk_180 0 143 (dk_at dksX4_runsReal_2 5 rfl rfl)
theorem dX4_runsReal_55 : decode cX4_runsReal 55 = .ok (.aload_n 0, 1) := dk_42 (dk_at dksX4_runsReal_2 8 rfl rfl)
theorem dX4_runsReal_56 : decode cX4_runsReal 56 = .ok (.getfield 235, 3) := dk_180 0 235 (dk_at dksX4_runsReal_2 9 rfl rfl)
theorem dX4_runsReal_59 : decode cX4_runsReal 59 = .ok (.iadd, 1) := dk_96 (dk_at dksX4_runsReal_2 12 rfl rfl)
theorem dX4_runsReal_60 : decode cX4_runsReal 60 = .ok (.putfield 143, 3) := dk_181 0 143 (dk_at dksX4_runsReal_2 13 rfl rfl)
theorem dX4_runsReal_63 : decode cX4_runsReal 63 = .ok (.aload_n 0, 1) := dk_42 (dk_at dksX4_runsReal_2 16 rfl rfl)
theorem dX4_runsReal_64 : decode cX4_runsReal 64 = .ok (.getfield 40, 3) := dk_180 0 40 (dk_at dksX4_runsReal_2 17 rfl rfl)
theorem dX4_runsReal_67 : decode cX4_runsReal 67 = .ok (.ireturn, 1) := dk_172 (dk_at dksX4_runsReal_2 20 rfl rfl)
abbrev cX4_runs : ByteArray := prog_23_method_39_code
def yX4_runs : MethodName := ⟨RX4, "runs", "(I)I"⟩
def dkwX4_runs_8 : List UInt8 := [28, 22, 5, 80, 42, 3, 181, 0, 235, 21, 7, 172, 132, 7, 1, 167, 255, 162, 16, 254, 172]
abbrev dktX4_runs_8 : List UInt8 := dkwX4_runs_8 ++ []
def dkwX4_runs_7 : List UInt8 := [180, 0, 97, 21, 8, 47, 80, 132, 8, 1, 167, 255, 224, 42, 180, 0, 63, 28, 33, 80, 42, 180, 0, 66]
abbrev dktX4_runs_7 : List UInt8 := dkwX4_runs_7 ++ dktX4_runs_8
def dkwX4_runs_6 : List UInt8 := [54, 8, 21, 8, 16, 8, 162, 0, 31, 42, 180, 0, 60, 16, 8, 42, 180, 0, 146, 104, 21, 8, 96, 42]
abbrev dktX4_runs_6 : List UInt8 := dkwX4_runs_6 ++ dktX4_runs_7
def dkwX4_runs_5 : List UInt8 := [162, 0, 89, 42, 27, 16, 20, 27, 104, 21, 7, 96, 182, 1, 18, 42, 180, 0, 198, 153, 0, 64, 3]
abbrev dktX4_runs_5 : List UInt8 := dkwX4_runs_5 ++ dktX4_runs_6
def dkwX4_runs_4 : List UInt8 := [167, 255, 230, 42, 3, 181, 0, 235, 42, 3, 181, 0, 198, 3, 54, 7, 21, 7, 42, 180, 0, 25, 27, 46]
abbrev dktX4_runs_4 : List UInt8 := dkwX4_runs_4 ++ dktX4_runs_5
def dkwX4_runs_3 : List UInt8 := [16, 12, 162, 0, 25, 42, 180, 0, 57, 16, 12, 42, 180, 0, 146, 104, 21, 7, 96, 9, 80, 132, 7, 1]
abbrev dktX4_runs_3 : List UInt8 := dkwX4_runs_3 ++ dktX4_runs_4
def dkwX4_runs_2 : List UInt8 := [180, 0, 146, 104, 21, 7, 96, 47, 80, 132, 7, 1, 167, 255, 224, 42, 182, 0, 149, 3, 54, 7, 21, 7]
abbrev dktX4_runs_2 : List UInt8 := dkwX4_runs_2 ++ dktX4_runs_3
def dkwX4_runs_1 : List UInt8 := [3, 54, 7, 21, 7, 16, 8, 162, 0, 31, 42, 180, 0, 97, 21, 7, 42, 180, 0, 60, 16, 8, 42]
abbrev dktX4_runs_1 : List UInt8 := dkwX4_runs_1 ++ dktX4_runs_2
def dkwX4_runs_0 : List UInt8 := [7, 42, 180, 0, 146, 104, 27, 96, 61, 42, 180, 0, 63, 28, 47, 66, 42, 180, 0, 66, 28, 47, 55, 5]
abbrev dktX4_runs_0 : List UInt8 := dkwX4_runs_0 ++ dktX4_runs_1
theorem dksX4_runs_0 : cX4_runs.data.toList.drop 0 = dktX4_runs_0 := by decide +kernel
theorem dksX4_runs_1 : cX4_runs.data.toList.drop 24 = dktX4_runs_1 := dk_seg dksX4_runs_0 24 rfl rfl
theorem dksX4_runs_2 : cX4_runs.data.toList.drop 47 = dktX4_runs_2 := dk_seg dksX4_runs_1 23 rfl rfl
theorem dksX4_runs_3 : cX4_runs.data.toList.drop 71 = dktX4_runs_3 := dk_seg dksX4_runs_2 24 rfl rfl
theorem dksX4_runs_4 : cX4_runs.data.toList.drop 95 = dktX4_runs_4 := dk_seg dksX4_runs_3 24 rfl rfl
theorem dksX4_runs_5 : cX4_runs.data.toList.drop 119 = dktX4_runs_5 := dk_seg dksX4_runs_4 24 rfl rfl
theorem dksX4_runs_6 : cX4_runs.data.toList.drop 142 = dktX4_runs_6 := dk_seg dksX4_runs_5 23 rfl rfl
theorem dksX4_runs_7 : cX4_runs.data.toList.drop 166 = dktX4_runs_7 := dk_seg dksX4_runs_6 24 rfl rfl
theorem dksX4_runs_8 : cX4_runs.data.toList.drop 190 = dktX4_runs_8 := dk_seg dksX4_runs_7 24 rfl rfl
theorem dX4_runs_0 : decode cX4_runs 0 = .ok (.iconst 4, 1) := dk_7 (dk_at dksX4_runs_0 0 rfl rfl)
theorem dX4_runs_1 : decode cX4_runs 1 = .ok (.aload_n 0, 1) := dk_42 (dk_at dksX4_runs_0 1 rfl rfl)
theorem dX4_runs_2 : decode cX4_runs 2 = .ok (.getfield 146, 3) := dk_180 0 146 (dk_at dksX4_runs_0 2 rfl rfl)
theorem dX4_runs_5 : decode cX4_runs 5 = .ok (.imul, 1) := dk_104 (dk_at dksX4_runs_0 5 rfl rfl)
theorem dX4_runs_6 : decode cX4_runs 6 = .ok (.iload_n 1, 1) := dk_27 (dk_at dksX4_runs_0 6 rfl rfl)
theorem dX4_runs_7 : decode cX4_runs 7 = .ok (.iadd, 1) := dk_96 (dk_at dksX4_runs_0 7 rfl rfl)
theorem dX4_runs_8 : decode cX4_runs 8 = .ok (.istore_n 2, 1) := dk_61 (dk_at dksX4_runs_0 8 rfl rfl)
theorem dX4_runs_9 : decode cX4_runs 9 = .ok (.aload_n 0, 1) := dk_42 (dk_at dksX4_runs_0 9 rfl rfl)
theorem dX4_runs_10 : decode cX4_runs 10 = .ok (.getfield 63, 3) := dk_180 0 63 (dk_at dksX4_runs_0 10 rfl rfl)
theorem dX4_runs_13 : decode cX4_runs 13 = .ok (.iload_n 2, 1) := dk_28 (dk_at dksX4_runs_0 13 rfl rfl)
theorem dX4_runs_14 : decode cX4_runs 14 = .ok (.laload, 1) := dk_47 (dk_at dksX4_runs_0 14 rfl rfl)
theorem dX4_runs_15 : decode cX4_runs 15 = .ok (.lstore_n 3, 1) := dk_66 (dk_at dksX4_runs_0 15 rfl rfl)
theorem dX4_runs_16 : decode cX4_runs 16 = .ok (.aload_n 0, 1) := dk_42 (dk_at dksX4_runs_0 16 rfl rfl)
theorem dX4_runs_17 : decode cX4_runs 17 = .ok (.getfield 66, 3) := dk_180 0 66 (dk_at dksX4_runs_0 17 rfl rfl)
theorem dX4_runs_20 : decode cX4_runs 20 = .ok (.iload_n 2, 1) := dk_28 (dk_at dksX4_runs_0 20 rfl rfl)
theorem dX4_runs_21 : decode cX4_runs 21 = .ok (.laload, 1) := dk_47 (dk_at dksX4_runs_0 21 rfl rfl)
theorem dX4_runs_22 : decode cX4_runs 22 = .ok (.lstore 5, 2) := dk_55 5 (dk_at dksX4_runs_0 22 rfl rfl)
theorem dX4_runs_24 : decode cX4_runs 24 = .ok (.iconst 0, 1) := dk_3 (dk_at dksX4_runs_1 0 rfl rfl)
theorem dX4_runs_25 : decode cX4_runs 25 = .ok (.istore 7, 2) := dk_54 7 (dk_at dksX4_runs_1 1 rfl rfl)
theorem dX4_runs_27 : decode cX4_runs 27 = .ok (.iload 7, 2) := dk_21 7 (dk_at dksX4_runs_1 3 rfl rfl)
theorem dX4_runs_29 : decode cX4_runs 29 = .ok (.bipush 8, 2) := dk_16 8 (dk_at dksX4_runs_1 5 rfl rfl)
theorem dX4_runs_31 : decode cX4_runs 31 = .ok (.if_icmp .ge 31, 3) := dk_162 0 31 (dk_at dksX4_runs_1 7 rfl rfl)
theorem dX4_runs_34 : decode cX4_runs 34 = .ok (.aload_n 0, 1) := dk_42 (dk_at dksX4_runs_1 10 rfl rfl)
theorem dX4_runs_35 : decode cX4_runs 35 = .ok (.getfield 97, 3) := dk_180 0 97 (dk_at dksX4_runs_1 11 rfl rfl)
theorem dX4_runs_38 : decode cX4_runs 38 = .ok (.iload 7, 2) := dk_21 7 (dk_at dksX4_runs_1 14 rfl rfl)
theorem dX4_runs_40 : decode cX4_runs 40 = .ok (.aload_n 0, 1) := dk_42 (dk_at dksX4_runs_1 16 rfl rfl)
theorem dX4_runs_41 : decode cX4_runs 41 = .ok (.getfield 60, 3) := dk_180 0 60 (dk_at dksX4_runs_1 17 rfl rfl)
theorem dX4_runs_44 : decode cX4_runs 44 = .ok (.bipush 8, 2) := dk_16 8 (dk_at dksX4_runs_1 20 rfl rfl)
theorem dX4_runs_46 : decode cX4_runs 46 = .ok (.aload_n 0, 1) := dk_42 (dk_at dksX4_runs_1 22 rfl rfl)
theorem dX4_runs_47 : decode cX4_runs 47 = .ok (.getfield 146, 3) := dk_180 0 146 (dk_at dksX4_runs_2 0 rfl rfl)
theorem dX4_runs_50 : decode cX4_runs 50 = .ok (.imul, 1) := dk_104 (dk_at dksX4_runs_2 3 rfl rfl)
theorem dX4_runs_51 : decode cX4_runs 51 = .ok (.iload 7, 2) := dk_21 7 (dk_at dksX4_runs_2 4 rfl rfl)
theorem dX4_runs_53 : decode cX4_runs 53 = .ok (.iadd, 1) := dk_96 (dk_at dksX4_runs_2 6 rfl rfl)
theorem dX4_runs_54 : decode cX4_runs 54 = .ok (.laload, 1) := dk_47 (dk_at dksX4_runs_2 7 rfl rfl)
theorem dX4_runs_55 : decode cX4_runs 55 = .ok (.lastore, 1) := dk_80 (dk_at dksX4_runs_2 8 rfl rfl)
theorem dX4_runs_56 : decode cX4_runs 56 = .ok (.iinc 7 1, 3) := dk_132 7 1 (dk_at dksX4_runs_2 9 rfl rfl)
theorem dX4_runs_59 : decode cX4_runs 59 = .ok (.goto (-32), 3) := dk_167 255 224 (dk_at dksX4_runs_2 12 rfl rfl)
theorem dX4_runs_62 : decode cX4_runs 62 = .ok (.aload_n 0, 1) := dk_42 (dk_at dksX4_runs_2 15 rfl rfl)
theorem dX4_runs_63 : decode cX4_runs 63 = .ok (.invokevirtual 149, 3) := dk_182 0 149 (dk_at dksX4_runs_2 16 rfl rfl)
theorem dX4_runs_66 : decode cX4_runs 66 = .ok (.iconst 0, 1) := dk_3 (dk_at dksX4_runs_2 19 rfl rfl)
theorem dX4_runs_67 : decode cX4_runs 67 = .ok (.istore 7, 2) := dk_54 7 (dk_at dksX4_runs_2 20 rfl rfl)
theorem dX4_runs_69 : decode cX4_runs 69 = .ok (.iload 7, 2) := dk_21 7 (dk_at dksX4_runs_2 22 rfl rfl)
theorem dX4_runs_71 : decode cX4_runs 71 = .ok (.bipush 12, 2) := dk_16 12 (dk_at dksX4_runs_3 0 rfl rfl)
theorem dX4_runs_73 : decode cX4_runs 73 = .ok (.if_icmp .ge 25, 3) := dk_162 0 25 (dk_at dksX4_runs_3 2 rfl rfl)
theorem dX4_runs_76 : decode cX4_runs 76 = .ok (.aload_n 0, 1) := dk_42 (dk_at dksX4_runs_3 5 rfl rfl)
theorem dX4_runs_77 : decode cX4_runs 77 = .ok (.getfield 57, 3) := dk_180 0 57 (dk_at dksX4_runs_3 6 rfl rfl)
theorem dX4_runs_80 : decode cX4_runs 80 = .ok (.bipush 12, 2) := dk_16 12 (dk_at dksX4_runs_3 9 rfl rfl)
theorem dX4_runs_82 : decode cX4_runs 82 = .ok (.aload_n 0, 1) := dk_42 (dk_at dksX4_runs_3 11 rfl rfl)
theorem dX4_runs_83 : decode cX4_runs 83 = .ok (.getfield 146, 3) := dk_180 0 146 (dk_at dksX4_runs_3 12 rfl rfl)
theorem dX4_runs_86 : decode cX4_runs 86 = .ok (.imul, 1) := dk_104 (dk_at dksX4_runs_3 15 rfl rfl)
theorem dX4_runs_87 : decode cX4_runs 87 = .ok (.iload 7, 2) := dk_21 7 (dk_at dksX4_runs_3 16 rfl rfl)
theorem dX4_runs_89 : decode cX4_runs 89 = .ok (.iadd, 1) := dk_96 (dk_at dksX4_runs_3 18 rfl rfl)
theorem dX4_runs_90 : decode cX4_runs 90 = .ok (.lconst 0, 1) := dk_9 (dk_at dksX4_runs_3 19 rfl rfl)
theorem dX4_runs_91 : decode cX4_runs 91 = .ok (.lastore, 1) := dk_80 (dk_at dksX4_runs_3 20 rfl rfl)
theorem dX4_runs_92 : decode cX4_runs 92 = .ok (.iinc 7 1, 3) := dk_132 7 1 (dk_at dksX4_runs_3 21 rfl rfl)
theorem dX4_runs_95 : decode cX4_runs 95 = .ok (.goto (-26), 3) := dk_167 255 230 (dk_at dksX4_runs_4 0 rfl rfl)
theorem dX4_runs_98 : decode cX4_runs 98 = .ok (.aload_n 0, 1) := dk_42 (dk_at dksX4_runs_4 3 rfl rfl)
theorem dX4_runs_99 : decode cX4_runs 99 = .ok (.iconst 0, 1) := dk_3 (dk_at dksX4_runs_4 4 rfl rfl)
theorem dX4_runs_100 : decode cX4_runs 100 = .ok (.putfield 235, 3) := dk_181 0 235 (dk_at dksX4_runs_4 5 rfl rfl)
theorem dX4_runs_103 : decode cX4_runs 103 = .ok (.aload_n 0, 1) := dk_42 (dk_at dksX4_runs_4 8 rfl rfl)
theorem dX4_runs_104 : decode cX4_runs 104 = .ok (.iconst 0, 1) := dk_3 (dk_at dksX4_runs_4 9 rfl rfl)
theorem dX4_runs_105 : decode cX4_runs 105 = .ok (.putfield 198, 3) := dk_181 0 198 (dk_at dksX4_runs_4 10 rfl rfl)
theorem dX4_runs_108 : decode cX4_runs 108 = .ok (.iconst 0, 1) := dk_3 (dk_at dksX4_runs_4 13 rfl rfl)
theorem dX4_runs_109 : decode cX4_runs 109 = .ok (.istore 7, 2) := dk_54 7 (dk_at dksX4_runs_4 14 rfl rfl)
theorem dX4_runs_111 : decode cX4_runs 111 = .ok (.iload 7, 2) := dk_21 7 (dk_at dksX4_runs_4 16 rfl rfl)
theorem dX4_runs_113 : decode cX4_runs 113 = .ok (.aload_n 0, 1) := dk_42 (dk_at dksX4_runs_4 18 rfl rfl)
theorem dX4_runs_114 : decode cX4_runs 114 = .ok (.getfield 25, 3) := dk_180 0 25 (dk_at dksX4_runs_4 19 rfl rfl)
theorem dX4_runs_117 : decode cX4_runs 117 = .ok (.iload_n 1, 1) := dk_27 (dk_at dksX4_runs_4 22 rfl rfl)
theorem dX4_runs_118 : decode cX4_runs 118 = .ok (.iaload, 1) := dk_46 (dk_at dksX4_runs_4 23 rfl rfl)
theorem dX4_runs_119 : decode cX4_runs 119 = .ok (.if_icmp .ge 89, 3) := dk_162 0 89 (dk_at dksX4_runs_5 0 rfl rfl)
theorem dX4_runs_122 : decode cX4_runs 122 = .ok (.aload_n 0, 1) := dk_42 (dk_at dksX4_runs_5 3 rfl rfl)
theorem dX4_runs_123 : decode cX4_runs 123 = .ok (.iload_n 1, 1) := dk_27 (dk_at dksX4_runs_5 4 rfl rfl)
theorem dX4_runs_124 : decode cX4_runs 124 = .ok (.bipush 20, 2) := dk_16 20 (dk_at dksX4_runs_5 5 rfl rfl)
theorem dX4_runs_126 : decode cX4_runs 126 = .ok (.iload_n 1, 1) := dk_27 (dk_at dksX4_runs_5 7 rfl rfl)
theorem dX4_runs_127 : decode cX4_runs 127 = .ok (.imul, 1) := dk_104 (dk_at dksX4_runs_5 8 rfl rfl)
theorem dX4_runs_128 : decode cX4_runs 128 = .ok (.iload 7, 2) := dk_21 7 (dk_at dksX4_runs_5 9 rfl rfl)
theorem dX4_runs_130 : decode cX4_runs 130 = .ok (.iadd, 1) := dk_96 (dk_at dksX4_runs_5 11 rfl rfl)
theorem dX4_runs_131 : decode cX4_runs 131 = .ok (.invokevirtual 274, 3) := dk_182 1 18 (dk_at dksX4_runs_5 12 rfl rfl)
theorem dX4_runs_134 : decode cX4_runs 134 = .ok (.aload_n 0, 1) := dk_42 (dk_at dksX4_runs_5 15 rfl rfl)
theorem dX4_runs_135 : decode cX4_runs 135 = .ok (.getfield 198, 3) := dk_180 0 198 (dk_at dksX4_runs_5 16 rfl rfl)
theorem dX4_runs_138 : decode cX4_runs 138 = .ok (.ifCond .eq 64, 3) := dk_153 0 64 (dk_at dksX4_runs_5 19 rfl rfl)
theorem dX4_runs_141 : decode cX4_runs 141 = .ok (.iconst 0, 1) := dk_3 (dk_at dksX4_runs_5 22 rfl rfl)
theorem dX4_runs_142 : decode cX4_runs 142 = .ok (.istore 8, 2) := dk_54 8 (dk_at dksX4_runs_6 0 rfl rfl)
theorem dX4_runs_144 : decode cX4_runs 144 = .ok (.iload 8, 2) := dk_21 8 (dk_at dksX4_runs_6 2 rfl rfl)
theorem dX4_runs_146 : decode cX4_runs 146 = .ok (.bipush 8, 2) := dk_16 8 (dk_at dksX4_runs_6 4 rfl rfl)
theorem dX4_runs_148 : decode cX4_runs 148 = .ok (.if_icmp .ge 31, 3) := dk_162 0 31 (dk_at dksX4_runs_6 6 rfl rfl)
theorem dX4_runs_151 : decode cX4_runs 151 = .ok (.aload_n 0, 1) := dk_42 (dk_at dksX4_runs_6 9 rfl rfl)
theorem dX4_runs_152 : decode cX4_runs 152 = .ok (.getfield 60, 3) := dk_180 0 60 (dk_at dksX4_runs_6 10 rfl rfl)
theorem dX4_runs_155 : decode cX4_runs 155 = .ok (.bipush 8, 2) := dk_16 8 (dk_at dksX4_runs_6 13 rfl rfl)
theorem dX4_runs_157 : decode cX4_runs 157 = .ok (.aload_n 0, 1) := dk_42 (dk_at dksX4_runs_6 15 rfl rfl)
theorem dX4_runs_158 : decode cX4_runs 158 = .ok (.getfield 146, 3) := dk_180 0 146 (dk_at dksX4_runs_6 16 rfl rfl)
theorem dX4_runs_161 : decode cX4_runs 161 = .ok (.imul, 1) := dk_104 (dk_at dksX4_runs_6 19 rfl rfl)
theorem dX4_runs_162 : decode cX4_runs 162 = .ok (.iload 8, 2) := dk_21 8 (dk_at dksX4_runs_6 20 rfl rfl)
theorem dX4_runs_164 : decode cX4_runs 164 = .ok (.iadd, 1) := dk_96 (dk_at dksX4_runs_6 22 rfl rfl)
theorem dX4_runs_165 : decode cX4_runs 165 = .ok (.aload_n 0, 1) := dk_42 (dk_at dksX4_runs_6 23 rfl rfl)
theorem dX4_runs_166 : decode cX4_runs 166 = .ok (.getfield 97, 3) := dk_180 0 97 (dk_at dksX4_runs_7 0 rfl rfl)
theorem dX4_runs_169 : decode cX4_runs 169 = .ok (.iload 8, 2) := dk_21 8 (dk_at dksX4_runs_7 3 rfl rfl)
theorem dX4_runs_171 : decode cX4_runs 171 = .ok (.laload, 1) := dk_47 (dk_at dksX4_runs_7 5 rfl rfl)
theorem dX4_runs_172 : decode cX4_runs 172 = .ok (.lastore, 1) := dk_80 (dk_at dksX4_runs_7 6 rfl rfl)
theorem dX4_runs_173 : decode cX4_runs 173 = .ok (.iinc 8 1, 3) := dk_132 8 1 (dk_at dksX4_runs_7 7 rfl rfl)
theorem dX4_runs_176 : decode cX4_runs 176 = .ok (.goto (-32), 3) := dk_167 255 224 (dk_at dksX4_runs_7 10 rfl rfl)
theorem dX4_runs_179 : decode cX4_runs 179 = .ok (.aload_n 0, 1) := dk_42 (dk_at dksX4_runs_7 13 rfl rfl)
theorem dX4_runs_180 : decode cX4_runs 180 = .ok (.getfield 63, 3) := dk_180 0 63 (dk_at dksX4_runs_7 14 rfl rfl)
theorem dX4_runs_183 : decode cX4_runs 183 = .ok (.iload_n 2, 1) := dk_28 (dk_at dksX4_runs_7 17 rfl rfl)
theorem dX4_runs_184 : decode cX4_runs 184 = .ok (.lload_n 3, 1) := dk_33 (dk_at dksX4_runs_7 18 rfl rfl)
theorem dX4_runs_185 : decode cX4_runs 185 = .ok (.lastore, 1) := dk_80 (dk_at dksX4_runs_7 19 rfl rfl)
theorem dX4_runs_186 : decode cX4_runs 186 = .ok (.aload_n 0, 1) := dk_42 (dk_at dksX4_runs_7 20 rfl rfl)
theorem dX4_runs_187 : decode cX4_runs 187 = .ok (.getfield 66, 3) := dk_180 0 66 (dk_at dksX4_runs_7 21 rfl rfl)
theorem dX4_runs_190 : decode cX4_runs 190 = .ok (.iload_n 2, 1) := dk_28 (dk_at dksX4_runs_8 0 rfl rfl)
theorem dX4_runs_191 : decode cX4_runs 191 = .ok (.lload 5, 2) := dk_22 5 (dk_at dksX4_runs_8 1 rfl rfl)
theorem dX4_runs_193 : decode cX4_runs 193 = .ok (.lastore, 1) := dk_80 (dk_at dksX4_runs_8 3 rfl rfl)
theorem dX4_runs_194 : decode cX4_runs 194 = .ok (.aload_n 0, 1) := dk_42 (dk_at dksX4_runs_8 4 rfl rfl)
theorem dX4_runs_195 : decode cX4_runs 195 = .ok (.iconst 0, 1) := dk_3 (dk_at dksX4_runs_8 5 rfl rfl)
theorem dX4_runs_196 : decode cX4_runs 196 = .ok (.putfield 235, 3) := dk_181 0 235 (dk_at dksX4_runs_8 6 rfl rfl)
theorem dX4_runs_199 : decode cX4_runs 199 = .ok (.iload 7, 2) := dk_21 7 (dk_at dksX4_runs_8 9 rfl rfl)
theorem dX4_runs_201 : decode cX4_runs 201 = .ok (.ireturn, 1) := dk_172 (dk_at dksX4_runs_8 11 rfl rfl)
theorem dX4_runs_202 : decode cX4_runs 202 = .ok (.iinc 7 1, 3) := dk_132 7 1 (dk_at dksX4_runs_8 12 rfl rfl)
theorem dX4_runs_205 : decode cX4_runs 205 = .ok (.goto (-94), 3) := dk_167 255 162 (dk_at dksX4_runs_8 15 rfl rfl)
theorem dX4_runs_208 : decode cX4_runs 208 = .ok (.bipush (-2), 2) := dk_16 254 (dk_at dksX4_runs_8 18 rfl rfl)
theorem dX4_runs_210 : decode cX4_runs 210 = .ok (.ireturn, 1) := dk_172 (dk_at dksX4_runs_8 20 rfl rfl)
abbrev cX4_does : ByteArray := prog_23_method_38_code
def yX4_does : MethodName := ⟨RX4, "does", "(II)V"⟩
def dkwX4_does_17 : List UInt8 := [21, 4, 21, 5, 182, 1, 15, 177]
abbrev dktX4_does_17 : List UInt8 := dkwX4_does_17 ++ []
def dkwX4_does_16 : List UInt8 := [21, 5, 184, 0, 212, 182, 0, 205, 153, 0, 23, 42, 180, 0, 69, 21, 6, 4, 84, 167, 0, 12, 42, 29]
abbrev dktX4_does_16 : List UInt8 := dkwX4_does_16 ++ dktX4_does_17
def dkwX4_does_15 : List UInt8 := [180, 0, 146, 104, 21, 4, 96, 47, 42, 180, 0, 51, 16, 8, 42, 180, 0, 146, 104, 21, 4, 96, 47]
abbrev dktX4_does_15 : List UInt8 := dkwX4_does_15 ++ dktX4_does_16
def dkwX4_does_14 : List UInt8 := [167, 0, 78, 42, 29, 21, 4, 21, 5, 182, 1, 12, 167, 0, 66, 42, 29, 42, 180, 0, 47, 16, 8, 42]
abbrev dktX4_does_14 : List UInt8 := dkwX4_does_14 ++ dktX4_does_15
def dkwX4_does_13 : List UInt8 := [167, 0, 100, 42, 29, 27, 182, 1, 4, 167, 0, 91, 42, 29, 21, 4, 21, 5, 133, 182, 1, 8]
abbrev dktX4_does_13 : List UInt8 := dkwX4_does_13 ++ dktX4_does_14
def dkwX4_does_12 : List UInt8 := [104, 21, 4, 96, 47, 182, 0, 205, 153, 0, 114, 42, 180, 0, 69, 21, 6, 42, 180, 0, 156, 84]
abbrev dktX4_does_12 : List UInt8 := dkwX4_does_12 ++ dktX4_does_13
def dkwX4_does_11 : List UInt8 := [181, 0, 253, 42, 21, 5, 181, 1, 1, 167, 0, 137, 42, 29, 42, 180, 0, 54, 16, 8, 42, 180, 0, 146]
abbrev dktX4_does_11 : List UInt8 := dkwX4_does_11 ++ dktX4_does_12
def dkwX4_does_10 : List UInt8 := [42, 4, 181, 0, 152, 42, 42, 180, 0, 69, 21, 6, 51, 181, 0, 156, 42, 42, 180, 0, 47, 21, 6, 47]
abbrev dktX4_does_10 : List UInt8 := dkwX4_does_10 ++ dktX4_does_11
def dkwX4_does_9 : List UInt8 := [42, 16, 251, 181, 0, 198, 167, 0, 188, 42, 42, 180, 0, 47, 21, 6, 47, 21, 4, 21, 5, 182, 0, 249]
abbrev dktX4_does_9 : List UInt8 := dkwX4_does_9 ++ dktX4_does_10
def dkwX4_does_8 : List UInt8 := [42, 29, 21, 4, 21, 5, 182, 0, 246, 167, 0, 209, 42, 180, 0, 51, 21, 6, 47, 10, 148, 153, 0, 12]
abbrev dktX4_does_8 : List UInt8 := dkwX4_does_8 ++ dktX4_does_9
def dkwX4_does_7 : List UInt8 := [180, 0, 51, 21, 6, 47, 21, 5, 133, 105, 21, 4, 184, 0, 212, 105, 182, 0, 205, 54, 9, 167, 0, 221]
abbrev dktX4_does_7 : List UInt8 := dkwX4_does_7 ++ dktX4_does_8
def dkwX4_does_6 : List UInt8 := [29, 21, 4, 21, 5, 182, 0, 242, 167, 1, 2, 42, 29, 21, 5, 133, 42, 180, 0, 47, 21, 6, 47, 42]
abbrev dktX4_does_6 : List UInt8 := dkwX4_does_6 ++ dktX4_does_7
def dkwX4_does_5 : List UInt8 := [21, 5, 42, 180, 0, 28, 28, 46, 5, 160, 0, 7, 4, 167, 0, 4, 3, 182, 0, 238, 167, 1, 14, 42]
abbrev dktX4_does_5 : List UInt8 := dkwX4_does_5 ++ dktX4_does_6
def dkwX4_does_4 : List UInt8 := [133, 97, 55, 7, 132, 9, 1, 167, 255, 231, 42, 29, 22, 7, 182, 0, 216, 167, 1, 41, 42, 29, 21, 4]
abbrev dktX4_does_4 : List UInt8 := dkwX4_does_4 ++ dktX4_does_5
def dkwX4_does_3 : List UInt8 := [9, 55, 7, 3, 54, 9, 21, 9, 42, 180, 0, 209, 162, 0, 22, 22, 7, 42, 180, 0, 44, 21, 9, 46]
abbrev dktX4_does_3 : List UInt8 := dkwX4_does_3 ++ dktX4_does_4
def dkwX4_does_2 : List UInt8 := [170, 0, 0, 0, 0, 0, 1, 137, 0, 0, 0, 0, 0, 0, 0, 11, 0, 0, 0, 64, 0, 0, 0, 108, 0, 0, 0, 108, 0, 0, 0, 135, 0, 0, 0, 147, 0, 0, 0, 184, 0, 0, 0, 196, 0, 0, 1, 12, 0, 0, 1, 49, 0, 0, 1, 58, 0, 0, 1, 71, 0, 0, 1, 83]
abbrev dktX4_does_2 : List UInt8 := dkwX4_does_2 ++ dktX4_does_3
def dkwX4_does_1 : List UInt8 := [16, 8, 42, 180, 0, 146, 104, 29, 96, 54, 6, 42, 180, 0, 28, 28, 46]
abbrev dktX4_does_1 : List UInt8 := dkwX4_does_1 ++ dktX4_does_2
def dkwX4_does_0 : List UInt8 := [42, 180, 0, 31, 28, 46, 62, 42, 180, 0, 34, 28, 46, 54, 4, 42, 180, 0, 37, 28, 46, 54, 5]
abbrev dktX4_does_0 : List UInt8 := dkwX4_does_0 ++ dktX4_does_1
theorem dksX4_does_0 : cX4_does.data.toList.drop 0 = dktX4_does_0 := by decide +kernel
theorem dksX4_does_1 : cX4_does.data.toList.drop 23 = dktX4_does_1 := dk_seg dksX4_does_0 23 rfl rfl
theorem dksX4_does_2 : cX4_does.data.toList.drop 40 = dktX4_does_2 := dk_seg dksX4_does_1 17 rfl rfl
theorem dksX4_does_3 : cX4_does.data.toList.drop 104 = dktX4_does_3 := dk_seg dksX4_does_2 64 rfl rfl
theorem dksX4_does_4 : cX4_does.data.toList.drop 128 = dktX4_does_4 := dk_seg dksX4_does_3 24 rfl rfl
theorem dksX4_does_5 : cX4_does.data.toList.drop 152 = dktX4_does_5 := dk_seg dksX4_does_4 24 rfl rfl
theorem dksX4_does_6 : cX4_does.data.toList.drop 176 = dktX4_does_6 := dk_seg dksX4_does_5 24 rfl rfl
theorem dksX4_does_7 : cX4_does.data.toList.drop 200 = dktX4_does_7 := dk_seg dksX4_does_6 24 rfl rfl
theorem dksX4_does_8 : cX4_does.data.toList.drop 224 = dktX4_does_8 := dk_seg dksX4_does_7 24 rfl rfl
theorem dksX4_does_9 : cX4_does.data.toList.drop 248 = dktX4_does_9 := dk_seg dksX4_does_8 24 rfl rfl
theorem dksX4_does_10 : cX4_does.data.toList.drop 272 = dktX4_does_10 := dk_seg dksX4_does_9 24 rfl rfl
theorem dksX4_does_11 : cX4_does.data.toList.drop 296 = dktX4_does_11 := dk_seg dksX4_does_10 24 rfl rfl
theorem dksX4_does_12 : cX4_does.data.toList.drop 320 = dktX4_does_12 := dk_seg dksX4_does_11 24 rfl rfl
theorem dksX4_does_13 : cX4_does.data.toList.drop 342 = dktX4_does_13 := dk_seg dksX4_does_12 22 rfl rfl
theorem dksX4_does_14 : cX4_does.data.toList.drop 364 = dktX4_does_14 := dk_seg dksX4_does_13 22 rfl rfl
theorem dksX4_does_15 : cX4_does.data.toList.drop 388 = dktX4_does_15 := dk_seg dksX4_does_14 24 rfl rfl
theorem dksX4_does_16 : cX4_does.data.toList.drop 411 = dktX4_does_16 := dk_seg dksX4_does_15 23 rfl rfl
theorem dksX4_does_17 : cX4_does.data.toList.drop 435 = dktX4_does_17 := dk_seg dksX4_does_16 24 rfl rfl
theorem dX4_does_0 : decode cX4_does 0 = .ok (.aload_n 0, 1) := dk_42 (dk_at dksX4_does_0 0 rfl rfl)
theorem dX4_does_1 : decode cX4_does 1 = .ok (.getfield 31, 3) := dk_180 0 31 (dk_at dksX4_does_0 1 rfl rfl)
theorem dX4_does_4 : decode cX4_does 4 = .ok (.iload_n 2, 1) := dk_28 (dk_at dksX4_does_0 4 rfl rfl)
theorem dX4_does_5 : decode cX4_does 5 = .ok (.iaload, 1) := dk_46 (dk_at dksX4_does_0 5 rfl rfl)
theorem dX4_does_6 : decode cX4_does 6 = .ok (.istore_n 3, 1) := dk_62 (dk_at dksX4_does_0 6 rfl rfl)
theorem dX4_does_7 : decode cX4_does 7 = .ok (.aload_n 0, 1) := dk_42 (dk_at dksX4_does_0 7 rfl rfl)
theorem dX4_does_8 : decode cX4_does 8 = .ok (.getfield 34, 3) := dk_180 0 34 (dk_at dksX4_does_0 8 rfl rfl)
theorem dX4_does_11 : decode cX4_does 11 = .ok (.iload_n 2, 1) := dk_28 (dk_at dksX4_does_0 11 rfl rfl)
theorem dX4_does_12 : decode cX4_does 12 = .ok (.iaload, 1) := dk_46 (dk_at dksX4_does_0 12 rfl rfl)
theorem dX4_does_13 : decode cX4_does 13 = .ok (.istore 4, 2) := dk_54 4 (dk_at dksX4_does_0 13 rfl rfl)
theorem dX4_does_15 : decode cX4_does 15 = .ok (.aload_n 0, 1) := dk_42 (dk_at dksX4_does_0 15 rfl rfl)
theorem dX4_does_16 : decode cX4_does 16 = .ok (.getfield 37, 3) := dk_180 0 37 (dk_at dksX4_does_0 16 rfl rfl)
theorem dX4_does_19 : decode cX4_does 19 = .ok (.iload_n 2, 1) := dk_28 (dk_at dksX4_does_0 19 rfl rfl)
theorem dX4_does_20 : decode cX4_does 20 = .ok (.iaload, 1) := dk_46 (dk_at dksX4_does_0 20 rfl rfl)
theorem dX4_does_21 : decode cX4_does 21 = .ok (.istore 5, 2) := dk_54 5 (dk_at dksX4_does_0 21 rfl rfl)
theorem dX4_does_23 : decode cX4_does 23 = .ok (.bipush 8, 2) := dk_16 8 (dk_at dksX4_does_1 0 rfl rfl)
theorem dX4_does_25 : decode cX4_does 25 = .ok (.aload_n 0, 1) := dk_42 (dk_at dksX4_does_1 2 rfl rfl)
theorem dX4_does_26 : decode cX4_does 26 = .ok (.getfield 146, 3) := dk_180 0 146 (dk_at dksX4_does_1 3 rfl rfl)
theorem dX4_does_29 : decode cX4_does 29 = .ok (.imul, 1) := dk_104 (dk_at dksX4_does_1 6 rfl rfl)
theorem dX4_does_30 : decode cX4_does 30 = .ok (.iload_n 3, 1) := dk_29 (dk_at dksX4_does_1 7 rfl rfl)
theorem dX4_does_31 : decode cX4_does 31 = .ok (.iadd, 1) := dk_96 (dk_at dksX4_does_1 8 rfl rfl)
theorem dX4_does_32 : decode cX4_does 32 = .ok (.istore 6, 2) := dk_54 6 (dk_at dksX4_does_1 9 rfl rfl)
theorem dX4_does_34 : decode cX4_does 34 = .ok (.aload_n 0, 1) := dk_42 (dk_at dksX4_does_1 11 rfl rfl)
theorem dX4_does_35 : decode cX4_does 35 = .ok (.getfield 28, 3) := dk_180 0 28 (dk_at dksX4_does_1 12 rfl rfl)
theorem dX4_does_38 : decode cX4_does 38 = .ok (.iload_n 2, 1) := dk_28 (dk_at dksX4_does_1 15 rfl rfl)
theorem dX4_does_39 : decode cX4_does 39 = .ok (.iaload, 1) := dk_46 (dk_at dksX4_does_1 16 rfl rfl)
theorem dX4_does_40 : decode cX4_does 40 = .ok (.tableswitch 393 0 11 #[64, 108, 108, 135, 147, 184, 196, 268, 305, 314, 327, 339], 64) := by decide +kernel
theorem dX4_does_104 : decode cX4_does 104 = .ok (.lconst 0, 1) := dk_9 (dk_at dksX4_does_3 0 rfl rfl)
theorem dX4_does_105 : decode cX4_does 105 = .ok (.lstore 7, 2) := dk_55 7 (dk_at dksX4_does_3 1 rfl rfl)
theorem dX4_does_107 : decode cX4_does 107 = .ok (.iconst 0, 1) := dk_3 (dk_at dksX4_does_3 3 rfl rfl)
theorem dX4_does_108 : decode cX4_does 108 = .ok (.istore 9, 2) := dk_54 9 (dk_at dksX4_does_3 4 rfl rfl)
theorem dX4_does_110 : decode cX4_does 110 = .ok (.iload 9, 2) := dk_21 9 (dk_at dksX4_does_3 6 rfl rfl)
theorem dX4_does_112 : decode cX4_does 112 = .ok (.aload_n 0, 1) := dk_42 (dk_at dksX4_does_3 8 rfl rfl)
theorem dX4_does_113 : decode cX4_does 113 = .ok (.getfield 209, 3) := dk_180 0 209 (dk_at dksX4_does_3 9 rfl rfl)
theorem dX4_does_116 : decode cX4_does 116 = .ok (.if_icmp .ge 22, 3) := dk_162 0 22 (dk_at dksX4_does_3 12 rfl rfl)
theorem dX4_does_119 : decode cX4_does 119 = .ok (.lload 7, 2) := dk_22 7 (dk_at dksX4_does_3 15 rfl rfl)
theorem dX4_does_121 : decode cX4_does 121 = .ok (.aload_n 0, 1) := dk_42 (dk_at dksX4_does_3 17 rfl rfl)
theorem dX4_does_122 : decode cX4_does 122 = .ok (.getfield 44, 3) := dk_180 0 44 (dk_at dksX4_does_3 18 rfl rfl)
theorem dX4_does_125 : decode cX4_does 125 = .ok (.iload 9, 2) := dk_21 9 (dk_at dksX4_does_3 21 rfl rfl)
theorem dX4_does_127 : decode cX4_does 127 = .ok (.iaload, 1) := dk_46 (dk_at dksX4_does_3 23 rfl rfl)
theorem dX4_does_128 : decode cX4_does 128 = .ok (.i2l, 1) := dk_133 (dk_at dksX4_does_4 0 rfl rfl)
theorem dX4_does_129 : decode cX4_does 129 = .ok (.ladd, 1) := dk_97 (dk_at dksX4_does_4 1 rfl rfl)
theorem dX4_does_130 : decode cX4_does 130 = .ok (.lstore 7, 2) := dk_55 7 (dk_at dksX4_does_4 2 rfl rfl)
theorem dX4_does_132 : decode cX4_does 132 = .ok (.iinc 9 1, 3) := dk_132 9 1 (dk_at dksX4_does_4 4 rfl rfl)
theorem dX4_does_135 : decode cX4_does 135 = .ok (.goto (-25), 3) := dk_167 255 231 (dk_at dksX4_does_4 7 rfl rfl)
theorem dX4_does_138 : decode cX4_does 138 = .ok (.aload_n 0, 1) := dk_42 (dk_at dksX4_does_4 10 rfl rfl)
theorem dX4_does_139 : decode cX4_does 139 = .ok (.iload_n 3, 1) := dk_29 (dk_at dksX4_does_4 11 rfl rfl)
theorem dX4_does_140 : decode cX4_does 140 = .ok (.lload 7, 2) := dk_22 7 (dk_at dksX4_does_4 12 rfl rfl)
theorem dX4_does_142 : decode cX4_does 142 = .ok (.invokevirtual 216, 3) := dk_182 0 216 (dk_at dksX4_does_4 14 rfl rfl)
theorem dX4_does_145 : decode cX4_does 145 = .ok (.goto 297, 3) := dk_167 1 41 (dk_at dksX4_does_4 17 rfl rfl)
theorem dX4_does_148 : decode cX4_does 148 = .ok (.aload_n 0, 1) := dk_42 (dk_at dksX4_does_4 20 rfl rfl)
theorem dX4_does_149 : decode cX4_does 149 = .ok (.iload_n 3, 1) := dk_29 (dk_at dksX4_does_4 21 rfl rfl)
theorem dX4_does_150 : decode cX4_does 150 = .ok (.iload 4, 2) := dk_21 4 (dk_at dksX4_does_4 22 rfl rfl)
theorem dX4_does_152 : decode cX4_does 152 = .ok (.iload 5, 2) := dk_21 5 (dk_at dksX4_does_5 0 rfl rfl)
theorem dX4_does_154 : decode cX4_does 154 = .ok (.aload_n 0, 1) := dk_42 (dk_at dksX4_does_5 2 rfl rfl)
theorem dX4_does_155 : decode cX4_does 155 = .ok (.getfield 28, 3) := dk_180 0 28 (dk_at dksX4_does_5 3 rfl rfl)
theorem dX4_does_158 : decode cX4_does 158 = .ok (.iload_n 2, 1) := dk_28 (dk_at dksX4_does_5 6 rfl rfl)
theorem dX4_does_159 : decode cX4_does 159 = .ok (.iaload, 1) := dk_46 (dk_at dksX4_does_5 7 rfl rfl)
theorem dX4_does_160 : decode cX4_does 160 = .ok (.iconst 2, 1) := dk_5 (dk_at dksX4_does_5 8 rfl rfl)
theorem dX4_does_161 : decode cX4_does 161 = .ok (.if_icmp .ne 7, 3) := dk_160 0 7 (dk_at dksX4_does_5 9 rfl rfl)
theorem dX4_does_164 : decode cX4_does 164 = .ok (.iconst 1, 1) := dk_4 (dk_at dksX4_does_5 12 rfl rfl)
theorem dX4_does_165 : decode cX4_does 165 = .ok (.goto 4, 3) := dk_167 0 4 (dk_at dksX4_does_5 13 rfl rfl)
theorem dX4_does_168 : decode cX4_does 168 = .ok (.iconst 0, 1) := dk_3 (dk_at dksX4_does_5 16 rfl rfl)
theorem dX4_does_169 : decode cX4_does 169 = .ok (.invokevirtual 238, 3) := dk_182 0 238 (dk_at dksX4_does_5 17 rfl rfl)
theorem dX4_does_172 : decode cX4_does 172 = .ok (.goto 270, 3) := dk_167 1 14 (dk_at dksX4_does_5 20 rfl rfl)
theorem dX4_does_175 : decode cX4_does 175 = .ok (.aload_n 0, 1) := dk_42 (dk_at dksX4_does_5 23 rfl rfl)
theorem dX4_does_176 : decode cX4_does 176 = .ok (.iload_n 3, 1) := dk_29 (dk_at dksX4_does_6 0 rfl rfl)
theorem dX4_does_177 : decode cX4_does 177 = .ok (.iload 4, 2) := dk_21 4 (dk_at dksX4_does_6 1 rfl rfl)
theorem dX4_does_179 : decode cX4_does 179 = .ok (.iload 5, 2) := dk_21 5 (dk_at dksX4_does_6 3 rfl rfl)
theorem dX4_does_181 : decode cX4_does 181 = .ok (.invokevirtual 242, 3) := dk_182 0 242 (dk_at dksX4_does_6 5 rfl rfl)
theorem dX4_does_184 : decode cX4_does 184 = .ok (.goto 258, 3) := dk_167 1 2 (dk_at dksX4_does_6 8 rfl rfl)
theorem dX4_does_187 : decode cX4_does 187 = .ok (.aload_n 0, 1) := dk_42 (dk_at dksX4_does_6 11 rfl rfl)
theorem dX4_does_188 : decode cX4_does 188 = .ok (.iload_n 3, 1) := dk_29 (dk_at dksX4_does_6 12 rfl rfl)
theorem dX4_does_189 : decode cX4_does 189 = .ok (.iload 5, 2) := dk_21 5 (dk_at dksX4_does_6 13 rfl rfl)
theorem dX4_does_191 : decode cX4_does 191 = .ok (.i2l, 1) := dk_133 (dk_at dksX4_does_6 15 rfl rfl)
theorem dX4_does_192 : decode cX4_does 192 = .ok (.aload_n 0, 1) := dk_42 (dk_at dksX4_does_6 16 rfl rfl)
theorem dX4_does_193 : decode cX4_does 193 = .ok (.getfield 47, 3) := dk_180 0 47 (dk_at dksX4_does_6 17 rfl rfl)
theorem dX4_does_196 : decode cX4_does 196 = .ok (.iload 6, 2) := dk_21 6 (dk_at dksX4_does_6 20 rfl rfl)
theorem dX4_does_198 : decode cX4_does 198 = .ok (.laload, 1) := dk_47 (dk_at dksX4_does_6 22 rfl rfl)
theorem dX4_does_199 : decode cX4_does 199 = .ok (.aload_n 0, 1) := dk_42 (dk_at dksX4_does_6 23 rfl rfl)
theorem dX4_does_200 : decode cX4_does 200 = .ok (.getfield 51, 3) := dk_180 0 51 (dk_at dksX4_does_7 0 rfl rfl)
theorem dX4_does_203 : decode cX4_does 203 = .ok (.iload 6, 2) := dk_21 6 (dk_at dksX4_does_7 3 rfl rfl)
theorem dX4_does_205 : decode cX4_does 205 = .ok (.laload, 1) := dk_47 (dk_at dksX4_does_7 5 rfl rfl)
theorem dX4_does_206 : decode cX4_does 206 = .ok (.iload 5, 2) := dk_21 5 (dk_at dksX4_does_7 6 rfl rfl)
theorem dX4_does_208 : decode cX4_does 208 = .ok (.i2l, 1) := dk_133 (dk_at dksX4_does_7 8 rfl rfl)
theorem dX4_does_209 : decode cX4_does 209 = .ok (.lmul, 1) := dk_105 (dk_at dksX4_does_7 9 rfl rfl)
theorem dX4_does_210 : decode cX4_does 210 = .ok (.iload 4, 2) := dk_21 4 (dk_at dksX4_does_7 10 rfl rfl)
theorem dX4_does_212 : decode cX4_does 212 = .ok (.invokestatic 212, 3) := dk_184 0 212 (dk_at dksX4_does_7 12 rfl rfl)
theorem dX4_does_215 : decode cX4_does 215 = .ok (.lmul, 1) := dk_105 (dk_at dksX4_does_7 15 rfl rfl)
theorem dX4_does_216 : decode cX4_does 216 = .ok (.invokevirtual 205, 3) := dk_182 0 205 (dk_at dksX4_does_7 16 rfl rfl)
theorem dX4_does_219 : decode cX4_does 219 = .ok (.istore 9, 2) := dk_54 9 (dk_at dksX4_does_7 19 rfl rfl)
theorem dX4_does_221 : decode cX4_does 221 = .ok (.goto 221, 3) := dk_167 0 221 (dk_at dksX4_does_7 21 rfl rfl)
theorem dX4_does_224 : decode cX4_does 224 = .ok (.aload_n 0, 1) := dk_42 (dk_at dksX4_does_8 0 rfl rfl)
theorem dX4_does_225 : decode cX4_does 225 = .ok (.iload_n 3, 1) := dk_29 (dk_at dksX4_does_8 1 rfl rfl)
theorem dX4_does_226 : decode cX4_does 226 = .ok (.iload 4, 2) := dk_21 4 (dk_at dksX4_does_8 2 rfl rfl)
theorem dX4_does_228 : decode cX4_does 228 = .ok (.iload 5, 2) := dk_21 5 (dk_at dksX4_does_8 4 rfl rfl)
theorem dX4_does_230 : decode cX4_does 230 = .ok (.invokevirtual 246, 3) := dk_182 0 246 (dk_at dksX4_does_8 6 rfl rfl)
theorem dX4_does_233 : decode cX4_does 233 = .ok (.goto 209, 3) := dk_167 0 209 (dk_at dksX4_does_8 9 rfl rfl)
theorem dX4_does_236 : decode cX4_does 236 = .ok (.aload_n 0, 1) := dk_42 (dk_at dksX4_does_8 12 rfl rfl)
theorem dX4_does_237 : decode cX4_does 237 = .ok (.getfield 51, 3) := dk_180 0 51 (dk_at dksX4_does_8 13 rfl rfl)
theorem dX4_does_240 : decode cX4_does 240 = .ok (.iload 6, 2) := dk_21 6 (dk_at dksX4_does_8 16 rfl rfl)
theorem dX4_does_242 : decode cX4_does 242 = .ok (.laload, 1) := dk_47 (dk_at dksX4_does_8 18 rfl rfl)
theorem dX4_does_243 : decode cX4_does 243 = .ok (.lconst 1, 1) := dk_10 (dk_at dksX4_does_8 19 rfl rfl)
theorem dX4_does_244 : decode cX4_does 244 = .ok (.lcmp, 1) := dk_148 (dk_at dksX4_does_8 20 rfl rfl)
theorem dX4_does_245 : decode cX4_does 245 = .ok (.ifCond .eq 12, 3) := dk_153 0 12 (dk_at dksX4_does_8 21 rfl rfl)
theorem dX4_does_248 : decode cX4_does 248 = .ok (.aload_n 0, 1) := dk_42 (dk_at dksX4_does_9 0 rfl rfl)
theorem dX4_does_249 : decode cX4_does 249 = .ok (.bipush (-5), 2) := dk_16 251 (dk_at dksX4_does_9 1 rfl rfl)
theorem dX4_does_251 : decode cX4_does 251 = .ok (.putfield 198, 3) := dk_181 0 198 (dk_at dksX4_does_9 3 rfl rfl)
theorem dX4_does_254 : decode cX4_does 254 = .ok (.goto 188, 3) := dk_167 0 188 (dk_at dksX4_does_9 6 rfl rfl)
theorem dX4_does_257 : decode cX4_does 257 = .ok (.aload_n 0, 1) := dk_42 (dk_at dksX4_does_9 9 rfl rfl)
theorem dX4_does_258 : decode cX4_does 258 = .ok (.aload_n 0, 1) := dk_42 (dk_at dksX4_does_9 10 rfl rfl)
theorem dX4_does_259 : decode cX4_does 259 = .ok (.getfield 47, 3) := dk_180 0 47 (dk_at dksX4_does_9 11 rfl rfl)
theorem dX4_does_262 : decode cX4_does 262 = .ok (.iload 6, 2) := dk_21 6 (dk_at dksX4_does_9 14 rfl rfl)
theorem dX4_does_264 : decode cX4_does 264 = .ok (.laload, 1) := dk_47 (dk_at dksX4_does_9 16 rfl rfl)
theorem dX4_does_265 : decode cX4_does 265 = .ok (.iload 4, 2) := dk_21 4 (dk_at dksX4_does_9 17 rfl rfl)
theorem dX4_does_267 : decode cX4_does 267 = .ok (.iload 5, 2) := dk_21 5 (dk_at dksX4_does_9 19 rfl rfl)
theorem dX4_does_269 : decode cX4_does 269 = .ok (.invokevirtual 249, 3) := dk_182 0 249 (dk_at dksX4_does_9 21 rfl rfl)
theorem dX4_does_272 : decode cX4_does 272 = .ok (.aload_n 0, 1) := dk_42 (dk_at dksX4_does_10 0 rfl rfl)
theorem dX4_does_273 : decode cX4_does 273 = .ok (.iconst 1, 1) := dk_4 (dk_at dksX4_does_10 1 rfl rfl)
theorem dX4_does_274 : decode cX4_does 274 = .ok (.putfield 152, 3) := dk_181 0 152 (dk_at dksX4_does_10 2 rfl rfl)
theorem dX4_does_277 : decode cX4_does 277 = .ok (.aload_n 0, 1) := dk_42 (dk_at dksX4_does_10 5 rfl rfl)
theorem dX4_does_278 : decode cX4_does 278 = .ok (.aload_n 0, 1) := dk_42 (dk_at dksX4_does_10 6 rfl rfl)
theorem dX4_does_279 : decode cX4_does 279 = .ok (.getfield 69, 3) := dk_180 0 69 (dk_at dksX4_does_10 7 rfl rfl)
theorem dX4_does_282 : decode cX4_does 282 = .ok (.iload 6, 2) := dk_21 6 (dk_at dksX4_does_10 10 rfl rfl)
theorem dX4_does_284 : decode cX4_does 284 = .ok (.baload, 1) := dk_51 (dk_at dksX4_does_10 12 rfl rfl)
theorem dX4_does_285 : decode cX4_does 285 = .ok (.putfield 156, 3) := dk_181 0 156 (dk_at dksX4_does_10 13 rfl rfl)
theorem dX4_does_288 : decode cX4_does 288 = .ok (.aload_n 0, 1) := dk_42 (dk_at dksX4_does_10 16 rfl rfl)
theorem dX4_does_289 : decode cX4_does 289 = .ok (.aload_n 0, 1) := dk_42 (dk_at dksX4_does_10 17 rfl rfl)
theorem dX4_does_290 : decode cX4_does 290 = .ok (.getfield 47, 3) := dk_180 0 47 (dk_at dksX4_does_10 18 rfl rfl)
theorem dX4_does_293 : decode cX4_does 293 = .ok (.iload 6, 2) := dk_21 6 (dk_at dksX4_does_10 21 rfl rfl)
theorem dX4_does_295 : decode cX4_does 295 = .ok (.laload, 1) := dk_47 (dk_at dksX4_does_10 23 rfl rfl)
theorem dX4_does_296 : decode cX4_does 296 = .ok (.putfield 253, 3) := dk_181 0 253 (dk_at dksX4_does_11 0 rfl rfl)
theorem dX4_does_299 : decode cX4_does 299 = .ok (.aload_n 0, 1) := dk_42 (dk_at dksX4_does_11 3 rfl rfl)
theorem dX4_does_300 : decode cX4_does 300 = .ok (.iload 5, 2) := dk_21 5 (dk_at dksX4_does_11 4 rfl rfl)
theorem dX4_does_302 : decode cX4_does 302 = .ok (.putfield 257, 3) := dk_181 1 1 (dk_at dksX4_does_11 6 rfl rfl)
theorem dX4_does_305 : decode cX4_does 305 = .ok (.goto 137, 3) := dk_167 0 137 (dk_at dksX4_does_11 9 rfl rfl)
theorem dX4_does_308 : decode cX4_does 308 = .ok (.aload_n 0, 1) := dk_42 (dk_at dksX4_does_11 12 rfl rfl)
theorem dX4_does_309 : decode cX4_does 309 = .ok (.iload_n 3, 1) := dk_29 (dk_at dksX4_does_11 13 rfl rfl)
theorem dX4_does_310 : decode cX4_does 310 = .ok (.aload_n 0, 1) := dk_42 (dk_at dksX4_does_11 14 rfl rfl)
theorem dX4_does_311 : decode cX4_does 311 = .ok (.getfield 54, 3) := dk_180 0 54 (dk_at dksX4_does_11 15 rfl rfl)
theorem dX4_does_314 : decode cX4_does 314 = .ok (.bipush 8, 2) := dk_16 8 (dk_at dksX4_does_11 18 rfl rfl)
theorem dX4_does_316 : decode cX4_does 316 = .ok (.aload_n 0, 1) := dk_42 (dk_at dksX4_does_11 20 rfl rfl)
theorem dX4_does_317 : decode cX4_does 317 = .ok (.getfield 146, 3) := dk_180 0 146 (dk_at dksX4_does_11 21 rfl rfl)
theorem dX4_does_320 : decode cX4_does 320 = .ok (.imul, 1) := dk_104 (dk_at dksX4_does_12 0 rfl rfl)
theorem dX4_does_321 : decode cX4_does 321 = .ok (.iload 4, 2) := dk_21 4 (dk_at dksX4_does_12 1 rfl rfl)
theorem dX4_does_323 : decode cX4_does 323 = .ok (.iadd, 1) := dk_96 (dk_at dksX4_does_12 3 rfl rfl)
theorem dX4_does_324 : decode cX4_does 324 = .ok (.laload, 1) := dk_47 (dk_at dksX4_does_12 4 rfl rfl)
theorem dX4_does_325 : decode cX4_does 325 = .ok (.invokevirtual 205, 3) := dk_182 0 205 (dk_at dksX4_does_12 5 rfl rfl)
theorem dX4_does_328 : decode cX4_does 328 = .ok (.ifCond .eq 114, 3) := dk_153 0 114 (dk_at dksX4_does_12 8 rfl rfl)
theorem dX4_does_331 : decode cX4_does 331 = .ok (.aload_n 0, 1) := dk_42 (dk_at dksX4_does_12 11 rfl rfl)
theorem dX4_does_332 : decode cX4_does 332 = .ok (.getfield 69, 3) := dk_180 0 69 (dk_at dksX4_does_12 12 rfl rfl)
theorem dX4_does_335 : decode cX4_does 335 = .ok (.iload 6, 2) := dk_21 6 (dk_at dksX4_does_12 15 rfl rfl)
theorem dX4_does_337 : decode cX4_does 337 = .ok (.aload_n 0, 1) := dk_42 (dk_at dksX4_does_12 17 rfl rfl)
theorem dX4_does_338 : decode cX4_does 338 = .ok (.getfield 156, 3) := dk_180 0 156 (dk_at dksX4_does_12 18 rfl rfl)
theorem dX4_does_341 : decode cX4_does 341 = .ok (.bastore, 1) := dk_84 (dk_at dksX4_does_12 21 rfl rfl)
theorem dX4_does_342 : decode cX4_does 342 = .ok (.goto 100, 3) := dk_167 0 100 (dk_at dksX4_does_13 0 rfl rfl)
theorem dX4_does_345 : decode cX4_does 345 = .ok (.aload_n 0, 1) := dk_42 (dk_at dksX4_does_13 3 rfl rfl)
theorem dX4_does_346 : decode cX4_does 346 = .ok (.iload_n 3, 1) := dk_29 (dk_at dksX4_does_13 4 rfl rfl)
theorem dX4_does_347 : decode cX4_does 347 = .ok (.iload_n 1, 1) := dk_27 (dk_at dksX4_does_13 5 rfl rfl)
theorem dX4_does_348 : decode cX4_does 348 = .ok (.invokevirtual 260, 3) := dk_182 1 4 (dk_at dksX4_does_13 6 rfl rfl)
theorem dX4_does_351 : decode cX4_does 351 = .ok (.goto 91, 3) := dk_167 0 91 (dk_at dksX4_does_13 9 rfl rfl)
theorem dX4_does_354 : decode cX4_does 354 = .ok (.aload_n 0, 1) := dk_42 (dk_at dksX4_does_13 12 rfl rfl)
theorem dX4_does_355 : decode cX4_does 355 = .ok (.iload_n 3, 1) := dk_29 (dk_at dksX4_does_13 13 rfl rfl)
theorem dX4_does_356 : decode cX4_does 356 = .ok (.iload 4, 2) := dk_21 4 (dk_at dksX4_does_13 14 rfl rfl)
theorem dX4_does_358 : decode cX4_does 358 = .ok (.iload 5, 2) := dk_21 5 (dk_at dksX4_does_13 16 rfl rfl)
theorem dX4_does_360 : decode cX4_does 360 = .ok (.i2l, 1) := dk_133 (dk_at dksX4_does_13 18 rfl rfl)
theorem dX4_does_361 : decode cX4_does 361 = .ok (.invokevirtual 264, 3) := dk_182 1 8 (dk_at dksX4_does_13 19 rfl rfl)
theorem dX4_does_364 : decode cX4_does 364 = .ok (.goto 78, 3) := dk_167 0 78 (dk_at dksX4_does_14 0 rfl rfl)
theorem dX4_does_367 : decode cX4_does 367 = .ok (.aload_n 0, 1) := dk_42 (dk_at dksX4_does_14 3 rfl rfl)
theorem dX4_does_368 : decode cX4_does 368 = .ok (.iload_n 3, 1) := dk_29 (dk_at dksX4_does_14 4 rfl rfl)
theorem dX4_does_369 : decode cX4_does 369 = .ok (.iload 4, 2) := dk_21 4 (dk_at dksX4_does_14 5 rfl rfl)
theorem dX4_does_371 : decode cX4_does 371 = .ok (.iload 5, 2) := dk_21 5 (dk_at dksX4_does_14 7 rfl rfl)
theorem dX4_does_373 : decode cX4_does 373 = .ok (.invokevirtual 268, 3) := dk_182 1 12 (dk_at dksX4_does_14 9 rfl rfl)
theorem dX4_does_376 : decode cX4_does 376 = .ok (.goto 66, 3) := dk_167 0 66 (dk_at dksX4_does_14 12 rfl rfl)
theorem dX4_does_379 : decode cX4_does 379 = .ok (.aload_n 0, 1) := dk_42 (dk_at dksX4_does_14 15 rfl rfl)
theorem dX4_does_380 : decode cX4_does 380 = .ok (.iload_n 3, 1) := dk_29 (dk_at dksX4_does_14 16 rfl rfl)
theorem dX4_does_381 : decode cX4_does 381 = .ok (.aload_n 0, 1) := dk_42 (dk_at dksX4_does_14 17 rfl rfl)
theorem dX4_does_382 : decode cX4_does 382 = .ok (.getfield 47, 3) := dk_180 0 47 (dk_at dksX4_does_14 18 rfl rfl)
theorem dX4_does_385 : decode cX4_does 385 = .ok (.bipush 8, 2) := dk_16 8 (dk_at dksX4_does_14 21 rfl rfl)
theorem dX4_does_387 : decode cX4_does 387 = .ok (.aload_n 0, 1) := dk_42 (dk_at dksX4_does_14 23 rfl rfl)
theorem dX4_does_388 : decode cX4_does 388 = .ok (.getfield 146, 3) := dk_180 0 146 (dk_at dksX4_does_15 0 rfl rfl)
theorem dX4_does_391 : decode cX4_does 391 = .ok (.imul, 1) := dk_104 (dk_at dksX4_does_15 3 rfl rfl)
theorem dX4_does_392 : decode cX4_does 392 = .ok (.iload 4, 2) := dk_21 4 (dk_at dksX4_does_15 4 rfl rfl)
theorem dX4_does_394 : decode cX4_does 394 = .ok (.iadd, 1) := dk_96 (dk_at dksX4_does_15 6 rfl rfl)
theorem dX4_does_395 : decode cX4_does 395 = .ok (.laload, 1) := dk_47 (dk_at dksX4_does_15 7 rfl rfl)
theorem dX4_does_396 : decode cX4_does 396 = .ok (.aload_n 0, 1) := dk_42 (dk_at dksX4_does_15 8 rfl rfl)
theorem dX4_does_397 : decode cX4_does 397 = .ok (.getfield 51, 3) := dk_180 0 51 (dk_at dksX4_does_15 9 rfl rfl)
theorem dX4_does_400 : decode cX4_does 400 = .ok (.bipush 8, 2) := dk_16 8 (dk_at dksX4_does_15 12 rfl rfl)
theorem dX4_does_402 : decode cX4_does 402 = .ok (.aload_n 0, 1) := dk_42 (dk_at dksX4_does_15 14 rfl rfl)
theorem dX4_does_403 : decode cX4_does 403 = .ok (.getfield 146, 3) := dk_180 0 146 (dk_at dksX4_does_15 15 rfl rfl)
theorem dX4_does_406 : decode cX4_does 406 = .ok (.imul, 1) := dk_104 (dk_at dksX4_does_15 18 rfl rfl)
theorem dX4_does_407 : decode cX4_does 407 = .ok (.iload 4, 2) := dk_21 4 (dk_at dksX4_does_15 19 rfl rfl)
theorem dX4_does_409 : decode cX4_does 409 = .ok (.iadd, 1) := dk_96 (dk_at dksX4_does_15 21 rfl rfl)
theorem dX4_does_410 : decode cX4_does 410 = .ok (.laload, 1) := dk_47 (dk_at dksX4_does_15 22 rfl rfl)
theorem dX4_does_411 : decode cX4_does 411 = .ok (.iload 5, 2) := dk_21 5 (dk_at dksX4_does_16 0 rfl rfl)
theorem dX4_does_413 : decode cX4_does 413 = .ok (.invokestatic 212, 3) := dk_184 0 212 (dk_at dksX4_does_16 2 rfl rfl)
theorem dX4_does_416 : decode cX4_does 416 = .ok (.invokevirtual 205, 3) := dk_182 0 205 (dk_at dksX4_does_16 5 rfl rfl)
theorem dX4_does_419 : decode cX4_does 419 = .ok (.ifCond .eq 23, 3) := dk_153 0 23 (dk_at dksX4_does_16 8 rfl rfl)
theorem dX4_does_422 : decode cX4_does 422 = .ok (.aload_n 0, 1) := dk_42 (dk_at dksX4_does_16 11 rfl rfl)
theorem dX4_does_423 : decode cX4_does 423 = .ok (.getfield 69, 3) := dk_180 0 69 (dk_at dksX4_does_16 12 rfl rfl)
theorem dX4_does_426 : decode cX4_does 426 = .ok (.iload 6, 2) := dk_21 6 (dk_at dksX4_does_16 15 rfl rfl)
theorem dX4_does_428 : decode cX4_does 428 = .ok (.iconst 1, 1) := dk_4 (dk_at dksX4_does_16 17 rfl rfl)
theorem dX4_does_429 : decode cX4_does 429 = .ok (.bastore, 1) := dk_84 (dk_at dksX4_does_16 18 rfl rfl)
theorem dX4_does_430 : decode cX4_does 430 = .ok (.goto 12, 3) := dk_167 0 12 (dk_at dksX4_does_16 19 rfl rfl)
theorem dX4_does_433 : decode cX4_does 433 = .ok (.aload_n 0, 1) := dk_42 (dk_at dksX4_does_16 22 rfl rfl)
theorem dX4_does_434 : decode cX4_does 434 = .ok (.iload_n 3, 1) := dk_29 (dk_at dksX4_does_16 23 rfl rfl)
theorem dX4_does_435 : decode cX4_does 435 = .ok (.iload 4, 2) := dk_21 4 (dk_at dksX4_does_17 0 rfl rfl)
theorem dX4_does_437 : decode cX4_does 437 = .ok (.iload 5, 2) := dk_21 5 (dk_at dksX4_does_17 2 rfl rfl)
theorem dX4_does_439 : decode cX4_does 439 = .ok (.invokevirtual 271, 3) := dk_182 1 15 (dk_at dksX4_does_17 4 rfl rfl)
theorem dX4_does_442 : decode cX4_does 442 = .ok (.return_, 1) := dk_177 (dk_at dksX4_does_17 7 rfl rfl)
abbrev cX4_plain : ByteArray := prog_23_method_25_code
def yX4_plain : MethodName := ⟨RX4, "plain", "(IJ)V"⟩
def dkwX4_plain_1 : List UInt8 := [177]
abbrev dktX4_plain_1 : List UInt8 := dkwX4_plain_1 ++ []
def dkwX4_plain_0 : List UInt8 := [42, 27, 32, 182, 0, 205, 153, 0, 18, 42, 180, 0, 69, 16, 8, 42, 180, 0, 146, 104, 27, 96, 3, 84]
abbrev dktX4_plain_0 : List UInt8 := dkwX4_plain_0 ++ dktX4_plain_1
theorem dksX4_plain_0 : cX4_plain.data.toList.drop 0 = dktX4_plain_0 := by decide +kernel
theorem dksX4_plain_1 : cX4_plain.data.toList.drop 24 = dktX4_plain_1 := dk_seg dksX4_plain_0 24 rfl rfl
theorem dX4_plain_0 : decode cX4_plain 0 = .ok (.aload_n 0, 1) := dk_42 (dk_at dksX4_plain_0 0 rfl rfl)
theorem dX4_plain_1 : decode cX4_plain 1 = .ok (.iload_n 1, 1) := dk_27 (dk_at dksX4_plain_0 1 rfl rfl)
theorem dX4_plain_2 : decode cX4_plain 2 = .ok (.lload_n 2, 1) := dk_32 (dk_at dksX4_plain_0 2 rfl rfl)
theorem dX4_plain_3 : decode cX4_plain 3 = .ok (.invokevirtual 205, 3) := dk_182 0 205 (dk_at dksX4_plain_0 3 rfl rfl)
theorem dX4_plain_6 : decode cX4_plain 6 = .ok (.ifCond .eq 18, 3) := dk_153 0 18 (dk_at dksX4_plain_0 6 rfl rfl)
theorem dX4_plain_9 : decode cX4_plain 9 = .ok (.aload_n 0, 1) := dk_42 (dk_at dksX4_plain_0 9 rfl rfl)
theorem dX4_plain_10 : decode cX4_plain 10 = .ok (.getfield 69, 3) := dk_180 0 69 (dk_at dksX4_plain_0 10 rfl rfl)
theorem dX4_plain_13 : decode cX4_plain 13 = .ok (.bipush 8, 2) := dk_16 8 (dk_at dksX4_plain_0 13 rfl rfl)
theorem dX4_plain_15 : decode cX4_plain 15 = .ok (.aload_n 0, 1) := dk_42 (dk_at dksX4_plain_0 15 rfl rfl)
theorem dX4_plain_16 : decode cX4_plain 16 = .ok (.getfield 146, 3) := dk_180 0 146 (dk_at dksX4_plain_0 16 rfl rfl)
theorem dX4_plain_19 : decode cX4_plain 19 = .ok (.imul, 1) := dk_104 (dk_at dksX4_plain_0 19 rfl rfl)
theorem dX4_plain_20 : decode cX4_plain 20 = .ok (.iload_n 1, 1) := dk_27 (dk_at dksX4_plain_0 20 rfl rfl)
theorem dX4_plain_21 : decode cX4_plain 21 = .ok (.iadd, 1) := dk_96 (dk_at dksX4_plain_0 21 rfl rfl)
theorem dX4_plain_22 : decode cX4_plain 22 = .ok (.iconst 0, 1) := dk_3 (dk_at dksX4_plain_0 22 rfl rfl)
theorem dX4_plain_23 : decode cX4_plain 23 = .ok (.bastore, 1) := dk_84 (dk_at dksX4_plain_0 23 rfl rfl)
theorem dX4_plain_24 : decode cX4_plain 24 = .ok (.return_, 1) := dk_177 (dk_at dksX4_plain_1 0 rfl rfl)
abbrev cX4_becomesWhole : ByteArray := prog_23_method_24_code
def yX4_becomesWhole : MethodName := ⟨RX4, "becomesWhole", "(IJ)Z"⟩
def dkwX4_becomesWhole_0 : List UInt8 := [42, 27, 32, 10, 182, 0, 201, 172]
abbrev dktX4_becomesWhole_0 : List UInt8 := dkwX4_becomesWhole_0 ++ []
theorem dksX4_becomesWhole_0 : cX4_becomesWhole.data.toList.drop 0 = dktX4_becomesWhole_0 := by decide +kernel
theorem dX4_becomesWhole_0 : decode cX4_becomesWhole 0 = .ok (.aload_n 0, 1) := dk_42 (dk_at dksX4_becomesWhole_0 0 rfl rfl)
theorem dX4_becomesWhole_1 : decode cX4_becomesWhole 1 = .ok (.iload_n 1, 1) := dk_27 (dk_at dksX4_becomesWhole_0 1 rfl rfl)
theorem dX4_becomesWhole_2 : decode cX4_becomesWhole 2 = .ok (.lload_n 2, 1) := dk_32 (dk_at dksX4_becomesWhole_0 2 rfl rfl)
theorem dX4_becomesWhole_3 : decode cX4_becomesWhole 3 = .ok (.lconst 1, 1) := dk_10 (dk_at dksX4_becomesWhole_0 3 rfl rfl)
theorem dX4_becomesWhole_4 : decode cX4_becomesWhole 4 = .ok (.invokevirtual 201, 3) := dk_182 0 201 (dk_at dksX4_becomesWhole_0 4 rfl rfl)
theorem dX4_becomesWhole_7 : decode cX4_becomesWhole 7 = .ok (.ireturn, 1) := dk_172 (dk_at dksX4_becomesWhole_0 7 rfl rfl)
abbrev cX4_becomes : ByteArray := prog_23_method_23_code
def yX4_becomes : MethodName := ⟨RX4, "becomes", "(IJJ)Z"⟩
def dkwX4_becomes_3 : List UInt8 := [22, 8, 80, 42, 180, 0, 51, 16, 8, 42, 180, 0, 146, 104, 27, 96, 22, 10, 80, 4, 172]
abbrev dktX4_becomes_3 : List UInt8 := dkwX4_becomes_3 ++ []
def dkwX4_becomes_2 : List UInt8 := [158, 0, 11, 42, 16, 250, 181, 0, 198, 3, 172, 42, 180, 0, 47, 16, 8, 42, 180, 0, 146, 104, 27, 96]
abbrev dktX4_becomes_2 : List UInt8 := dkwX4_becomes_2 ++ dktX4_becomes_3
def dkwX4_becomes_1 : List UInt8 := [20, 0, 192, 148, 157, 0, 21, 22, 8, 20, 0, 194, 148, 155, 0, 12, 22, 10, 20, 0, 196, 148]
abbrev dktX4_becomes_1 : List UInt8 := dkwX4_becomes_1 ++ dktX4_becomes_2
def dkwX4_becomes_0 : List UInt8 := [32, 22, 4, 184, 0, 189, 55, 6, 32, 22, 6, 109, 55, 8, 22, 4, 22, 6, 109, 55, 10, 22, 8]
abbrev dktX4_becomes_0 : List UInt8 := dkwX4_becomes_0 ++ dktX4_becomes_1
theorem dksX4_becomes_0 : cX4_becomes.data.toList.drop 0 = dktX4_becomes_0 := by decide +kernel
theorem dksX4_becomes_1 : cX4_becomes.data.toList.drop 23 = dktX4_becomes_1 := dk_seg dksX4_becomes_0 23 rfl rfl
theorem dksX4_becomes_2 : cX4_becomes.data.toList.drop 45 = dktX4_becomes_2 := dk_seg dksX4_becomes_1 22 rfl rfl
theorem dksX4_becomes_3 : cX4_becomes.data.toList.drop 69 = dktX4_becomes_3 := dk_seg dksX4_becomes_2 24 rfl rfl
theorem dX4_becomes_0 : decode cX4_becomes 0 = .ok (.lload_n 2, 1) := dk_32 (dk_at dksX4_becomes_0 0 rfl rfl)
theorem dX4_becomes_1 : decode cX4_becomes 1 = .ok (.lload 4, 2) := dk_22 4 (dk_at dksX4_becomes_0 1 rfl rfl)
theorem dX4_becomes_3 : decode cX4_becomes 3 = .ok (.invokestatic 189, 3) := dk_184 0 189 (dk_at dksX4_becomes_0 3 rfl rfl)
theorem dX4_becomes_6 : decode cX4_becomes 6 = .ok (.lstore 6, 2) := dk_55 6 (dk_at dksX4_becomes_0 6 rfl rfl)
theorem dX4_becomes_8 : decode cX4_becomes 8 = .ok (.lload_n 2, 1) := dk_32 (dk_at dksX4_becomes_0 8 rfl rfl)
theorem dX4_becomes_9 : decode cX4_becomes 9 = .ok (.lload 6, 2) := dk_22 6 (dk_at dksX4_becomes_0 9 rfl rfl)
theorem dX4_becomes_11 : decode cX4_becomes 11 = .ok (.ldiv, 1) := dk_109 (dk_at dksX4_becomes_0 11 rfl rfl)
theorem dX4_becomes_12 : decode cX4_becomes 12 = .ok (.lstore 8, 2) := dk_55 8 (dk_at dksX4_becomes_0 12 rfl rfl)
theorem dX4_becomes_14 : decode cX4_becomes 14 = .ok (.lload 4, 2) := dk_22 4 (dk_at dksX4_becomes_0 14 rfl rfl)
theorem dX4_becomes_16 : decode cX4_becomes 16 = .ok (.lload 6, 2) := dk_22 6 (dk_at dksX4_becomes_0 16 rfl rfl)
theorem dX4_becomes_18 : decode cX4_becomes 18 = .ok (.ldiv, 1) := dk_109 (dk_at dksX4_becomes_0 18 rfl rfl)
theorem dX4_becomes_19 : decode cX4_becomes 19 = .ok (.lstore 10, 2) := dk_55 10 (dk_at dksX4_becomes_0 19 rfl rfl)
theorem dX4_becomes_21 : decode cX4_becomes 21 = .ok (.lload 8, 2) := dk_22 8 (dk_at dksX4_becomes_0 21 rfl rfl)
theorem dX4_becomes_23 : decode cX4_becomes 23 = .ok (.ldc2_w 192, 3) := dk_20 0 192 (dk_at dksX4_becomes_1 0 rfl rfl)
theorem dX4_becomes_26 : decode cX4_becomes 26 = .ok (.lcmp, 1) := dk_148 (dk_at dksX4_becomes_1 3 rfl rfl)
theorem dX4_becomes_27 : decode cX4_becomes 27 = .ok (.ifCond .gt 21, 3) := dk_157 0 21 (dk_at dksX4_becomes_1 4 rfl rfl)
theorem dX4_becomes_30 : decode cX4_becomes 30 = .ok (.lload 8, 2) := dk_22 8 (dk_at dksX4_becomes_1 7 rfl rfl)
theorem dX4_becomes_32 : decode cX4_becomes 32 = .ok (.ldc2_w 194, 3) := dk_20 0 194 (dk_at dksX4_becomes_1 9 rfl rfl)
theorem dX4_becomes_35 : decode cX4_becomes 35 = .ok (.lcmp, 1) := dk_148 (dk_at dksX4_becomes_1 12 rfl rfl)
theorem dX4_becomes_36 : decode cX4_becomes 36 = .ok (.ifCond .lt 12, 3) := dk_155 0 12 (dk_at dksX4_becomes_1 13 rfl rfl)
theorem dX4_becomes_39 : decode cX4_becomes 39 = .ok (.lload 10, 2) := dk_22 10 (dk_at dksX4_becomes_1 16 rfl rfl)
theorem dX4_becomes_41 : decode cX4_becomes 41 = .ok (.ldc2_w 196, 3) := dk_20 0 196 (dk_at dksX4_becomes_1 18 rfl rfl)
theorem dX4_becomes_44 : decode cX4_becomes 44 = .ok (.lcmp, 1) := dk_148 (dk_at dksX4_becomes_1 21 rfl rfl)
theorem dX4_becomes_45 : decode cX4_becomes 45 = .ok (.ifCond .le 11, 3) := dk_158 0 11 (dk_at dksX4_becomes_2 0 rfl rfl)
theorem dX4_becomes_48 : decode cX4_becomes 48 = .ok (.aload_n 0, 1) := dk_42 (dk_at dksX4_becomes_2 3 rfl rfl)
theorem dX4_becomes_49 : decode cX4_becomes 49 = .ok (.bipush (-6), 2) := dk_16 250 (dk_at dksX4_becomes_2 4 rfl rfl)
theorem dX4_becomes_51 : decode cX4_becomes 51 = .ok (.putfield 198, 3) := dk_181 0 198 (dk_at dksX4_becomes_2 6 rfl rfl)
theorem dX4_becomes_54 : decode cX4_becomes 54 = .ok (.iconst 0, 1) := dk_3 (dk_at dksX4_becomes_2 9 rfl rfl)
theorem dX4_becomes_55 : decode cX4_becomes 55 = .ok (.ireturn, 1) := dk_172 (dk_at dksX4_becomes_2 10 rfl rfl)
theorem dX4_becomes_56 : decode cX4_becomes 56 = .ok (.aload_n 0, 1) := dk_42 (dk_at dksX4_becomes_2 11 rfl rfl)
theorem dX4_becomes_57 : decode cX4_becomes 57 = .ok (.getfield 47, 3) := dk_180 0 47 (dk_at dksX4_becomes_2 12 rfl rfl)
theorem dX4_becomes_60 : decode cX4_becomes 60 = .ok (.bipush 8, 2) := dk_16 8 (dk_at dksX4_becomes_2 15 rfl rfl)
theorem dX4_becomes_62 : decode cX4_becomes 62 = .ok (.aload_n 0, 1) := dk_42 (dk_at dksX4_becomes_2 17 rfl rfl)
theorem dX4_becomes_63 : decode cX4_becomes 63 = .ok (.getfield 146, 3) := dk_180 0 146 (dk_at dksX4_becomes_2 18 rfl rfl)
theorem dX4_becomes_66 : decode cX4_becomes 66 = .ok (.imul, 1) := dk_104 (dk_at dksX4_becomes_2 21 rfl rfl)
theorem dX4_becomes_67 : decode cX4_becomes 67 = .ok (.iload_n 1, 1) := dk_27 (dk_at dksX4_becomes_2 22 rfl rfl)
theorem dX4_becomes_68 : decode cX4_becomes 68 = .ok (.iadd, 1) := dk_96 (dk_at dksX4_becomes_2 23 rfl rfl)
theorem dX4_becomes_69 : decode cX4_becomes 69 = .ok (.lload 8, 2) := dk_22 8 (dk_at dksX4_becomes_3 0 rfl rfl)
theorem dX4_becomes_71 : decode cX4_becomes 71 = .ok (.lastore, 1) := dk_80 (dk_at dksX4_becomes_3 2 rfl rfl)
theorem dX4_becomes_72 : decode cX4_becomes 72 = .ok (.aload_n 0, 1) := dk_42 (dk_at dksX4_becomes_3 3 rfl rfl)
theorem dX4_becomes_73 : decode cX4_becomes 73 = .ok (.getfield 51, 3) := dk_180 0 51 (dk_at dksX4_becomes_3 4 rfl rfl)
theorem dX4_becomes_76 : decode cX4_becomes 76 = .ok (.bipush 8, 2) := dk_16 8 (dk_at dksX4_becomes_3 7 rfl rfl)
theorem dX4_becomes_78 : decode cX4_becomes 78 = .ok (.aload_n 0, 1) := dk_42 (dk_at dksX4_becomes_3 9 rfl rfl)
theorem dX4_becomes_79 : decode cX4_becomes 79 = .ok (.getfield 146, 3) := dk_180 0 146 (dk_at dksX4_becomes_3 10 rfl rfl)
theorem dX4_becomes_82 : decode cX4_becomes 82 = .ok (.imul, 1) := dk_104 (dk_at dksX4_becomes_3 13 rfl rfl)
theorem dX4_becomes_83 : decode cX4_becomes 83 = .ok (.iload_n 1, 1) := dk_27 (dk_at dksX4_becomes_3 14 rfl rfl)
theorem dX4_becomes_84 : decode cX4_becomes 84 = .ok (.iadd, 1) := dk_96 (dk_at dksX4_becomes_3 15 rfl rfl)
theorem dX4_becomes_85 : decode cX4_becomes 85 = .ok (.lload 10, 2) := dk_22 10 (dk_at dksX4_becomes_3 16 rfl rfl)
theorem dX4_becomes_87 : decode cX4_becomes 87 = .ok (.lastore, 1) := dk_80 (dk_at dksX4_becomes_3 18 rfl rfl)
theorem dX4_becomes_88 : decode cX4_becomes 88 = .ok (.iconst 1, 1) := dk_4 (dk_at dksX4_becomes_3 19 rfl rfl)
theorem dX4_becomes_89 : decode cX4_becomes 89 = .ok (.ireturn, 1) := dk_172 (dk_at dksX4_becomes_3 20 rfl rfl)
abbrev cX4_common : ByteArray := prog_23_method_20_code
def yX4_common : MethodName := ⟨RX4, "common", "(JJ)J"⟩
def dkwX4_common_1 : List UInt8 := [22, 4, 22, 6, 113, 55, 8, 22, 6, 55, 4, 22, 8, 55, 6, 167, 255, 234, 22, 4, 173]
abbrev dktX4_common_1 : List UInt8 := dkwX4_common_1 ++ []
def dkwX4_common_0 : List UInt8 := [30, 9, 148, 156, 0, 8, 30, 117, 167, 0, 4, 30, 55, 4, 32, 55, 6, 22, 6, 9, 148, 153, 0, 21]
abbrev dktX4_common_0 : List UInt8 := dkwX4_common_0 ++ dktX4_common_1
theorem dksX4_common_0 : cX4_common.data.toList.drop 0 = dktX4_common_0 := by decide +kernel
theorem dksX4_common_1 : cX4_common.data.toList.drop 24 = dktX4_common_1 := dk_seg dksX4_common_0 24 rfl rfl
theorem dX4_common_0 : decode cX4_common 0 = .ok (.lload_n 0, 1) := dk_30 (dk_at dksX4_common_0 0 rfl rfl)
theorem dX4_common_1 : decode cX4_common 1 = .ok (.lconst 0, 1) := dk_9 (dk_at dksX4_common_0 1 rfl rfl)
theorem dX4_common_2 : decode cX4_common 2 = .ok (.lcmp, 1) := dk_148 (dk_at dksX4_common_0 2 rfl rfl)
theorem dX4_common_3 : decode cX4_common 3 = .ok (.ifCond .ge 8, 3) := dk_156 0 8 (dk_at dksX4_common_0 3 rfl rfl)
theorem dX4_common_6 : decode cX4_common 6 = .ok (.lload_n 0, 1) := dk_30 (dk_at dksX4_common_0 6 rfl rfl)
theorem dX4_common_7 : decode cX4_common 7 = .ok (.lneg, 1) := dk_117 (dk_at dksX4_common_0 7 rfl rfl)
theorem dX4_common_8 : decode cX4_common 8 = .ok (.goto 4, 3) := dk_167 0 4 (dk_at dksX4_common_0 8 rfl rfl)
theorem dX4_common_11 : decode cX4_common 11 = .ok (.lload_n 0, 1) := dk_30 (dk_at dksX4_common_0 11 rfl rfl)
theorem dX4_common_12 : decode cX4_common 12 = .ok (.lstore 4, 2) := dk_55 4 (dk_at dksX4_common_0 12 rfl rfl)
theorem dX4_common_14 : decode cX4_common 14 = .ok (.lload_n 2, 1) := dk_32 (dk_at dksX4_common_0 14 rfl rfl)
theorem dX4_common_15 : decode cX4_common 15 = .ok (.lstore 6, 2) := dk_55 6 (dk_at dksX4_common_0 15 rfl rfl)
theorem dX4_common_17 : decode cX4_common 17 = .ok (.lload 6, 2) := dk_22 6 (dk_at dksX4_common_0 17 rfl rfl)
theorem dX4_common_19 : decode cX4_common 19 = .ok (.lconst 0, 1) := dk_9 (dk_at dksX4_common_0 19 rfl rfl)
theorem dX4_common_20 : decode cX4_common 20 = .ok (.lcmp, 1) := dk_148 (dk_at dksX4_common_0 20 rfl rfl)
theorem dX4_common_21 : decode cX4_common 21 = .ok (.ifCond .eq 21, 3) := dk_153 0 21 (dk_at dksX4_common_0 21 rfl rfl)
theorem dX4_common_24 : decode cX4_common 24 = .ok (.lload 4, 2) := dk_22 4 (dk_at dksX4_common_1 0 rfl rfl)
theorem dX4_common_26 : decode cX4_common 26 = .ok (.lload 6, 2) := dk_22 6 (dk_at dksX4_common_1 2 rfl rfl)
theorem dX4_common_28 : decode cX4_common 28 = .ok (.lrem, 1) := dk_113 (dk_at dksX4_common_1 4 rfl rfl)
theorem dX4_common_29 : decode cX4_common 29 = .ok (.lstore 8, 2) := dk_55 8 (dk_at dksX4_common_1 5 rfl rfl)
theorem dX4_common_31 : decode cX4_common 31 = .ok (.lload 6, 2) := dk_22 6 (dk_at dksX4_common_1 7 rfl rfl)
theorem dX4_common_33 : decode cX4_common 33 = .ok (.lstore 4, 2) := dk_55 4 (dk_at dksX4_common_1 9 rfl rfl)
theorem dX4_common_35 : decode cX4_common 35 = .ok (.lload 8, 2) := dk_22 8 (dk_at dksX4_common_1 11 rfl rfl)
theorem dX4_common_37 : decode cX4_common 37 = .ok (.lstore 6, 2) := dk_55 6 (dk_at dksX4_common_1 13 rfl rfl)
theorem dX4_common_39 : decode cX4_common 39 = .ok (.goto (-22), 3) := dk_167 255 234 (dk_at dksX4_common_1 15 rfl rfl)
theorem dX4_common_42 : decode cX4_common 42 = .ok (.lload 4, 2) := dk_22 4 (dk_at dksX4_common_1 18 rfl rfl)
theorem dX4_common_44 : decode cX4_common 44 = .ok (.lreturn, 1) := dk_173 (dk_at dksX4_common_1 20 rfl rfl)
abbrev cX4_taxes : ByteArray := prog_23_method_26_code
def yX4_taxes : MethodName := ⟨RX4, "taxes", "(IIIZ)V"⟩
def dkwX4_taxes_5 : List UInt8 := [182, 0, 216, 177]
abbrev dktX4_taxes_5 : List UInt8 := dkwX4_taxes_5 ++ []
def dkwX4_taxes_4 : List UInt8 := [21, 9, 96, 22, 10, 80, 22, 5, 22, 10, 97, 55, 5, 132, 9, 1, 167, 255, 156, 42, 27, 22, 5]
abbrev dktX4_taxes_4 : List UInt8 := dkwX4_taxes_4 ++ dktX4_taxes_5
def dkwX4_taxes_3 : List UInt8 := [153, 0, 8, 22, 5, 167, 0, 4, 9, 101, 55, 10, 42, 180, 0, 57, 16, 12, 42, 180, 0, 146, 104]
abbrev dktX4_taxes_3 : List UInt8 := dkwX4_taxes_3 ++ dktX4_taxes_4
def dkwX4_taxes_2 : List UInt8 := [22, 7, 42, 180, 0, 7, 28, 46, 133, 105, 42, 180, 0, 13, 28, 46, 133, 29, 184, 0, 212, 21, 4]
abbrev dktX4_taxes_2 : List UInt8 := dkwX4_taxes_2 ++ dktX4_taxes_3
def dkwX4_taxes_1 : List UInt8 := [22, 7, 42, 180, 0, 44, 21, 9, 46, 133, 97, 167, 0, 11, 42, 180, 0, 44, 21, 9, 46, 133, 55, 7]
abbrev dktX4_taxes_1 : List UInt8 := dkwX4_taxes_1 ++ dktX4_taxes_2
def dkwX4_taxes_0 : List UInt8 := [9, 55, 5, 9, 55, 7, 3, 54, 9, 21, 9, 42, 180, 0, 209, 162, 0, 97, 21, 4, 153, 0, 17]
abbrev dktX4_taxes_0 : List UInt8 := dkwX4_taxes_0 ++ dktX4_taxes_1
theorem dksX4_taxes_0 : cX4_taxes.data.toList.drop 0 = dktX4_taxes_0 := by decide +kernel
theorem dksX4_taxes_1 : cX4_taxes.data.toList.drop 23 = dktX4_taxes_1 := dk_seg dksX4_taxes_0 23 rfl rfl
theorem dksX4_taxes_2 : cX4_taxes.data.toList.drop 47 = dktX4_taxes_2 := dk_seg dksX4_taxes_1 24 rfl rfl
theorem dksX4_taxes_3 : cX4_taxes.data.toList.drop 70 = dktX4_taxes_3 := dk_seg dksX4_taxes_2 23 rfl rfl
theorem dksX4_taxes_4 : cX4_taxes.data.toList.drop 93 = dktX4_taxes_4 := dk_seg dksX4_taxes_3 23 rfl rfl
theorem dksX4_taxes_5 : cX4_taxes.data.toList.drop 116 = dktX4_taxes_5 := dk_seg dksX4_taxes_4 23 rfl rfl
theorem dX4_taxes_0 : decode cX4_taxes 0 = .ok (.lconst 0, 1) := dk_9 (dk_at dksX4_taxes_0 0 rfl rfl)
theorem dX4_taxes_1 : decode cX4_taxes 1 = .ok (.lstore 5, 2) := dk_55 5 (dk_at dksX4_taxes_0 1 rfl rfl)
theorem dX4_taxes_3 : decode cX4_taxes 3 = .ok (.lconst 0, 1) := dk_9 (dk_at dksX4_taxes_0 3 rfl rfl)
theorem dX4_taxes_4 : decode cX4_taxes 4 = .ok (.lstore 7, 2) := dk_55 7 (dk_at dksX4_taxes_0 4 rfl rfl)
theorem dX4_taxes_6 : decode cX4_taxes 6 = .ok (.iconst 0, 1) := dk_3 (dk_at dksX4_taxes_0 6 rfl rfl)
theorem dX4_taxes_7 : decode cX4_taxes 7 = .ok (.istore 9, 2) := dk_54 9 (dk_at dksX4_taxes_0 7 rfl rfl)
theorem dX4_taxes_9 : decode cX4_taxes 9 = .ok (.iload 9, 2) := dk_21 9 (dk_at dksX4_taxes_0 9 rfl rfl)
theorem dX4_taxes_11 : decode cX4_taxes 11 = .ok (.aload_n 0, 1) := dk_42 (dk_at dksX4_taxes_0 11 rfl rfl)
theorem dX4_taxes_12 : decode cX4_taxes 12 = .ok (.getfield 209, 3) := dk_180 0 209 (dk_at dksX4_taxes_0 12 rfl rfl)
theorem dX4_taxes_15 : decode cX4_taxes 15 = .ok (.if_icmp .ge 97, 3) := dk_162 0 97 (dk_at dksX4_taxes_0 15 rfl rfl)
theorem dX4_taxes_18 : decode cX4_taxes 18 = .ok (.iload 4, 2) := dk_21 4 (dk_at dksX4_taxes_0 18 rfl rfl)
theorem dX4_taxes_20 : decode cX4_taxes 20 = .ok (.ifCond .eq 17, 3) := dk_153 0 17 (dk_at dksX4_taxes_0 20 rfl rfl)
theorem dX4_taxes_23 : decode cX4_taxes 23 = .ok (.lload 7, 2) := dk_22 7 (dk_at dksX4_taxes_1 0 rfl rfl)
theorem dX4_taxes_25 : decode cX4_taxes 25 = .ok (.aload_n 0, 1) := dk_42 (dk_at dksX4_taxes_1 2 rfl rfl)
theorem dX4_taxes_26 : decode cX4_taxes 26 = .ok (.getfield 44, 3) := dk_180 0 44 (dk_at dksX4_taxes_1 3 rfl rfl)
theorem dX4_taxes_29 : decode cX4_taxes 29 = .ok (.iload 9, 2) := dk_21 9 (dk_at dksX4_taxes_1 6 rfl rfl)
theorem dX4_taxes_31 : decode cX4_taxes 31 = .ok (.iaload, 1) := dk_46 (dk_at dksX4_taxes_1 8 rfl rfl)
theorem dX4_taxes_32 : decode cX4_taxes 32 = .ok (.i2l, 1) := dk_133 (dk_at dksX4_taxes_1 9 rfl rfl)
theorem dX4_taxes_33 : decode cX4_taxes 33 = .ok (.ladd, 1) := dk_97 (dk_at dksX4_taxes_1 10 rfl rfl)
theorem dX4_taxes_34 : decode cX4_taxes 34 = .ok (.goto 11, 3) := dk_167 0 11 (dk_at dksX4_taxes_1 11 rfl rfl)
theorem dX4_taxes_37 : decode cX4_taxes 37 = .ok (.aload_n 0, 1) := dk_42 (dk_at dksX4_taxes_1 14 rfl rfl)
theorem dX4_taxes_38 : decode cX4_taxes 38 = .ok (.getfield 44, 3) := dk_180 0 44 (dk_at dksX4_taxes_1 15 rfl rfl)
theorem dX4_taxes_41 : decode cX4_taxes 41 = .ok (.iload 9, 2) := dk_21 9 (dk_at dksX4_taxes_1 18 rfl rfl)
theorem dX4_taxes_43 : decode cX4_taxes 43 = .ok (.iaload, 1) := dk_46 (dk_at dksX4_taxes_1 20 rfl rfl)
theorem dX4_taxes_44 : decode cX4_taxes 44 = .ok (.i2l, 1) := dk_133 (dk_at dksX4_taxes_1 21 rfl rfl)
theorem dX4_taxes_45 : decode cX4_taxes 45 = .ok (.lstore 7, 2) := dk_55 7 (dk_at dksX4_taxes_1 22 rfl rfl)
theorem dX4_taxes_47 : decode cX4_taxes 47 = .ok (.lload 7, 2) := dk_22 7 (dk_at dksX4_taxes_2 0 rfl rfl)
theorem dX4_taxes_49 : decode cX4_taxes 49 = .ok (.aload_n 0, 1) := dk_42 (dk_at dksX4_taxes_2 2 rfl rfl)
theorem dX4_taxes_50 : decode cX4_taxes 50 = .ok (.getfield 7, 3) := dk_180 0 7 (dk_at dksX4_taxes_2 3 rfl rfl)
theorem dX4_taxes_53 : decode cX4_taxes 53 = .ok (.iload_n 2, 1) := dk_28 (dk_at dksX4_taxes_2 6 rfl rfl)
theorem dX4_taxes_54 : decode cX4_taxes 54 = .ok (.iaload, 1) := dk_46 (dk_at dksX4_taxes_2 7 rfl rfl)
theorem dX4_taxes_55 : decode cX4_taxes 55 = .ok (.i2l, 1) := dk_133 (dk_at dksX4_taxes_2 8 rfl rfl)
theorem dX4_taxes_56 : decode cX4_taxes 56 = .ok (.lmul, 1) := dk_105 (dk_at dksX4_taxes_2 9 rfl rfl)
theorem dX4_taxes_57 : decode cX4_taxes 57 = .ok (.aload_n 0, 1) := dk_42 (dk_at dksX4_taxes_2 10 rfl rfl)
theorem dX4_taxes_58 : decode cX4_taxes 58 = .ok (.getfield 13, 3) := dk_180 0 13 (dk_at dksX4_taxes_2 11 rfl rfl)
theorem dX4_taxes_61 : decode cX4_taxes 61 = .ok (.iload_n 2, 1) := dk_28 (dk_at dksX4_taxes_2 14 rfl rfl)
theorem dX4_taxes_62 : decode cX4_taxes 62 = .ok (.iaload, 1) := dk_46 (dk_at dksX4_taxes_2 15 rfl rfl)
theorem dX4_taxes_63 : decode cX4_taxes 63 = .ok (.i2l, 1) := dk_133 (dk_at dksX4_taxes_2 16 rfl rfl)
theorem dX4_taxes_64 : decode cX4_taxes 64 = .ok (.iload_n 3, 1) := dk_29 (dk_at dksX4_taxes_2 17 rfl rfl)
theorem dX4_taxes_65 : decode cX4_taxes 65 = .ok (.invokestatic 212, 3) := dk_184 0 212 (dk_at dksX4_taxes_2 18 rfl rfl)
theorem dX4_taxes_68 : decode cX4_taxes 68 = .ok (.iload 4, 2) := dk_21 4 (dk_at dksX4_taxes_2 21 rfl rfl)
theorem dX4_taxes_70 : decode cX4_taxes 70 = .ok (.ifCond .eq 8, 3) := dk_153 0 8 (dk_at dksX4_taxes_3 0 rfl rfl)
theorem dX4_taxes_73 : decode cX4_taxes 73 = .ok (.lload 5, 2) := dk_22 5 (dk_at dksX4_taxes_3 3 rfl rfl)
theorem dX4_taxes_75 : decode cX4_taxes 75 = .ok (.goto 4, 3) := dk_167 0 4 (dk_at dksX4_taxes_3 5 rfl rfl)
theorem dX4_taxes_78 : decode cX4_taxes 78 = .ok (.lconst 0, 1) := dk_9 (dk_at dksX4_taxes_3 8 rfl rfl)
theorem dX4_taxes_79 : decode cX4_taxes 79 = .ok (.lsub, 1) := dk_101 (dk_at dksX4_taxes_3 9 rfl rfl)
theorem dX4_taxes_80 : decode cX4_taxes 80 = .ok (.lstore 10, 2) := dk_55 10 (dk_at dksX4_taxes_3 10 rfl rfl)
theorem dX4_taxes_82 : decode cX4_taxes 82 = .ok (.aload_n 0, 1) := dk_42 (dk_at dksX4_taxes_3 12 rfl rfl)
theorem dX4_taxes_83 : decode cX4_taxes 83 = .ok (.getfield 57, 3) := dk_180 0 57 (dk_at dksX4_taxes_3 13 rfl rfl)
theorem dX4_taxes_86 : decode cX4_taxes 86 = .ok (.bipush 12, 2) := dk_16 12 (dk_at dksX4_taxes_3 16 rfl rfl)
theorem dX4_taxes_88 : decode cX4_taxes 88 = .ok (.aload_n 0, 1) := dk_42 (dk_at dksX4_taxes_3 18 rfl rfl)
theorem dX4_taxes_89 : decode cX4_taxes 89 = .ok (.getfield 146, 3) := dk_180 0 146 (dk_at dksX4_taxes_3 19 rfl rfl)
theorem dX4_taxes_92 : decode cX4_taxes 92 = .ok (.imul, 1) := dk_104 (dk_at dksX4_taxes_3 22 rfl rfl)
theorem dX4_taxes_93 : decode cX4_taxes 93 = .ok (.iload 9, 2) := dk_21 9 (dk_at dksX4_taxes_4 0 rfl rfl)
theorem dX4_taxes_95 : decode cX4_taxes 95 = .ok (.iadd, 1) := dk_96 (dk_at dksX4_taxes_4 2 rfl rfl)
theorem dX4_taxes_96 : decode cX4_taxes 96 = .ok (.lload 10, 2) := dk_22 10 (dk_at dksX4_taxes_4 3 rfl rfl)
theorem dX4_taxes_98 : decode cX4_taxes 98 = .ok (.lastore, 1) := dk_80 (dk_at dksX4_taxes_4 5 rfl rfl)
theorem dX4_taxes_99 : decode cX4_taxes 99 = .ok (.lload 5, 2) := dk_22 5 (dk_at dksX4_taxes_4 6 rfl rfl)
theorem dX4_taxes_101 : decode cX4_taxes 101 = .ok (.lload 10, 2) := dk_22 10 (dk_at dksX4_taxes_4 8 rfl rfl)
theorem dX4_taxes_103 : decode cX4_taxes 103 = .ok (.ladd, 1) := dk_97 (dk_at dksX4_taxes_4 10 rfl rfl)
theorem dX4_taxes_104 : decode cX4_taxes 104 = .ok (.lstore 5, 2) := dk_55 5 (dk_at dksX4_taxes_4 11 rfl rfl)
theorem dX4_taxes_106 : decode cX4_taxes 106 = .ok (.iinc 9 1, 3) := dk_132 9 1 (dk_at dksX4_taxes_4 13 rfl rfl)
theorem dX4_taxes_109 : decode cX4_taxes 109 = .ok (.goto (-100), 3) := dk_167 255 156 (dk_at dksX4_taxes_4 16 rfl rfl)
theorem dX4_taxes_112 : decode cX4_taxes 112 = .ok (.aload_n 0, 1) := dk_42 (dk_at dksX4_taxes_4 19 rfl rfl)
theorem dX4_taxes_113 : decode cX4_taxes 113 = .ok (.iload_n 1, 1) := dk_27 (dk_at dksX4_taxes_4 20 rfl rfl)
theorem dX4_taxes_114 : decode cX4_taxes 114 = .ok (.lload 5, 2) := dk_22 5 (dk_at dksX4_taxes_4 21 rfl rfl)
theorem dX4_taxes_116 : decode cX4_taxes 116 = .ok (.invokevirtual 216, 3) := dk_182 0 216 (dk_at dksX4_taxes_5 0 rfl rfl)
theorem dX4_taxes_119 : decode cX4_taxes 119 = .ok (.return_, 1) := dk_177 (dk_at dksX4_taxes_5 3 rfl rfl)
abbrev cX4_times : ByteArray := prog_23_method_22_code
def yX4_times : MethodName := ⟨RX4, "times", "(JJI)J"⟩
def dkwX4_times_8 : List UInt8 := [22, 5, 10, 97, 173]
abbrev dktX4_times_8 : List UInt8 := dkwX4_times_8 ++ []
def dkwX4_times_7 : List UInt8 := [22, 5, 10, 97, 173, 30, 9, 148, 158, 0, 10, 22, 5, 10, 97, 167, 0, 5, 22, 5, 173, 22, 5, 173]
abbrev dktX4_times_7 : List UInt8 := dkwX4_times_7 ++ dktX4_times_8
def dkwX4_times_6 : List UInt8 := [153, 0, 10, 22, 5, 10, 97, 167, 0, 5, 22, 5, 173, 30, 9, 148, 158, 0, 8, 22, 5, 167, 0, 7]
abbrev dktX4_times_6 : List UInt8 := dkwX4_times_6 ++ dktX4_times_7
def dkwX4_times_5 : List UInt8 := [157, 0, 25, 20, 0, 187, 22, 7, 105, 32, 148, 154, 0, 21, 22, 5, 20, 0, 187, 113, 9, 148]
abbrev dktX4_times_5 : List UInt8 := dkwX4_times_5 ++ dktX4_times_6
def dkwX4_times_4 : List UInt8 := [148, 158, 0, 10, 22, 5, 10, 97, 167, 0, 5, 22, 5, 173, 20, 0, 187, 22, 7, 105, 32, 148]
abbrev dktX4_times_4 : List UInt8 := dkwX4_times_4 ++ dktX4_times_5
def dkwX4_times_3 : List UInt8 := [20, 0, 187, 22, 7, 105, 32, 148, 157, 0, 20, 20, 0, 187, 22, 7, 105, 32, 148, 154, 0, 16, 30, 9]
abbrev dktX4_times_3 : List UInt8 := dkwX4_times_3 ++ dktX4_times_4
def dkwX4_times_2 : List UInt8 := [170, 0, 0, 0, 149, 0, 0, 0, 0, 0, 0, 0, 4, 0, 0, 0, 33, 0, 0, 0, 71, 0, 0, 0, 114, 0, 0, 0, 130, 0, 0, 0, 146]
abbrev dktX4_times_2 : List UInt8 := dkwX4_times_2 ++ dktX4_times_3
def dkwX4_times_1 : List UInt8 := [173, 21, 4]
abbrev dktX4_times_1 : List UInt8 := dkwX4_times_1 ++ dktX4_times_2
def dkwX4_times_0 : List UInt8 := [30, 32, 184, 0, 183, 55, 5, 30, 22, 5, 32, 105, 101, 55, 7, 22, 7, 9, 148, 154, 0, 6, 22, 5]
abbrev dktX4_times_0 : List UInt8 := dkwX4_times_0 ++ dktX4_times_1
theorem dksX4_times_0 : cX4_times.data.toList.drop 0 = dktX4_times_0 := by decide +kernel
theorem dksX4_times_1 : cX4_times.data.toList.drop 24 = dktX4_times_1 := dk_seg dksX4_times_0 24 rfl rfl
theorem dksX4_times_2 : cX4_times.data.toList.drop 27 = dktX4_times_2 := dk_seg dksX4_times_1 3 rfl rfl
theorem dksX4_times_3 : cX4_times.data.toList.drop 60 = dktX4_times_3 := dk_seg dksX4_times_2 33 rfl rfl
theorem dksX4_times_4 : cX4_times.data.toList.drop 84 = dktX4_times_4 := dk_seg dksX4_times_3 24 rfl rfl
theorem dksX4_times_5 : cX4_times.data.toList.drop 106 = dktX4_times_5 := dk_seg dksX4_times_4 22 rfl rfl
theorem dksX4_times_6 : cX4_times.data.toList.drop 128 = dktX4_times_6 := dk_seg dksX4_times_5 22 rfl rfl
theorem dksX4_times_7 : cX4_times.data.toList.drop 152 = dktX4_times_7 := dk_seg dksX4_times_6 24 rfl rfl
theorem dksX4_times_8 : cX4_times.data.toList.drop 176 = dktX4_times_8 := dk_seg dksX4_times_7 24 rfl rfl
theorem dX4_times_0 : decode cX4_times 0 = .ok (.lload_n 0, 1) := dk_30 (dk_at dksX4_times_0 0 rfl rfl)
theorem dX4_times_1 : decode cX4_times 1 = .ok (.lload_n 2, 1) := dk_32 (dk_at dksX4_times_0 1 rfl rfl)
theorem dX4_times_2 : decode cX4_times 2 = .ok (.invokestatic 183, 3) := dk_184 0 183 (dk_at dksX4_times_0 2 rfl rfl)
theorem dX4_times_5 : decode cX4_times 5 = .ok (.lstore 5, 2) := dk_55 5 (dk_at dksX4_times_0 5 rfl rfl)
theorem dX4_times_7 : decode cX4_times 7 = .ok (.lload_n 0, 1) := dk_30 (dk_at dksX4_times_0 7 rfl rfl)
theorem dX4_times_8 : decode cX4_times 8 = .ok (.lload 5, 2) := dk_22 5 (dk_at dksX4_times_0 8 rfl rfl)
theorem dX4_times_10 : decode cX4_times 10 = .ok (.lload_n 2, 1) := dk_32 (dk_at dksX4_times_0 10 rfl rfl)
theorem dX4_times_11 : decode cX4_times 11 = .ok (.lmul, 1) := dk_105 (dk_at dksX4_times_0 11 rfl rfl)
theorem dX4_times_12 : decode cX4_times 12 = .ok (.lsub, 1) := dk_101 (dk_at dksX4_times_0 12 rfl rfl)
theorem dX4_times_13 : decode cX4_times 13 = .ok (.lstore 7, 2) := dk_55 7 (dk_at dksX4_times_0 13 rfl rfl)
theorem dX4_times_15 : decode cX4_times 15 = .ok (.lload 7, 2) := dk_22 7 (dk_at dksX4_times_0 15 rfl rfl)
theorem dX4_times_17 : decode cX4_times 17 = .ok (.lconst 0, 1) := dk_9 (dk_at dksX4_times_0 17 rfl rfl)
theorem dX4_times_18 : decode cX4_times 18 = .ok (.lcmp, 1) := dk_148 (dk_at dksX4_times_0 18 rfl rfl)
theorem dX4_times_19 : decode cX4_times 19 = .ok (.ifCond .ne 6, 3) := dk_154 0 6 (dk_at dksX4_times_0 19 rfl rfl)
theorem dX4_times_22 : decode cX4_times 22 = .ok (.lload 5, 2) := dk_22 5 (dk_at dksX4_times_0 22 rfl rfl)
theorem dX4_times_24 : decode cX4_times 24 = .ok (.lreturn, 1) := dk_173 (dk_at dksX4_times_1 0 rfl rfl)
theorem dX4_times_25 : decode cX4_times 25 = .ok (.iload 4, 2) := dk_21 4 (dk_at dksX4_times_1 1 rfl rfl)
theorem dX4_times_27 : decode cX4_times 27 = .ok (.tableswitch 149 0 4 #[33, 71, 114, 130, 146], 33) := by decide +kernel
theorem dX4_times_60 : decode cX4_times 60 = .ok (.ldc2_w 187, 3) := dk_20 0 187 (dk_at dksX4_times_3 0 rfl rfl)
theorem dX4_times_63 : decode cX4_times 63 = .ok (.lload 7, 2) := dk_22 7 (dk_at dksX4_times_3 3 rfl rfl)
theorem dX4_times_65 : decode cX4_times 65 = .ok (.lmul, 1) := dk_105 (dk_at dksX4_times_3 5 rfl rfl)
theorem dX4_times_66 : decode cX4_times 66 = .ok (.lload_n 2, 1) := dk_32 (dk_at dksX4_times_3 6 rfl rfl)
theorem dX4_times_67 : decode cX4_times 67 = .ok (.lcmp, 1) := dk_148 (dk_at dksX4_times_3 7 rfl rfl)
theorem dX4_times_68 : decode cX4_times 68 = .ok (.ifCond .gt 20, 3) := dk_157 0 20 (dk_at dksX4_times_3 8 rfl rfl)
theorem dX4_times_71 : decode cX4_times 71 = .ok (.ldc2_w 187, 3) := dk_20 0 187 (dk_at dksX4_times_3 11 rfl rfl)
theorem dX4_times_74 : decode cX4_times 74 = .ok (.lload 7, 2) := dk_22 7 (dk_at dksX4_times_3 14 rfl rfl)
theorem dX4_times_76 : decode cX4_times 76 = .ok (.lmul, 1) := dk_105 (dk_at dksX4_times_3 16 rfl rfl)
theorem dX4_times_77 : decode cX4_times 77 = .ok (.lload_n 2, 1) := dk_32 (dk_at dksX4_times_3 17 rfl rfl)
theorem dX4_times_78 : decode cX4_times 78 = .ok (.lcmp, 1) := dk_148 (dk_at dksX4_times_3 18 rfl rfl)
theorem dX4_times_79 : decode cX4_times 79 = .ok (.ifCond .ne 16, 3) := dk_154 0 16 (dk_at dksX4_times_3 19 rfl rfl)
theorem dX4_times_82 : decode cX4_times 82 = .ok (.lload_n 0, 1) := dk_30 (dk_at dksX4_times_3 22 rfl rfl)
theorem dX4_times_83 : decode cX4_times 83 = .ok (.lconst 0, 1) := dk_9 (dk_at dksX4_times_3 23 rfl rfl)
theorem dX4_times_84 : decode cX4_times 84 = .ok (.lcmp, 1) := dk_148 (dk_at dksX4_times_4 0 rfl rfl)
theorem dX4_times_85 : decode cX4_times 85 = .ok (.ifCond .le 10, 3) := dk_158 0 10 (dk_at dksX4_times_4 1 rfl rfl)
theorem dX4_times_88 : decode cX4_times 88 = .ok (.lload 5, 2) := dk_22 5 (dk_at dksX4_times_4 4 rfl rfl)
theorem dX4_times_90 : decode cX4_times 90 = .ok (.lconst 1, 1) := dk_10 (dk_at dksX4_times_4 6 rfl rfl)
theorem dX4_times_91 : decode cX4_times 91 = .ok (.ladd, 1) := dk_97 (dk_at dksX4_times_4 7 rfl rfl)
theorem dX4_times_92 : decode cX4_times 92 = .ok (.goto 5, 3) := dk_167 0 5 (dk_at dksX4_times_4 8 rfl rfl)
theorem dX4_times_95 : decode cX4_times 95 = .ok (.lload 5, 2) := dk_22 5 (dk_at dksX4_times_4 11 rfl rfl)
theorem dX4_times_97 : decode cX4_times 97 = .ok (.lreturn, 1) := dk_173 (dk_at dksX4_times_4 13 rfl rfl)
theorem dX4_times_98 : decode cX4_times 98 = .ok (.ldc2_w 187, 3) := dk_20 0 187 (dk_at dksX4_times_4 14 rfl rfl)
theorem dX4_times_101 : decode cX4_times 101 = .ok (.lload 7, 2) := dk_22 7 (dk_at dksX4_times_4 17 rfl rfl)
theorem dX4_times_103 : decode cX4_times 103 = .ok (.lmul, 1) := dk_105 (dk_at dksX4_times_4 19 rfl rfl)
theorem dX4_times_104 : decode cX4_times 104 = .ok (.lload_n 2, 1) := dk_32 (dk_at dksX4_times_4 20 rfl rfl)
theorem dX4_times_105 : decode cX4_times 105 = .ok (.lcmp, 1) := dk_148 (dk_at dksX4_times_4 21 rfl rfl)
theorem dX4_times_106 : decode cX4_times 106 = .ok (.ifCond .gt 25, 3) := dk_157 0 25 (dk_at dksX4_times_5 0 rfl rfl)
theorem dX4_times_109 : decode cX4_times 109 = .ok (.ldc2_w 187, 3) := dk_20 0 187 (dk_at dksX4_times_5 3 rfl rfl)
theorem dX4_times_112 : decode cX4_times 112 = .ok (.lload 7, 2) := dk_22 7 (dk_at dksX4_times_5 6 rfl rfl)
theorem dX4_times_114 : decode cX4_times 114 = .ok (.lmul, 1) := dk_105 (dk_at dksX4_times_5 8 rfl rfl)
theorem dX4_times_115 : decode cX4_times 115 = .ok (.lload_n 2, 1) := dk_32 (dk_at dksX4_times_5 9 rfl rfl)
theorem dX4_times_116 : decode cX4_times 116 = .ok (.lcmp, 1) := dk_148 (dk_at dksX4_times_5 10 rfl rfl)
theorem dX4_times_117 : decode cX4_times 117 = .ok (.ifCond .ne 21, 3) := dk_154 0 21 (dk_at dksX4_times_5 11 rfl rfl)
theorem dX4_times_120 : decode cX4_times 120 = .ok (.lload 5, 2) := dk_22 5 (dk_at dksX4_times_5 14 rfl rfl)
theorem dX4_times_122 : decode cX4_times 122 = .ok (.ldc2_w 187, 3) := dk_20 0 187 (dk_at dksX4_times_5 16 rfl rfl)
theorem dX4_times_125 : decode cX4_times 125 = .ok (.lrem, 1) := dk_113 (dk_at dksX4_times_5 19 rfl rfl)
theorem dX4_times_126 : decode cX4_times 126 = .ok (.lconst 0, 1) := dk_9 (dk_at dksX4_times_5 20 rfl rfl)
theorem dX4_times_127 : decode cX4_times 127 = .ok (.lcmp, 1) := dk_148 (dk_at dksX4_times_5 21 rfl rfl)
theorem dX4_times_128 : decode cX4_times 128 = .ok (.ifCond .eq 10, 3) := dk_153 0 10 (dk_at dksX4_times_6 0 rfl rfl)
theorem dX4_times_131 : decode cX4_times 131 = .ok (.lload 5, 2) := dk_22 5 (dk_at dksX4_times_6 3 rfl rfl)
theorem dX4_times_133 : decode cX4_times 133 = .ok (.lconst 1, 1) := dk_10 (dk_at dksX4_times_6 5 rfl rfl)
theorem dX4_times_134 : decode cX4_times 134 = .ok (.ladd, 1) := dk_97 (dk_at dksX4_times_6 6 rfl rfl)
theorem dX4_times_135 : decode cX4_times 135 = .ok (.goto 5, 3) := dk_167 0 5 (dk_at dksX4_times_6 7 rfl rfl)
theorem dX4_times_138 : decode cX4_times 138 = .ok (.lload 5, 2) := dk_22 5 (dk_at dksX4_times_6 10 rfl rfl)
theorem dX4_times_140 : decode cX4_times 140 = .ok (.lreturn, 1) := dk_173 (dk_at dksX4_times_6 12 rfl rfl)
theorem dX4_times_141 : decode cX4_times 141 = .ok (.lload_n 0, 1) := dk_30 (dk_at dksX4_times_6 13 rfl rfl)
theorem dX4_times_142 : decode cX4_times 142 = .ok (.lconst 0, 1) := dk_9 (dk_at dksX4_times_6 14 rfl rfl)
theorem dX4_times_143 : decode cX4_times 143 = .ok (.lcmp, 1) := dk_148 (dk_at dksX4_times_6 15 rfl rfl)
theorem dX4_times_144 : decode cX4_times 144 = .ok (.ifCond .le 8, 3) := dk_158 0 8 (dk_at dksX4_times_6 16 rfl rfl)
theorem dX4_times_147 : decode cX4_times 147 = .ok (.lload 5, 2) := dk_22 5 (dk_at dksX4_times_6 19 rfl rfl)
theorem dX4_times_149 : decode cX4_times 149 = .ok (.goto 7, 3) := dk_167 0 7 (dk_at dksX4_times_6 21 rfl rfl)
theorem dX4_times_152 : decode cX4_times 152 = .ok (.lload 5, 2) := dk_22 5 (dk_at dksX4_times_7 0 rfl rfl)
theorem dX4_times_154 : decode cX4_times 154 = .ok (.lconst 1, 1) := dk_10 (dk_at dksX4_times_7 2 rfl rfl)
theorem dX4_times_155 : decode cX4_times 155 = .ok (.ladd, 1) := dk_97 (dk_at dksX4_times_7 3 rfl rfl)
theorem dX4_times_156 : decode cX4_times 156 = .ok (.lreturn, 1) := dk_173 (dk_at dksX4_times_7 4 rfl rfl)
theorem dX4_times_157 : decode cX4_times 157 = .ok (.lload_n 0, 1) := dk_30 (dk_at dksX4_times_7 5 rfl rfl)
theorem dX4_times_158 : decode cX4_times 158 = .ok (.lconst 0, 1) := dk_9 (dk_at dksX4_times_7 6 rfl rfl)
theorem dX4_times_159 : decode cX4_times 159 = .ok (.lcmp, 1) := dk_148 (dk_at dksX4_times_7 7 rfl rfl)
theorem dX4_times_160 : decode cX4_times 160 = .ok (.ifCond .le 10, 3) := dk_158 0 10 (dk_at dksX4_times_7 8 rfl rfl)
theorem dX4_times_163 : decode cX4_times 163 = .ok (.lload 5, 2) := dk_22 5 (dk_at dksX4_times_7 11 rfl rfl)
theorem dX4_times_165 : decode cX4_times 165 = .ok (.lconst 1, 1) := dk_10 (dk_at dksX4_times_7 13 rfl rfl)
theorem dX4_times_166 : decode cX4_times 166 = .ok (.ladd, 1) := dk_97 (dk_at dksX4_times_7 14 rfl rfl)
theorem dX4_times_167 : decode cX4_times 167 = .ok (.goto 5, 3) := dk_167 0 5 (dk_at dksX4_times_7 15 rfl rfl)
theorem dX4_times_170 : decode cX4_times 170 = .ok (.lload 5, 2) := dk_22 5 (dk_at dksX4_times_7 18 rfl rfl)
theorem dX4_times_172 : decode cX4_times 172 = .ok (.lreturn, 1) := dk_173 (dk_at dksX4_times_7 20 rfl rfl)
theorem dX4_times_173 : decode cX4_times 173 = .ok (.lload 5, 2) := dk_22 5 (dk_at dksX4_times_7 21 rfl rfl)
theorem dX4_times_175 : decode cX4_times 175 = .ok (.lreturn, 1) := dk_173 (dk_at dksX4_times_7 23 rfl rfl)
theorem dX4_times_176 : decode cX4_times 176 = .ok (.lload 5, 2) := dk_22 5 (dk_at dksX4_times_8 0 rfl rfl)
theorem dX4_times_178 : decode cX4_times 178 = .ok (.lconst 1, 1) := dk_10 (dk_at dksX4_times_8 2 rfl rfl)
theorem dX4_times_179 : decode cX4_times 179 = .ok (.ladd, 1) := dk_97 (dk_at dksX4_times_8 3 rfl rfl)
theorem dX4_times_180 : decode cX4_times 180 = .ok (.lreturn, 1) := dk_173 (dk_at dksX4_times_8 4 rfl rfl)
abbrev cX4_floor : ByteArray := prog_23_method_21_code
def yX4_floor : MethodName := ⟨RX4, "floor", "(JJ)J"⟩
def dkwX4_floor_0 : List UInt8 := [30, 32, 109, 55, 4, 22, 4, 32, 105, 30, 148, 158, 0, 10, 22, 4, 10, 101, 167, 0, 5, 22, 4, 173]
abbrev dktX4_floor_0 : List UInt8 := dkwX4_floor_0 ++ []
theorem dksX4_floor_0 : cX4_floor.data.toList.drop 0 = dktX4_floor_0 := by decide +kernel
theorem dX4_floor_0 : decode cX4_floor 0 = .ok (.lload_n 0, 1) := dk_30 (dk_at dksX4_floor_0 0 rfl rfl)
theorem dX4_floor_1 : decode cX4_floor 1 = .ok (.lload_n 2, 1) := dk_32 (dk_at dksX4_floor_0 1 rfl rfl)
theorem dX4_floor_2 : decode cX4_floor 2 = .ok (.ldiv, 1) := dk_109 (dk_at dksX4_floor_0 2 rfl rfl)
theorem dX4_floor_3 : decode cX4_floor 3 = .ok (.lstore 4, 2) := dk_55 4 (dk_at dksX4_floor_0 3 rfl rfl)
theorem dX4_floor_5 : decode cX4_floor 5 = .ok (.lload 4, 2) := dk_22 4 (dk_at dksX4_floor_0 5 rfl rfl)
theorem dX4_floor_7 : decode cX4_floor 7 = .ok (.lload_n 2, 1) := dk_32 (dk_at dksX4_floor_0 7 rfl rfl)
theorem dX4_floor_8 : decode cX4_floor 8 = .ok (.lmul, 1) := dk_105 (dk_at dksX4_floor_0 8 rfl rfl)
theorem dX4_floor_9 : decode cX4_floor 9 = .ok (.lload_n 0, 1) := dk_30 (dk_at dksX4_floor_0 9 rfl rfl)
theorem dX4_floor_10 : decode cX4_floor 10 = .ok (.lcmp, 1) := dk_148 (dk_at dksX4_floor_0 10 rfl rfl)
theorem dX4_floor_11 : decode cX4_floor 11 = .ok (.ifCond .le 10, 3) := dk_158 0 10 (dk_at dksX4_floor_0 11 rfl rfl)
theorem dX4_floor_14 : decode cX4_floor 14 = .ok (.lload 4, 2) := dk_22 4 (dk_at dksX4_floor_0 14 rfl rfl)
theorem dX4_floor_16 : decode cX4_floor 16 = .ok (.lconst 1, 1) := dk_10 (dk_at dksX4_floor_0 16 rfl rfl)
theorem dX4_floor_17 : decode cX4_floor 17 = .ok (.lsub, 1) := dk_101 (dk_at dksX4_floor_0 17 rfl rfl)
theorem dX4_floor_18 : decode cX4_floor 18 = .ok (.goto 5, 3) := dk_167 0 5 (dk_at dksX4_floor_0 18 rfl rfl)
theorem dX4_floor_21 : decode cX4_floor 21 = .ok (.lload 4, 2) := dk_22 4 (dk_at dksX4_floor_0 21 rfl rfl)
theorem dX4_floor_23 : decode cX4_floor 23 = .ok (.lreturn, 1) := dk_173 (dk_at dksX4_floor_0 23 rfl rfl)
abbrev cX4_rates : ByteArray := prog_23_method_32_code
def yX4_rates : MethodName := ⟨RX4, "rates", "(III)V"⟩
def dkwX4_rates_3 : List UInt8 := [27, 96, 21, 5, 84, 177]
abbrev dktX4_rates_3 : List UInt8 := dkwX4_rates_3 ++ []
def dkwX4_rates_2 : List UInt8 := [180, 0, 13, 29, 46, 133, 105, 182, 0, 201, 153, 0, 19, 42, 180, 0, 69, 16, 8, 42, 180, 0, 146, 104]
abbrev dktX4_rates_2 : List UInt8 := dkwX4_rates_2 ++ dktX4_rates_3
def dkwX4_rates_1 : List UInt8 := [180, 0, 47, 21, 4, 47, 42, 180, 0, 7, 29, 46, 133, 105, 42, 180, 0, 51, 21, 4, 47, 42]
abbrev dktX4_rates_1 : List UInt8 := dkwX4_rates_1 ++ dktX4_rates_2
def dkwX4_rates_0 : List UInt8 := [16, 8, 42, 180, 0, 146, 104, 28, 96, 54, 4, 42, 180, 0, 69, 21, 4, 51, 54, 5, 42, 27, 42]
abbrev dktX4_rates_0 : List UInt8 := dkwX4_rates_0 ++ dktX4_rates_1
theorem dksX4_rates_0 : cX4_rates.data.toList.drop 0 = dktX4_rates_0 := by decide +kernel
theorem dksX4_rates_1 : cX4_rates.data.toList.drop 23 = dktX4_rates_1 := dk_seg dksX4_rates_0 23 rfl rfl
theorem dksX4_rates_2 : cX4_rates.data.toList.drop 45 = dktX4_rates_2 := dk_seg dksX4_rates_1 22 rfl rfl
theorem dksX4_rates_3 : cX4_rates.data.toList.drop 69 = dktX4_rates_3 := dk_seg dksX4_rates_2 24 rfl rfl
theorem dX4_rates_0 : decode cX4_rates 0 = .ok (.bipush 8, 2) := dk_16 8 (dk_at dksX4_rates_0 0 rfl rfl)
theorem dX4_rates_2 : decode cX4_rates 2 = .ok (.aload_n 0, 1) := dk_42 (dk_at dksX4_rates_0 2 rfl rfl)
theorem dX4_rates_3 : decode cX4_rates 3 = .ok (.getfield 146, 3) := dk_180 0 146 (dk_at dksX4_rates_0 3 rfl rfl)
theorem dX4_rates_6 : decode cX4_rates 6 = .ok (.imul, 1) := dk_104 (dk_at dksX4_rates_0 6 rfl rfl)
theorem dX4_rates_7 : decode cX4_rates 7 = .ok (.iload_n 2, 1) := dk_28 (dk_at dksX4_rates_0 7 rfl rfl)
theorem dX4_rates_8 : decode cX4_rates 8 = .ok (.iadd, 1) := dk_96 (dk_at dksX4_rates_0 8 rfl rfl)
theorem dX4_rates_9 : decode cX4_rates 9 = .ok (.istore 4, 2) := dk_54 4 (dk_at dksX4_rates_0 9 rfl rfl)
theorem dX4_rates_11 : decode cX4_rates 11 = .ok (.aload_n 0, 1) := dk_42 (dk_at dksX4_rates_0 11 rfl rfl)
theorem dX4_rates_12 : decode cX4_rates 12 = .ok (.getfield 69, 3) := dk_180 0 69 (dk_at dksX4_rates_0 12 rfl rfl)
theorem dX4_rates_15 : decode cX4_rates 15 = .ok (.iload 4, 2) := dk_21 4 (dk_at dksX4_rates_0 15 rfl rfl)
theorem dX4_rates_17 : decode cX4_rates 17 = .ok (.baload, 1) := dk_51 (dk_at dksX4_rates_0 17 rfl rfl)
theorem dX4_rates_18 : decode cX4_rates 18 = .ok (.istore 5, 2) := dk_54 5 (dk_at dksX4_rates_0 18 rfl rfl)
theorem dX4_rates_20 : decode cX4_rates 20 = .ok (.aload_n 0, 1) := dk_42 (dk_at dksX4_rates_0 20 rfl rfl)
theorem dX4_rates_21 : decode cX4_rates 21 = .ok (.iload_n 1, 1) := dk_27 (dk_at dksX4_rates_0 21 rfl rfl)
theorem dX4_rates_22 : decode cX4_rates 22 = .ok (.aload_n 0, 1) := dk_42 (dk_at dksX4_rates_0 22 rfl rfl)
theorem dX4_rates_23 : decode cX4_rates 23 = .ok (.getfield 47, 3) := dk_180 0 47 (dk_at dksX4_rates_1 0 rfl rfl)
theorem dX4_rates_26 : decode cX4_rates 26 = .ok (.iload 4, 2) := dk_21 4 (dk_at dksX4_rates_1 3 rfl rfl)
theorem dX4_rates_28 : decode cX4_rates 28 = .ok (.laload, 1) := dk_47 (dk_at dksX4_rates_1 5 rfl rfl)
theorem dX4_rates_29 : decode cX4_rates 29 = .ok (.aload_n 0, 1) := dk_42 (dk_at dksX4_rates_1 6 rfl rfl)
theorem dX4_rates_30 : decode cX4_rates 30 = .ok (.getfield 7, 3) := dk_180 0 7 (dk_at dksX4_rates_1 7 rfl rfl)
theorem dX4_rates_33 : decode cX4_rates 33 = .ok (.iload_n 3, 1) := dk_29 (dk_at dksX4_rates_1 10 rfl rfl)
theorem dX4_rates_34 : decode cX4_rates 34 = .ok (.iaload, 1) := dk_46 (dk_at dksX4_rates_1 11 rfl rfl)
theorem dX4_rates_35 : decode cX4_rates 35 = .ok (.i2l, 1) := dk_133 (dk_at dksX4_rates_1 12 rfl rfl)
theorem dX4_rates_36 : decode cX4_rates 36 = .ok (.lmul, 1) := dk_105 (dk_at dksX4_rates_1 13 rfl rfl)
theorem dX4_rates_37 : decode cX4_rates 37 = .ok (.aload_n 0, 1) := dk_42 (dk_at dksX4_rates_1 14 rfl rfl)
theorem dX4_rates_38 : decode cX4_rates 38 = .ok (.getfield 51, 3) := dk_180 0 51 (dk_at dksX4_rates_1 15 rfl rfl)
theorem dX4_rates_41 : decode cX4_rates 41 = .ok (.iload 4, 2) := dk_21 4 (dk_at dksX4_rates_1 18 rfl rfl)
theorem dX4_rates_43 : decode cX4_rates 43 = .ok (.laload, 1) := dk_47 (dk_at dksX4_rates_1 20 rfl rfl)
theorem dX4_rates_44 : decode cX4_rates 44 = .ok (.aload_n 0, 1) := dk_42 (dk_at dksX4_rates_1 21 rfl rfl)
theorem dX4_rates_45 : decode cX4_rates 45 = .ok (.getfield 13, 3) := dk_180 0 13 (dk_at dksX4_rates_2 0 rfl rfl)
theorem dX4_rates_48 : decode cX4_rates 48 = .ok (.iload_n 3, 1) := dk_29 (dk_at dksX4_rates_2 3 rfl rfl)
theorem dX4_rates_49 : decode cX4_rates 49 = .ok (.iaload, 1) := dk_46 (dk_at dksX4_rates_2 4 rfl rfl)
theorem dX4_rates_50 : decode cX4_rates 50 = .ok (.i2l, 1) := dk_133 (dk_at dksX4_rates_2 5 rfl rfl)
theorem dX4_rates_51 : decode cX4_rates 51 = .ok (.lmul, 1) := dk_105 (dk_at dksX4_rates_2 6 rfl rfl)
theorem dX4_rates_52 : decode cX4_rates 52 = .ok (.invokevirtual 201, 3) := dk_182 0 201 (dk_at dksX4_rates_2 7 rfl rfl)
theorem dX4_rates_55 : decode cX4_rates 55 = .ok (.ifCond .eq 19, 3) := dk_153 0 19 (dk_at dksX4_rates_2 10 rfl rfl)
theorem dX4_rates_58 : decode cX4_rates 58 = .ok (.aload_n 0, 1) := dk_42 (dk_at dksX4_rates_2 13 rfl rfl)
theorem dX4_rates_59 : decode cX4_rates 59 = .ok (.getfield 69, 3) := dk_180 0 69 (dk_at dksX4_rates_2 14 rfl rfl)
theorem dX4_rates_62 : decode cX4_rates 62 = .ok (.bipush 8, 2) := dk_16 8 (dk_at dksX4_rates_2 17 rfl rfl)
theorem dX4_rates_64 : decode cX4_rates 64 = .ok (.aload_n 0, 1) := dk_42 (dk_at dksX4_rates_2 19 rfl rfl)
theorem dX4_rates_65 : decode cX4_rates 65 = .ok (.getfield 146, 3) := dk_180 0 146 (dk_at dksX4_rates_2 20 rfl rfl)
theorem dX4_rates_68 : decode cX4_rates 68 = .ok (.imul, 1) := dk_104 (dk_at dksX4_rates_2 23 rfl rfl)
theorem dX4_rates_69 : decode cX4_rates 69 = .ok (.iload_n 1, 1) := dk_27 (dk_at dksX4_rates_3 0 rfl rfl)
theorem dX4_rates_70 : decode cX4_rates 70 = .ok (.iadd, 1) := dk_96 (dk_at dksX4_rates_3 1 rfl rfl)
theorem dX4_rates_71 : decode cX4_rates 71 = .ok (.iload 5, 2) := dk_21 5 (dk_at dksX4_rates_3 2 rfl rfl)
theorem dX4_rates_73 : decode cX4_rates 73 = .ok (.bastore, 1) := dk_84 (dk_at dksX4_rates_3 4 rfl rfl)
theorem dX4_rates_74 : decode cX4_rates 74 = .ok (.return_, 1) := dk_177 (dk_at dksX4_rates_3 5 rfl rfl)
abbrev cX4_adds : ByteArray := prog_23_method_33_code
def yX4_adds : MethodName := ⟨RX4, "adds", "(III)V"⟩
def dkwX4_adds_5 : List UInt8 := [153, 0, 12, 42, 180, 0, 69, 21, 4, 21, 6, 84, 177]
abbrev dktX4_adds_5 : List UInt8 := dkwX4_adds_5 ++ []
def dkwX4_adds_4 : List UInt8 := [22, 7, 117, 97, 42, 180, 0, 51, 21, 4, 47, 42, 180, 0, 51, 21, 5, 47, 105, 182, 0, 201]
abbrev dktX4_adds_4 : List UInt8 := dkwX4_adds_4 ++ dktX4_adds_5
def dkwX4_adds_3 : List UInt8 := [180, 0, 47, 21, 4, 47, 42, 180, 0, 51, 21, 5, 47, 105, 29, 154, 0, 8, 22, 7, 167, 0, 6]
abbrev dktX4_adds_3 : List UInt8 := dkwX4_adds_3 ++ dktX4_adds_4
def dkwX4_adds_2 : List UInt8 := [54, 6, 42, 180, 0, 47, 21, 5, 47, 42, 180, 0, 51, 21, 4, 47, 105, 55, 7, 42, 27, 42]
abbrev dktX4_adds_2 : List UInt8 := dkwX4_adds_2 ++ dktX4_adds_3
def dkwX4_adds_1 : List UInt8 := [180, 0, 69, 21, 4, 51, 154, 0, 13, 42, 180, 0, 69, 21, 5, 51, 153, 0, 7, 4, 167, 0, 4, 3]
abbrev dktX4_adds_1 : List UInt8 := dkwX4_adds_1 ++ dktX4_adds_2
def dkwX4_adds_0 : List UInt8 := [16, 8, 42, 180, 0, 146, 104, 27, 96, 54, 4, 16, 8, 42, 180, 0, 146, 104, 28, 96, 54, 5, 42]
abbrev dktX4_adds_0 : List UInt8 := dkwX4_adds_0 ++ dktX4_adds_1
theorem dksX4_adds_0 : cX4_adds.data.toList.drop 0 = dktX4_adds_0 := by decide +kernel
theorem dksX4_adds_1 : cX4_adds.data.toList.drop 23 = dktX4_adds_1 := dk_seg dksX4_adds_0 23 rfl rfl
theorem dksX4_adds_2 : cX4_adds.data.toList.drop 47 = dktX4_adds_2 := dk_seg dksX4_adds_1 24 rfl rfl
theorem dksX4_adds_3 : cX4_adds.data.toList.drop 69 = dktX4_adds_3 := dk_seg dksX4_adds_2 22 rfl rfl
theorem dksX4_adds_4 : cX4_adds.data.toList.drop 92 = dktX4_adds_4 := dk_seg dksX4_adds_3 23 rfl rfl
theorem dksX4_adds_5 : cX4_adds.data.toList.drop 114 = dktX4_adds_5 := dk_seg dksX4_adds_4 22 rfl rfl
theorem dX4_adds_0 : decode cX4_adds 0 = .ok (.bipush 8, 2) := dk_16 8 (dk_at dksX4_adds_0 0 rfl rfl)
theorem dX4_adds_2 : decode cX4_adds 2 = .ok (.aload_n 0, 1) := dk_42 (dk_at dksX4_adds_0 2 rfl rfl)
theorem dX4_adds_3 : decode cX4_adds 3 = .ok (.getfield 146, 3) := dk_180 0 146 (dk_at dksX4_adds_0 3 rfl rfl)
theorem dX4_adds_6 : decode cX4_adds 6 = .ok (.imul, 1) := dk_104 (dk_at dksX4_adds_0 6 rfl rfl)
theorem dX4_adds_7 : decode cX4_adds 7 = .ok (.iload_n 1, 1) := dk_27 (dk_at dksX4_adds_0 7 rfl rfl)
theorem dX4_adds_8 : decode cX4_adds 8 = .ok (.iadd, 1) := dk_96 (dk_at dksX4_adds_0 8 rfl rfl)
theorem dX4_adds_9 : decode cX4_adds 9 = .ok (.istore 4, 2) := dk_54 4 (dk_at dksX4_adds_0 9 rfl rfl)
theorem dX4_adds_11 : decode cX4_adds 11 = .ok (.bipush 8, 2) := dk_16 8 (dk_at dksX4_adds_0 11 rfl rfl)
theorem dX4_adds_13 : decode cX4_adds 13 = .ok (.aload_n 0, 1) := dk_42 (dk_at dksX4_adds_0 13 rfl rfl)
theorem dX4_adds_14 : decode cX4_adds 14 = .ok (.getfield 146, 3) := dk_180 0 146 (dk_at dksX4_adds_0 14 rfl rfl)
theorem dX4_adds_17 : decode cX4_adds 17 = .ok (.imul, 1) := dk_104 (dk_at dksX4_adds_0 17 rfl rfl)
theorem dX4_adds_18 : decode cX4_adds 18 = .ok (.iload_n 2, 1) := dk_28 (dk_at dksX4_adds_0 18 rfl rfl)
theorem dX4_adds_19 : decode cX4_adds 19 = .ok (.iadd, 1) := dk_96 (dk_at dksX4_adds_0 19 rfl rfl)
theorem dX4_adds_20 : decode cX4_adds 20 = .ok (.istore 5, 2) := dk_54 5 (dk_at dksX4_adds_0 20 rfl rfl)
theorem dX4_adds_22 : decode cX4_adds 22 = .ok (.aload_n 0, 1) := dk_42 (dk_at dksX4_adds_0 22 rfl rfl)
theorem dX4_adds_23 : decode cX4_adds 23 = .ok (.getfield 69, 3) := dk_180 0 69 (dk_at dksX4_adds_1 0 rfl rfl)
theorem dX4_adds_26 : decode cX4_adds 26 = .ok (.iload 4, 2) := dk_21 4 (dk_at dksX4_adds_1 3 rfl rfl)
theorem dX4_adds_28 : decode cX4_adds 28 = .ok (.baload, 1) := dk_51 (dk_at dksX4_adds_1 5 rfl rfl)
theorem dX4_adds_29 : decode cX4_adds 29 = .ok (.ifCond .ne 13, 3) := dk_154 0 13 (dk_at dksX4_adds_1 6 rfl rfl)
theorem dX4_adds_32 : decode cX4_adds 32 = .ok (.aload_n 0, 1) := dk_42 (dk_at dksX4_adds_1 9 rfl rfl)
theorem dX4_adds_33 : decode cX4_adds 33 = .ok (.getfield 69, 3) := dk_180 0 69 (dk_at dksX4_adds_1 10 rfl rfl)
theorem dX4_adds_36 : decode cX4_adds 36 = .ok (.iload 5, 2) := dk_21 5 (dk_at dksX4_adds_1 13 rfl rfl)
theorem dX4_adds_38 : decode cX4_adds 38 = .ok (.baload, 1) := dk_51 (dk_at dksX4_adds_1 15 rfl rfl)
theorem dX4_adds_39 : decode cX4_adds 39 = .ok (.ifCond .eq 7, 3) := dk_153 0 7 (dk_at dksX4_adds_1 16 rfl rfl)
theorem dX4_adds_42 : decode cX4_adds 42 = .ok (.iconst 1, 1) := dk_4 (dk_at dksX4_adds_1 19 rfl rfl)
theorem dX4_adds_43 : decode cX4_adds 43 = .ok (.goto 4, 3) := dk_167 0 4 (dk_at dksX4_adds_1 20 rfl rfl)
theorem dX4_adds_46 : decode cX4_adds 46 = .ok (.iconst 0, 1) := dk_3 (dk_at dksX4_adds_1 23 rfl rfl)
theorem dX4_adds_47 : decode cX4_adds 47 = .ok (.istore 6, 2) := dk_54 6 (dk_at dksX4_adds_2 0 rfl rfl)
theorem dX4_adds_49 : decode cX4_adds 49 = .ok (.aload_n 0, 1) := dk_42 (dk_at dksX4_adds_2 2 rfl rfl)
theorem dX4_adds_50 : decode cX4_adds 50 = .ok (.getfield 47, 3) := dk_180 0 47 (dk_at dksX4_adds_2 3 rfl rfl)
theorem dX4_adds_53 : decode cX4_adds 53 = .ok (.iload 5, 2) := dk_21 5 (dk_at dksX4_adds_2 6 rfl rfl)
theorem dX4_adds_55 : decode cX4_adds 55 = .ok (.laload, 1) := dk_47 (dk_at dksX4_adds_2 8 rfl rfl)
theorem dX4_adds_56 : decode cX4_adds 56 = .ok (.aload_n 0, 1) := dk_42 (dk_at dksX4_adds_2 9 rfl rfl)
theorem dX4_adds_57 : decode cX4_adds 57 = .ok (.getfield 51, 3) := dk_180 0 51 (dk_at dksX4_adds_2 10 rfl rfl)
theorem dX4_adds_60 : decode cX4_adds 60 = .ok (.iload 4, 2) := dk_21 4 (dk_at dksX4_adds_2 13 rfl rfl)
theorem dX4_adds_62 : decode cX4_adds 62 = .ok (.laload, 1) := dk_47 (dk_at dksX4_adds_2 15 rfl rfl)
theorem dX4_adds_63 : decode cX4_adds 63 = .ok (.lmul, 1) := dk_105 (dk_at dksX4_adds_2 16 rfl rfl)
theorem dX4_adds_64 : decode cX4_adds 64 = .ok (.lstore 7, 2) := dk_55 7 (dk_at dksX4_adds_2 17 rfl rfl)
theorem dX4_adds_66 : decode cX4_adds 66 = .ok (.aload_n 0, 1) := dk_42 (dk_at dksX4_adds_2 19 rfl rfl)
theorem dX4_adds_67 : decode cX4_adds 67 = .ok (.iload_n 1, 1) := dk_27 (dk_at dksX4_adds_2 20 rfl rfl)
theorem dX4_adds_68 : decode cX4_adds 68 = .ok (.aload_n 0, 1) := dk_42 (dk_at dksX4_adds_2 21 rfl rfl)
theorem dX4_adds_69 : decode cX4_adds 69 = .ok (.getfield 47, 3) := dk_180 0 47 (dk_at dksX4_adds_3 0 rfl rfl)
theorem dX4_adds_72 : decode cX4_adds 72 = .ok (.iload 4, 2) := dk_21 4 (dk_at dksX4_adds_3 3 rfl rfl)
theorem dX4_adds_74 : decode cX4_adds 74 = .ok (.laload, 1) := dk_47 (dk_at dksX4_adds_3 5 rfl rfl)
theorem dX4_adds_75 : decode cX4_adds 75 = .ok (.aload_n 0, 1) := dk_42 (dk_at dksX4_adds_3 6 rfl rfl)
theorem dX4_adds_76 : decode cX4_adds 76 = .ok (.getfield 51, 3) := dk_180 0 51 (dk_at dksX4_adds_3 7 rfl rfl)
theorem dX4_adds_79 : decode cX4_adds 79 = .ok (.iload 5, 2) := dk_21 5 (dk_at dksX4_adds_3 10 rfl rfl)
theorem dX4_adds_81 : decode cX4_adds 81 = .ok (.laload, 1) := dk_47 (dk_at dksX4_adds_3 12 rfl rfl)
theorem dX4_adds_82 : decode cX4_adds 82 = .ok (.lmul, 1) := dk_105 (dk_at dksX4_adds_3 13 rfl rfl)
theorem dX4_adds_83 : decode cX4_adds 83 = .ok (.iload_n 3, 1) := dk_29 (dk_at dksX4_adds_3 14 rfl rfl)
theorem dX4_adds_84 : decode cX4_adds 84 = .ok (.ifCond .ne 8, 3) := dk_154 0 8 (dk_at dksX4_adds_3 15 rfl rfl)
theorem dX4_adds_87 : decode cX4_adds 87 = .ok (.lload 7, 2) := dk_22 7 (dk_at dksX4_adds_3 18 rfl rfl)
theorem dX4_adds_89 : decode cX4_adds 89 = .ok (.goto 6, 3) := dk_167 0 6 (dk_at dksX4_adds_3 20 rfl rfl)
theorem dX4_adds_92 : decode cX4_adds 92 = .ok (.lload 7, 2) := dk_22 7 (dk_at dksX4_adds_4 0 rfl rfl)
theorem dX4_adds_94 : decode cX4_adds 94 = .ok (.lneg, 1) := dk_117 (dk_at dksX4_adds_4 2 rfl rfl)
theorem dX4_adds_95 : decode cX4_adds 95 = .ok (.ladd, 1) := dk_97 (dk_at dksX4_adds_4 3 rfl rfl)
theorem dX4_adds_96 : decode cX4_adds 96 = .ok (.aload_n 0, 1) := dk_42 (dk_at dksX4_adds_4 4 rfl rfl)
theorem dX4_adds_97 : decode cX4_adds 97 = .ok (.getfield 51, 3) := dk_180 0 51 (dk_at dksX4_adds_4 5 rfl rfl)
theorem dX4_adds_100 : decode cX4_adds 100 = .ok (.iload 4, 2) := dk_21 4 (dk_at dksX4_adds_4 8 rfl rfl)
theorem dX4_adds_102 : decode cX4_adds 102 = .ok (.laload, 1) := dk_47 (dk_at dksX4_adds_4 10 rfl rfl)
theorem dX4_adds_103 : decode cX4_adds 103 = .ok (.aload_n 0, 1) := dk_42 (dk_at dksX4_adds_4 11 rfl rfl)
theorem dX4_adds_104 : decode cX4_adds 104 = .ok (.getfield 51, 3) := dk_180 0 51 (dk_at dksX4_adds_4 12 rfl rfl)
theorem dX4_adds_107 : decode cX4_adds 107 = .ok (.iload 5, 2) := dk_21 5 (dk_at dksX4_adds_4 15 rfl rfl)
theorem dX4_adds_109 : decode cX4_adds 109 = .ok (.laload, 1) := dk_47 (dk_at dksX4_adds_4 17 rfl rfl)
theorem dX4_adds_110 : decode cX4_adds 110 = .ok (.lmul, 1) := dk_105 (dk_at dksX4_adds_4 18 rfl rfl)
theorem dX4_adds_111 : decode cX4_adds 111 = .ok (.invokevirtual 201, 3) := dk_182 0 201 (dk_at dksX4_adds_4 19 rfl rfl)
theorem dX4_adds_114 : decode cX4_adds 114 = .ok (.ifCond .eq 12, 3) := dk_153 0 12 (dk_at dksX4_adds_5 0 rfl rfl)
theorem dX4_adds_117 : decode cX4_adds 117 = .ok (.aload_n 0, 1) := dk_42 (dk_at dksX4_adds_5 3 rfl rfl)
theorem dX4_adds_118 : decode cX4_adds 118 = .ok (.getfield 69, 3) := dk_180 0 69 (dk_at dksX4_adds_5 4 rfl rfl)
theorem dX4_adds_121 : decode cX4_adds 121 = .ok (.iload 4, 2) := dk_21 4 (dk_at dksX4_adds_5 7 rfl rfl)
theorem dX4_adds_123 : decode cX4_adds 123 = .ok (.iload 6, 2) := dk_21 6 (dk_at dksX4_adds_5 9 rfl rfl)
theorem dX4_adds_125 : decode cX4_adds 125 = .ok (.bastore, 1) := dk_84 (dk_at dksX4_adds_5 11 rfl rfl)
theorem dX4_adds_126 : decode cX4_adds 126 = .ok (.return_, 1) := dk_177 (dk_at dksX4_adds_5 12 rfl rfl)
abbrev cX4_splits : ByteArray := prog_23_method_31_code
def yX4_splits : MethodName := ⟨RX4, "splits", "(JII)V"⟩
def dkwX4_splits_14 : List UInt8 := [177]
abbrev dktX4_splits_14 : List UInt8 := dkwX4_splits_14 ++ []
def dkwX4_splits_13 : List UInt8 := [16, 8, 42, 180, 0, 146, 104, 21, 10, 96, 92, 47, 10, 97, 80, 22, 8, 10, 101, 55, 8, 167, 255, 150]
abbrev dktX4_splits_13 : List UInt8 := dkwX4_splits_13 ++ dktX4_splits_14
def dkwX4_splits_12 : List UInt8 := [22, 11, 148, 158, 0, 11, 22, 14, 55, 11, 21, 13, 54, 10, 132, 13, 1, 167, 255, 194, 42, 180, 0, 54]
abbrev dktX4_splits_12 : List UInt8 := dkwX4_splits_12 ++ dktX4_splits_13
def dkwX4_splits_11 : List UInt8 := [16, 8, 42, 180, 0, 146, 104, 21, 13, 96, 47, 22, 6, 105, 101, 55, 14, 21, 13, 153, 0, 11, 22, 14]
abbrev dktX4_splits_11 : List UInt8 := dkwX4_splits_11 ++ dktX4_splits_12
def dkwX4_splits_10 : List UInt8 := [54, 13, 21, 13, 21, 5, 162, 0, 61, 31, 42, 21, 4, 21, 13, 182, 0, 227, 105, 42, 180, 0, 54]
abbrev dktX4_splits_10 : List UInt8 := dkwX4_splits_10 ++ dktX4_splits_11
def dkwX4_splits_9 : List UInt8 := [101, 55, 8, 132, 10, 1, 167, 255, 194, 22, 8, 9, 148, 158, 0, 105, 3, 54, 10, 9, 55, 11, 3]
abbrev dktX4_splits_9 : List UInt8 := dkwX4_splits_9 ++ dktX4_splits_10
def dkwX4_splits_8 : List UInt8 := [42, 180, 0, 54, 16, 8, 42, 180, 0, 146, 104, 21, 10, 96, 92, 47, 22, 11, 97, 80, 22, 8, 22, 11]
abbrev dktX4_splits_8 : List UInt8 := dkwX4_splits_8 ++ dktX4_splits_9
def dkwX4_splits_7 : List UInt8 := [148, 158, 0, 56, 42, 21, 4, 21, 10, 182, 0, 227, 9, 148, 158, 0, 7, 10, 167, 0, 4, 9, 55, 11]
abbrev dktX4_splits_7 : List UInt8 := dkwX4_splits_7 ++ dktX4_splits_8
def dkwX4_splits_6 : List UInt8 := [100, 167, 0, 4, 3, 96, 92, 47, 22, 8, 97, 80, 177, 3, 54, 10, 29, 4, 160, 0, 63, 22, 8, 9]
abbrev dktX4_splits_6 : List UInt8 := dkwX4_splits_6 ++ dktX4_splits_7
def dkwX4_splits_5 : List UInt8 := [29, 4, 164, 0, 35, 42, 180, 0, 54, 16, 8, 42, 180, 0, 146, 104, 29, 5, 160, 0, 10, 21, 5, 4]
abbrev dktX4_splits_5 : List UInt8 := dkwX4_splits_5 ++ dktX4_splits_6
def dkwX4_splits_4 : List UInt8 := [42, 180, 0, 146, 104, 21, 10, 96, 22, 13, 80, 22, 8, 22, 13, 101, 55, 8, 132, 10, 1, 167, 255, 163]
abbrev dktX4_splits_4 : List UInt8 := dkwX4_splits_4 ++ dktX4_splits_5
def dkwX4_splits_3 : List UInt8 := [22, 6, 184, 0, 183, 167, 0, 11, 22, 11, 22, 6, 3, 184, 0, 212, 55, 13, 42, 180, 0, 54, 16, 8]
abbrev dktX4_splits_3 : List UInt8 := dkwX4_splits_3 ++ dktX4_splits_4
def dkwX4_splits_2 : List UInt8 := [167, 0, 4, 9, 55, 11, 21, 10, 21, 5, 161, 0, 7, 9, 167, 0, 26, 29, 5, 162, 0, 13, 22, 11]
abbrev dktX4_splits_2 : List UInt8 := dkwX4_splits_2 ++ dktX4_splits_3
def dkwX4_splits_1 : List UInt8 := [16, 8, 162, 0, 92, 21, 10, 21, 5, 162, 0, 16, 31, 42, 21, 4, 21, 10, 182, 0, 227, 105]
abbrev dktX4_splits_1 : List UInt8 := dkwX4_splits_1 ++ dktX4_splits_2
def dkwX4_splits_0 : List UInt8 := [42, 21, 4, 182, 0, 223, 54, 5, 42, 21, 4, 182, 0, 231, 55, 6, 31, 55, 8, 3, 54, 10, 21, 10]
abbrev dktX4_splits_0 : List UInt8 := dkwX4_splits_0 ++ dktX4_splits_1
theorem dksX4_splits_0 : cX4_splits.data.toList.drop 0 = dktX4_splits_0 := by decide +kernel
theorem dksX4_splits_1 : cX4_splits.data.toList.drop 24 = dktX4_splits_1 := dk_seg dksX4_splits_0 24 rfl rfl
theorem dksX4_splits_2 : cX4_splits.data.toList.drop 46 = dktX4_splits_2 := dk_seg dksX4_splits_1 22 rfl rfl
theorem dksX4_splits_3 : cX4_splits.data.toList.drop 70 = dktX4_splits_3 := dk_seg dksX4_splits_2 24 rfl rfl
theorem dksX4_splits_4 : cX4_splits.data.toList.drop 94 = dktX4_splits_4 := dk_seg dksX4_splits_3 24 rfl rfl
theorem dksX4_splits_5 : cX4_splits.data.toList.drop 118 = dktX4_splits_5 := dk_seg dksX4_splits_4 24 rfl rfl
theorem dksX4_splits_6 : cX4_splits.data.toList.drop 142 = dktX4_splits_6 := dk_seg dksX4_splits_5 24 rfl rfl
theorem dksX4_splits_7 : cX4_splits.data.toList.drop 166 = dktX4_splits_7 := dk_seg dksX4_splits_6 24 rfl rfl
theorem dksX4_splits_8 : cX4_splits.data.toList.drop 190 = dktX4_splits_8 := dk_seg dksX4_splits_7 24 rfl rfl
theorem dksX4_splits_9 : cX4_splits.data.toList.drop 214 = dktX4_splits_9 := dk_seg dksX4_splits_8 24 rfl rfl
theorem dksX4_splits_10 : cX4_splits.data.toList.drop 237 = dktX4_splits_10 := dk_seg dksX4_splits_9 23 rfl rfl
theorem dksX4_splits_11 : cX4_splits.data.toList.drop 260 = dktX4_splits_11 := dk_seg dksX4_splits_10 23 rfl rfl
theorem dksX4_splits_12 : cX4_splits.data.toList.drop 284 = dktX4_splits_12 := dk_seg dksX4_splits_11 24 rfl rfl
theorem dksX4_splits_13 : cX4_splits.data.toList.drop 308 = dktX4_splits_13 := dk_seg dksX4_splits_12 24 rfl rfl
theorem dksX4_splits_14 : cX4_splits.data.toList.drop 332 = dktX4_splits_14 := dk_seg dksX4_splits_13 24 rfl rfl
theorem dX4_splits_0 : decode cX4_splits 0 = .ok (.aload_n 0, 1) := dk_42 (dk_at dksX4_splits_0 0 rfl rfl)
theorem dX4_splits_1 : decode cX4_splits 1 = .ok (.iload 4, 2) := dk_21 4 (dk_at dksX4_splits_0 1 rfl rfl)
theorem dX4_splits_3 : decode cX4_splits 3 = .ok (.invokevirtual 223, 3) := dk_182 0 223 (dk_at dksX4_splits_0 3 rfl rfl)
theorem dX4_splits_6 : decode cX4_splits 6 = .ok (.istore 5, 2) := dk_54 5 (dk_at dksX4_splits_0 6 rfl rfl)
theorem dX4_splits_8 : decode cX4_splits 8 = .ok (.aload_n 0, 1) := dk_42 (dk_at dksX4_splits_0 8 rfl rfl)
theorem dX4_splits_9 : decode cX4_splits 9 = .ok (.iload 4, 2) := dk_21 4 (dk_at dksX4_splits_0 9 rfl rfl)
theorem dX4_splits_11 : decode cX4_splits 11 = .ok (.invokevirtual 231, 3) := dk_182 0 231 (dk_at dksX4_splits_0 11 rfl rfl)
theorem dX4_splits_14 : decode cX4_splits 14 = .ok (.lstore 6, 2) := dk_55 6 (dk_at dksX4_splits_0 14 rfl rfl)
theorem dX4_splits_16 : decode cX4_splits 16 = .ok (.lload_n 1, 1) := dk_31 (dk_at dksX4_splits_0 16 rfl rfl)
theorem dX4_splits_17 : decode cX4_splits 17 = .ok (.lstore 8, 2) := dk_55 8 (dk_at dksX4_splits_0 17 rfl rfl)
theorem dX4_splits_19 : decode cX4_splits 19 = .ok (.iconst 0, 1) := dk_3 (dk_at dksX4_splits_0 19 rfl rfl)
theorem dX4_splits_20 : decode cX4_splits 20 = .ok (.istore 10, 2) := dk_54 10 (dk_at dksX4_splits_0 20 rfl rfl)
theorem dX4_splits_22 : decode cX4_splits 22 = .ok (.iload 10, 2) := dk_21 10 (dk_at dksX4_splits_0 22 rfl rfl)
theorem dX4_splits_24 : decode cX4_splits 24 = .ok (.bipush 8, 2) := dk_16 8 (dk_at dksX4_splits_1 0 rfl rfl)
theorem dX4_splits_26 : decode cX4_splits 26 = .ok (.if_icmp .ge 92, 3) := dk_162 0 92 (dk_at dksX4_splits_1 2 rfl rfl)
theorem dX4_splits_29 : decode cX4_splits 29 = .ok (.iload 10, 2) := dk_21 10 (dk_at dksX4_splits_1 5 rfl rfl)
theorem dX4_splits_31 : decode cX4_splits 31 = .ok (.iload 5, 2) := dk_21 5 (dk_at dksX4_splits_1 7 rfl rfl)
theorem dX4_splits_33 : decode cX4_splits 33 = .ok (.if_icmp .ge 16, 3) := dk_162 0 16 (dk_at dksX4_splits_1 9 rfl rfl)
theorem dX4_splits_36 : decode cX4_splits 36 = .ok (.lload_n 1, 1) := dk_31 (dk_at dksX4_splits_1 12 rfl rfl)
theorem dX4_splits_37 : decode cX4_splits 37 = .ok (.aload_n 0, 1) := dk_42 (dk_at dksX4_splits_1 13 rfl rfl)
theorem dX4_splits_38 : decode cX4_splits 38 = .ok (.iload 4, 2) := dk_21 4 (dk_at dksX4_splits_1 14 rfl rfl)
theorem dX4_splits_40 : decode cX4_splits 40 = .ok (.iload 10, 2) := dk_21 10 (dk_at dksX4_splits_1 16 rfl rfl)
theorem dX4_splits_42 : decode cX4_splits 42 = .ok (.invokevirtual 227, 3) := dk_182 0 227 (dk_at dksX4_splits_1 18 rfl rfl)
theorem dX4_splits_45 : decode cX4_splits 45 = .ok (.lmul, 1) := dk_105 (dk_at dksX4_splits_1 21 rfl rfl)
theorem dX4_splits_46 : decode cX4_splits 46 = .ok (.goto 4, 3) := dk_167 0 4 (dk_at dksX4_splits_2 0 rfl rfl)
theorem dX4_splits_49 : decode cX4_splits 49 = .ok (.lconst 0, 1) := dk_9 (dk_at dksX4_splits_2 3 rfl rfl)
theorem dX4_splits_50 : decode cX4_splits 50 = .ok (.lstore 11, 2) := dk_55 11 (dk_at dksX4_splits_2 4 rfl rfl)
theorem dX4_splits_52 : decode cX4_splits 52 = .ok (.iload 10, 2) := dk_21 10 (dk_at dksX4_splits_2 6 rfl rfl)
theorem dX4_splits_54 : decode cX4_splits 54 = .ok (.iload 5, 2) := dk_21 5 (dk_at dksX4_splits_2 8 rfl rfl)
theorem dX4_splits_56 : decode cX4_splits 56 = .ok (.if_icmp .lt 7, 3) := dk_161 0 7 (dk_at dksX4_splits_2 10 rfl rfl)
theorem dX4_splits_59 : decode cX4_splits 59 = .ok (.lconst 0, 1) := dk_9 (dk_at dksX4_splits_2 13 rfl rfl)
theorem dX4_splits_60 : decode cX4_splits 60 = .ok (.goto 26, 3) := dk_167 0 26 (dk_at dksX4_splits_2 14 rfl rfl)
theorem dX4_splits_63 : decode cX4_splits 63 = .ok (.iload_n 3, 1) := dk_29 (dk_at dksX4_splits_2 17 rfl rfl)
theorem dX4_splits_64 : decode cX4_splits 64 = .ok (.iconst 2, 1) := dk_5 (dk_at dksX4_splits_2 18 rfl rfl)
theorem dX4_splits_65 : decode cX4_splits 65 = .ok (.if_icmp .ge 13, 3) := dk_162 0 13 (dk_at dksX4_splits_2 19 rfl rfl)
theorem dX4_splits_68 : decode cX4_splits 68 = .ok (.lload 11, 2) := dk_22 11 (dk_at dksX4_splits_2 22 rfl rfl)
theorem dX4_splits_70 : decode cX4_splits 70 = .ok (.lload 6, 2) := dk_22 6 (dk_at dksX4_splits_3 0 rfl rfl)
theorem dX4_splits_72 : decode cX4_splits 72 = .ok (.invokestatic 183, 3) := dk_184 0 183 (dk_at dksX4_splits_3 2 rfl rfl)
theorem dX4_splits_75 : decode cX4_splits 75 = .ok (.goto 11, 3) := dk_167 0 11 (dk_at dksX4_splits_3 5 rfl rfl)
theorem dX4_splits_78 : decode cX4_splits 78 = .ok (.lload 11, 2) := dk_22 11 (dk_at dksX4_splits_3 8 rfl rfl)
theorem dX4_splits_80 : decode cX4_splits 80 = .ok (.lload 6, 2) := dk_22 6 (dk_at dksX4_splits_3 10 rfl rfl)
theorem dX4_splits_82 : decode cX4_splits 82 = .ok (.iconst 0, 1) := dk_3 (dk_at dksX4_splits_3 12 rfl rfl)
theorem dX4_splits_83 : decode cX4_splits 83 = .ok (.invokestatic 212, 3) := dk_184 0 212 (dk_at dksX4_splits_3 13 rfl rfl)
theorem dX4_splits_86 : decode cX4_splits 86 = .ok (.lstore 13, 2) := dk_55 13 (dk_at dksX4_splits_3 16 rfl rfl)
theorem dX4_splits_88 : decode cX4_splits 88 = .ok (.aload_n 0, 1) := dk_42 (dk_at dksX4_splits_3 18 rfl rfl)
theorem dX4_splits_89 : decode cX4_splits 89 = .ok (.getfield 54, 3) := dk_180 0 54 (dk_at dksX4_splits_3 19 rfl rfl)
theorem dX4_splits_92 : decode cX4_splits 92 = .ok (.bipush 8, 2) := dk_16 8 (dk_at dksX4_splits_3 22 rfl rfl)
theorem dX4_splits_94 : decode cX4_splits 94 = .ok (.aload_n 0, 1) := dk_42 (dk_at dksX4_splits_4 0 rfl rfl)
theorem dX4_splits_95 : decode cX4_splits 95 = .ok (.getfield 146, 3) := dk_180 0 146 (dk_at dksX4_splits_4 1 rfl rfl)
theorem dX4_splits_98 : decode cX4_splits 98 = .ok (.imul, 1) := dk_104 (dk_at dksX4_splits_4 4 rfl rfl)
theorem dX4_splits_99 : decode cX4_splits 99 = .ok (.iload 10, 2) := dk_21 10 (dk_at dksX4_splits_4 5 rfl rfl)
theorem dX4_splits_101 : decode cX4_splits 101 = .ok (.iadd, 1) := dk_96 (dk_at dksX4_splits_4 7 rfl rfl)
theorem dX4_splits_102 : decode cX4_splits 102 = .ok (.lload 13, 2) := dk_22 13 (dk_at dksX4_splits_4 8 rfl rfl)
theorem dX4_splits_104 : decode cX4_splits 104 = .ok (.lastore, 1) := dk_80 (dk_at dksX4_splits_4 10 rfl rfl)
theorem dX4_splits_105 : decode cX4_splits 105 = .ok (.lload 8, 2) := dk_22 8 (dk_at dksX4_splits_4 11 rfl rfl)
theorem dX4_splits_107 : decode cX4_splits 107 = .ok (.lload 13, 2) := dk_22 13 (dk_at dksX4_splits_4 13 rfl rfl)
theorem dX4_splits_109 : decode cX4_splits 109 = .ok (.lsub, 1) := dk_101 (dk_at dksX4_splits_4 15 rfl rfl)
theorem dX4_splits_110 : decode cX4_splits 110 = .ok (.lstore 8, 2) := dk_55 8 (dk_at dksX4_splits_4 16 rfl rfl)
theorem dX4_splits_112 : decode cX4_splits 112 = .ok (.iinc 10 1, 3) := dk_132 10 1 (dk_at dksX4_splits_4 18 rfl rfl)
theorem dX4_splits_115 : decode cX4_splits 115 = .ok (.goto (-93), 3) := dk_167 255 163 (dk_at dksX4_splits_4 21 rfl rfl)
theorem dX4_splits_118 : decode cX4_splits 118 = .ok (.iload_n 3, 1) := dk_29 (dk_at dksX4_splits_5 0 rfl rfl)
theorem dX4_splits_119 : decode cX4_splits 119 = .ok (.iconst 1, 1) := dk_4 (dk_at dksX4_splits_5 1 rfl rfl)
theorem dX4_splits_120 : decode cX4_splits 120 = .ok (.if_icmp .le 35, 3) := dk_164 0 35 (dk_at dksX4_splits_5 2 rfl rfl)
theorem dX4_splits_123 : decode cX4_splits 123 = .ok (.aload_n 0, 1) := dk_42 (dk_at dksX4_splits_5 5 rfl rfl)
theorem dX4_splits_124 : decode cX4_splits 124 = .ok (.getfield 54, 3) := dk_180 0 54 (dk_at dksX4_splits_5 6 rfl rfl)
theorem dX4_splits_127 : decode cX4_splits 127 = .ok (.bipush 8, 2) := dk_16 8 (dk_at dksX4_splits_5 9 rfl rfl)
theorem dX4_splits_129 : decode cX4_splits 129 = .ok (.aload_n 0, 1) := dk_42 (dk_at dksX4_splits_5 11 rfl rfl)
theorem dX4_splits_130 : decode cX4_splits 130 = .ok (.getfield 146, 3) := dk_180 0 146 (dk_at dksX4_splits_5 12 rfl rfl)
theorem dX4_splits_133 : decode cX4_splits 133 = .ok (.imul, 1) := dk_104 (dk_at dksX4_splits_5 15 rfl rfl)
theorem dX4_splits_134 : decode cX4_splits 134 = .ok (.iload_n 3, 1) := dk_29 (dk_at dksX4_splits_5 16 rfl rfl)
theorem dX4_splits_135 : decode cX4_splits 135 = .ok (.iconst 2, 1) := dk_5 (dk_at dksX4_splits_5 17 rfl rfl)
theorem dX4_splits_136 : decode cX4_splits 136 = .ok (.if_icmp .ne 10, 3) := dk_160 0 10 (dk_at dksX4_splits_5 18 rfl rfl)
theorem dX4_splits_139 : decode cX4_splits 139 = .ok (.iload 5, 2) := dk_21 5 (dk_at dksX4_splits_5 21 rfl rfl)
theorem dX4_splits_141 : decode cX4_splits 141 = .ok (.iconst 1, 1) := dk_4 (dk_at dksX4_splits_5 23 rfl rfl)
theorem dX4_splits_142 : decode cX4_splits 142 = .ok (.isub, 1) := dk_100 (dk_at dksX4_splits_6 0 rfl rfl)
theorem dX4_splits_143 : decode cX4_splits 143 = .ok (.goto 4, 3) := dk_167 0 4 (dk_at dksX4_splits_6 1 rfl rfl)
theorem dX4_splits_146 : decode cX4_splits 146 = .ok (.iconst 0, 1) := dk_3 (dk_at dksX4_splits_6 4 rfl rfl)
theorem dX4_splits_147 : decode cX4_splits 147 = .ok (.iadd, 1) := dk_96 (dk_at dksX4_splits_6 5 rfl rfl)
theorem dX4_splits_148 : decode cX4_splits 148 = .ok (.dup2, 1) := dk_92 (dk_at dksX4_splits_6 6 rfl rfl)
theorem dX4_splits_149 : decode cX4_splits 149 = .ok (.laload, 1) := dk_47 (dk_at dksX4_splits_6 7 rfl rfl)
theorem dX4_splits_150 : decode cX4_splits 150 = .ok (.lload 8, 2) := dk_22 8 (dk_at dksX4_splits_6 8 rfl rfl)
theorem dX4_splits_152 : decode cX4_splits 152 = .ok (.ladd, 1) := dk_97 (dk_at dksX4_splits_6 10 rfl rfl)
theorem dX4_splits_153 : decode cX4_splits 153 = .ok (.lastore, 1) := dk_80 (dk_at dksX4_splits_6 11 rfl rfl)
theorem dX4_splits_154 : decode cX4_splits 154 = .ok (.return_, 1) := dk_177 (dk_at dksX4_splits_6 12 rfl rfl)
theorem dX4_splits_155 : decode cX4_splits 155 = .ok (.iconst 0, 1) := dk_3 (dk_at dksX4_splits_6 13 rfl rfl)
theorem dX4_splits_156 : decode cX4_splits 156 = .ok (.istore 10, 2) := dk_54 10 (dk_at dksX4_splits_6 14 rfl rfl)
theorem dX4_splits_158 : decode cX4_splits 158 = .ok (.iload_n 3, 1) := dk_29 (dk_at dksX4_splits_6 16 rfl rfl)
theorem dX4_splits_159 : decode cX4_splits 159 = .ok (.iconst 1, 1) := dk_4 (dk_at dksX4_splits_6 17 rfl rfl)
theorem dX4_splits_160 : decode cX4_splits 160 = .ok (.if_icmp .ne 63, 3) := dk_160 0 63 (dk_at dksX4_splits_6 18 rfl rfl)
theorem dX4_splits_163 : decode cX4_splits 163 = .ok (.lload 8, 2) := dk_22 8 (dk_at dksX4_splits_6 21 rfl rfl)
theorem dX4_splits_165 : decode cX4_splits 165 = .ok (.lconst 0, 1) := dk_9 (dk_at dksX4_splits_6 23 rfl rfl)
theorem dX4_splits_166 : decode cX4_splits 166 = .ok (.lcmp, 1) := dk_148 (dk_at dksX4_splits_7 0 rfl rfl)
theorem dX4_splits_167 : decode cX4_splits 167 = .ok (.ifCond .le 56, 3) := dk_158 0 56 (dk_at dksX4_splits_7 1 rfl rfl)
theorem dX4_splits_170 : decode cX4_splits 170 = .ok (.aload_n 0, 1) := dk_42 (dk_at dksX4_splits_7 4 rfl rfl)
theorem dX4_splits_171 : decode cX4_splits 171 = .ok (.iload 4, 2) := dk_21 4 (dk_at dksX4_splits_7 5 rfl rfl)
theorem dX4_splits_173 : decode cX4_splits 173 = .ok (.iload 10, 2) := dk_21 10 (dk_at dksX4_splits_7 7 rfl rfl)
theorem dX4_splits_175 : decode cX4_splits 175 = .ok (.invokevirtual 227, 3) := dk_182 0 227 (dk_at dksX4_splits_7 9 rfl rfl)
theorem dX4_splits_178 : decode cX4_splits 178 = .ok (.lconst 0, 1) := dk_9 (dk_at dksX4_splits_7 12 rfl rfl)
theorem dX4_splits_179 : decode cX4_splits 179 = .ok (.lcmp, 1) := dk_148 (dk_at dksX4_splits_7 13 rfl rfl)
theorem dX4_splits_180 : decode cX4_splits 180 = .ok (.ifCond .le 7, 3) := dk_158 0 7 (dk_at dksX4_splits_7 14 rfl rfl)
theorem dX4_splits_183 : decode cX4_splits 183 = .ok (.lconst 1, 1) := dk_10 (dk_at dksX4_splits_7 17 rfl rfl)
theorem dX4_splits_184 : decode cX4_splits 184 = .ok (.goto 4, 3) := dk_167 0 4 (dk_at dksX4_splits_7 18 rfl rfl)
theorem dX4_splits_187 : decode cX4_splits 187 = .ok (.lconst 0, 1) := dk_9 (dk_at dksX4_splits_7 21 rfl rfl)
theorem dX4_splits_188 : decode cX4_splits 188 = .ok (.lstore 11, 2) := dk_55 11 (dk_at dksX4_splits_7 22 rfl rfl)
theorem dX4_splits_190 : decode cX4_splits 190 = .ok (.aload_n 0, 1) := dk_42 (dk_at dksX4_splits_8 0 rfl rfl)
theorem dX4_splits_191 : decode cX4_splits 191 = .ok (.getfield 54, 3) := dk_180 0 54 (dk_at dksX4_splits_8 1 rfl rfl)
theorem dX4_splits_194 : decode cX4_splits 194 = .ok (.bipush 8, 2) := dk_16 8 (dk_at dksX4_splits_8 4 rfl rfl)
theorem dX4_splits_196 : decode cX4_splits 196 = .ok (.aload_n 0, 1) := dk_42 (dk_at dksX4_splits_8 6 rfl rfl)
theorem dX4_splits_197 : decode cX4_splits 197 = .ok (.getfield 146, 3) := dk_180 0 146 (dk_at dksX4_splits_8 7 rfl rfl)
theorem dX4_splits_200 : decode cX4_splits 200 = .ok (.imul, 1) := dk_104 (dk_at dksX4_splits_8 10 rfl rfl)
theorem dX4_splits_201 : decode cX4_splits 201 = .ok (.iload 10, 2) := dk_21 10 (dk_at dksX4_splits_8 11 rfl rfl)
theorem dX4_splits_203 : decode cX4_splits 203 = .ok (.iadd, 1) := dk_96 (dk_at dksX4_splits_8 13 rfl rfl)
theorem dX4_splits_204 : decode cX4_splits 204 = .ok (.dup2, 1) := dk_92 (dk_at dksX4_splits_8 14 rfl rfl)
theorem dX4_splits_205 : decode cX4_splits 205 = .ok (.laload, 1) := dk_47 (dk_at dksX4_splits_8 15 rfl rfl)
theorem dX4_splits_206 : decode cX4_splits 206 = .ok (.lload 11, 2) := dk_22 11 (dk_at dksX4_splits_8 16 rfl rfl)
theorem dX4_splits_208 : decode cX4_splits 208 = .ok (.ladd, 1) := dk_97 (dk_at dksX4_splits_8 18 rfl rfl)
theorem dX4_splits_209 : decode cX4_splits 209 = .ok (.lastore, 1) := dk_80 (dk_at dksX4_splits_8 19 rfl rfl)
theorem dX4_splits_210 : decode cX4_splits 210 = .ok (.lload 8, 2) := dk_22 8 (dk_at dksX4_splits_8 20 rfl rfl)
theorem dX4_splits_212 : decode cX4_splits 212 = .ok (.lload 11, 2) := dk_22 11 (dk_at dksX4_splits_8 22 rfl rfl)
theorem dX4_splits_214 : decode cX4_splits 214 = .ok (.lsub, 1) := dk_101 (dk_at dksX4_splits_9 0 rfl rfl)
theorem dX4_splits_215 : decode cX4_splits 215 = .ok (.lstore 8, 2) := dk_55 8 (dk_at dksX4_splits_9 1 rfl rfl)
theorem dX4_splits_217 : decode cX4_splits 217 = .ok (.iinc 10 1, 3) := dk_132 10 1 (dk_at dksX4_splits_9 3 rfl rfl)
theorem dX4_splits_220 : decode cX4_splits 220 = .ok (.goto (-62), 3) := dk_167 255 194 (dk_at dksX4_splits_9 6 rfl rfl)
theorem dX4_splits_223 : decode cX4_splits 223 = .ok (.lload 8, 2) := dk_22 8 (dk_at dksX4_splits_9 9 rfl rfl)
theorem dX4_splits_225 : decode cX4_splits 225 = .ok (.lconst 0, 1) := dk_9 (dk_at dksX4_splits_9 11 rfl rfl)
theorem dX4_splits_226 : decode cX4_splits 226 = .ok (.lcmp, 1) := dk_148 (dk_at dksX4_splits_9 12 rfl rfl)
theorem dX4_splits_227 : decode cX4_splits 227 = .ok (.ifCond .le 105, 3) := dk_158 0 105 (dk_at dksX4_splits_9 13 rfl rfl)
theorem dX4_splits_230 : decode cX4_splits 230 = .ok (.iconst 0, 1) := dk_3 (dk_at dksX4_splits_9 16 rfl rfl)
theorem dX4_splits_231 : decode cX4_splits 231 = .ok (.istore 10, 2) := dk_54 10 (dk_at dksX4_splits_9 17 rfl rfl)
theorem dX4_splits_233 : decode cX4_splits 233 = .ok (.lconst 0, 1) := dk_9 (dk_at dksX4_splits_9 19 rfl rfl)
theorem dX4_splits_234 : decode cX4_splits 234 = .ok (.lstore 11, 2) := dk_55 11 (dk_at dksX4_splits_9 20 rfl rfl)
theorem dX4_splits_236 : decode cX4_splits 236 = .ok (.iconst 0, 1) := dk_3 (dk_at dksX4_splits_9 22 rfl rfl)
theorem dX4_splits_237 : decode cX4_splits 237 = .ok (.istore 13, 2) := dk_54 13 (dk_at dksX4_splits_10 0 rfl rfl)
theorem dX4_splits_239 : decode cX4_splits 239 = .ok (.iload 13, 2) := dk_21 13 (dk_at dksX4_splits_10 2 rfl rfl)
theorem dX4_splits_241 : decode cX4_splits 241 = .ok (.iload 5, 2) := dk_21 5 (dk_at dksX4_splits_10 4 rfl rfl)
theorem dX4_splits_243 : decode cX4_splits 243 = .ok (.if_icmp .ge 61, 3) := dk_162 0 61 (dk_at dksX4_splits_10 6 rfl rfl)
theorem dX4_splits_246 : decode cX4_splits 246 = .ok (.lload_n 1, 1) := dk_31 (dk_at dksX4_splits_10 9 rfl rfl)
theorem dX4_splits_247 : decode cX4_splits 247 = .ok (.aload_n 0, 1) := dk_42 (dk_at dksX4_splits_10 10 rfl rfl)
theorem dX4_splits_248 : decode cX4_splits 248 = .ok (.iload 4, 2) := dk_21 4 (dk_at dksX4_splits_10 11 rfl rfl)
theorem dX4_splits_250 : decode cX4_splits 250 = .ok (.iload 13, 2) := dk_21 13 (dk_at dksX4_splits_10 13 rfl rfl)
theorem dX4_splits_252 : decode cX4_splits 252 = .ok (.invokevirtual 227, 3) := dk_182 0 227 (dk_at dksX4_splits_10 15 rfl rfl)
theorem dX4_splits_255 : decode cX4_splits 255 = .ok (.lmul, 1) := dk_105 (dk_at dksX4_splits_10 18 rfl rfl)
theorem dX4_splits_256 : decode cX4_splits 256 = .ok (.aload_n 0, 1) := dk_42 (dk_at dksX4_splits_10 19 rfl rfl)
theorem dX4_splits_257 : decode cX4_splits 257 = .ok (.getfield 54, 3) := dk_180 0 54 (dk_at dksX4_splits_10 20 rfl rfl)
theorem dX4_splits_260 : decode cX4_splits 260 = .ok (.bipush 8, 2) := dk_16 8 (dk_at dksX4_splits_11 0 rfl rfl)
theorem dX4_splits_262 : decode cX4_splits 262 = .ok (.aload_n 0, 1) := dk_42 (dk_at dksX4_splits_11 2 rfl rfl)
theorem dX4_splits_263 : decode cX4_splits 263 = .ok (.getfield 146, 3) := dk_180 0 146 (dk_at dksX4_splits_11 3 rfl rfl)
theorem dX4_splits_266 : decode cX4_splits 266 = .ok (.imul, 1) := dk_104 (dk_at dksX4_splits_11 6 rfl rfl)
theorem dX4_splits_267 : decode cX4_splits 267 = .ok (.iload 13, 2) := dk_21 13 (dk_at dksX4_splits_11 7 rfl rfl)
theorem dX4_splits_269 : decode cX4_splits 269 = .ok (.iadd, 1) := dk_96 (dk_at dksX4_splits_11 9 rfl rfl)
theorem dX4_splits_270 : decode cX4_splits 270 = .ok (.laload, 1) := dk_47 (dk_at dksX4_splits_11 10 rfl rfl)
theorem dX4_splits_271 : decode cX4_splits 271 = .ok (.lload 6, 2) := dk_22 6 (dk_at dksX4_splits_11 11 rfl rfl)
theorem dX4_splits_273 : decode cX4_splits 273 = .ok (.lmul, 1) := dk_105 (dk_at dksX4_splits_11 13 rfl rfl)
theorem dX4_splits_274 : decode cX4_splits 274 = .ok (.lsub, 1) := dk_101 (dk_at dksX4_splits_11 14 rfl rfl)
theorem dX4_splits_275 : decode cX4_splits 275 = .ok (.lstore 14, 2) := dk_55 14 (dk_at dksX4_splits_11 15 rfl rfl)
theorem dX4_splits_277 : decode cX4_splits 277 = .ok (.iload 13, 2) := dk_21 13 (dk_at dksX4_splits_11 17 rfl rfl)
theorem dX4_splits_279 : decode cX4_splits 279 = .ok (.ifCond .eq 11, 3) := dk_153 0 11 (dk_at dksX4_splits_11 19 rfl rfl)
theorem dX4_splits_282 : decode cX4_splits 282 = .ok (.lload 14, 2) := dk_22 14 (dk_at dksX4_splits_11 22 rfl rfl)
theorem dX4_splits_284 : decode cX4_splits 284 = .ok (.lload 11, 2) := dk_22 11 (dk_at dksX4_splits_12 0 rfl rfl)
theorem dX4_splits_286 : decode cX4_splits 286 = .ok (.lcmp, 1) := dk_148 (dk_at dksX4_splits_12 2 rfl rfl)
theorem dX4_splits_287 : decode cX4_splits 287 = .ok (.ifCond .le 11, 3) := dk_158 0 11 (dk_at dksX4_splits_12 3 rfl rfl)
theorem dX4_splits_290 : decode cX4_splits 290 = .ok (.lload 14, 2) := dk_22 14 (dk_at dksX4_splits_12 6 rfl rfl)
theorem dX4_splits_292 : decode cX4_splits 292 = .ok (.lstore 11, 2) := dk_55 11 (dk_at dksX4_splits_12 8 rfl rfl)
theorem dX4_splits_294 : decode cX4_splits 294 = .ok (.iload 13, 2) := dk_21 13 (dk_at dksX4_splits_12 10 rfl rfl)
theorem dX4_splits_296 : decode cX4_splits 296 = .ok (.istore 10, 2) := dk_54 10 (dk_at dksX4_splits_12 12 rfl rfl)
theorem dX4_splits_298 : decode cX4_splits 298 = .ok (.iinc 13 1, 3) := dk_132 13 1 (dk_at dksX4_splits_12 14 rfl rfl)
theorem dX4_splits_301 : decode cX4_splits 301 = .ok (.goto (-62), 3) := dk_167 255 194 (dk_at dksX4_splits_12 17 rfl rfl)
theorem dX4_splits_304 : decode cX4_splits 304 = .ok (.aload_n 0, 1) := dk_42 (dk_at dksX4_splits_12 20 rfl rfl)
theorem dX4_splits_305 : decode cX4_splits 305 = .ok (.getfield 54, 3) := dk_180 0 54 (dk_at dksX4_splits_12 21 rfl rfl)
theorem dX4_splits_308 : decode cX4_splits 308 = .ok (.bipush 8, 2) := dk_16 8 (dk_at dksX4_splits_13 0 rfl rfl)
theorem dX4_splits_310 : decode cX4_splits 310 = .ok (.aload_n 0, 1) := dk_42 (dk_at dksX4_splits_13 2 rfl rfl)
theorem dX4_splits_311 : decode cX4_splits 311 = .ok (.getfield 146, 3) := dk_180 0 146 (dk_at dksX4_splits_13 3 rfl rfl)
theorem dX4_splits_314 : decode cX4_splits 314 = .ok (.imul, 1) := dk_104 (dk_at dksX4_splits_13 6 rfl rfl)
theorem dX4_splits_315 : decode cX4_splits 315 = .ok (.iload 10, 2) := dk_21 10 (dk_at dksX4_splits_13 7 rfl rfl)
theorem dX4_splits_317 : decode cX4_splits 317 = .ok (.iadd, 1) := dk_96 (dk_at dksX4_splits_13 9 rfl rfl)
theorem dX4_splits_318 : decode cX4_splits 318 = .ok (.dup2, 1) := dk_92 (dk_at dksX4_splits_13 10 rfl rfl)
theorem dX4_splits_319 : decode cX4_splits 319 = .ok (.laload, 1) := dk_47 (dk_at dksX4_splits_13 11 rfl rfl)
theorem dX4_splits_320 : decode cX4_splits 320 = .ok (.lconst 1, 1) := dk_10 (dk_at dksX4_splits_13 12 rfl rfl)
theorem dX4_splits_321 : decode cX4_splits 321 = .ok (.ladd, 1) := dk_97 (dk_at dksX4_splits_13 13 rfl rfl)
theorem dX4_splits_322 : decode cX4_splits 322 = .ok (.lastore, 1) := dk_80 (dk_at dksX4_splits_13 14 rfl rfl)
theorem dX4_splits_323 : decode cX4_splits 323 = .ok (.lload 8, 2) := dk_22 8 (dk_at dksX4_splits_13 15 rfl rfl)
theorem dX4_splits_325 : decode cX4_splits 325 = .ok (.lconst 1, 1) := dk_10 (dk_at dksX4_splits_13 17 rfl rfl)
theorem dX4_splits_326 : decode cX4_splits 326 = .ok (.lsub, 1) := dk_101 (dk_at dksX4_splits_13 18 rfl rfl)
theorem dX4_splits_327 : decode cX4_splits 327 = .ok (.lstore 8, 2) := dk_55 8 (dk_at dksX4_splits_13 19 rfl rfl)
theorem dX4_splits_329 : decode cX4_splits 329 = .ok (.goto (-106), 3) := dk_167 255 150 (dk_at dksX4_splits_13 21 rfl rfl)
theorem dX4_splits_332 : decode cX4_splits 332 = .ok (.return_, 1) := dk_177 (dk_at dksX4_splits_14 0 rfl rfl)
abbrev cX4_partsOf : ByteArray := prog_23_method_29_code
def yX4_partsOf : MethodName := ⟨RX4, "partsOf", "(I)I"⟩
def dkwX4_partsOf_0 : List UInt8 := [42, 27, 182, 0, 220, 153, 0, 7, 5, 167, 0, 9, 42, 180, 0, 19, 27, 46, 172]
abbrev dktX4_partsOf_0 : List UInt8 := dkwX4_partsOf_0 ++ []
theorem dksX4_partsOf_0 : cX4_partsOf.data.toList.drop 0 = dktX4_partsOf_0 := by decide +kernel
theorem dX4_partsOf_0 : decode cX4_partsOf 0 = .ok (.aload_n 0, 1) := dk_42 (dk_at dksX4_partsOf_0 0 rfl rfl)
theorem dX4_partsOf_1 : decode cX4_partsOf 1 = .ok (.iload_n 1, 1) := dk_27 (dk_at dksX4_partsOf_0 1 rfl rfl)
theorem dX4_partsOf_2 : decode cX4_partsOf 2 = .ok (.invokevirtual 220, 3) := dk_182 0 220 (dk_at dksX4_partsOf_0 2 rfl rfl)
theorem dX4_partsOf_5 : decode cX4_partsOf 5 = .ok (.ifCond .eq 7, 3) := dk_153 0 7 (dk_at dksX4_partsOf_0 5 rfl rfl)
theorem dX4_partsOf_8 : decode cX4_partsOf 8 = .ok (.iconst 2, 1) := dk_5 (dk_at dksX4_partsOf_0 8 rfl rfl)
theorem dX4_partsOf_9 : decode cX4_partsOf 9 = .ok (.goto 9, 3) := dk_167 0 9 (dk_at dksX4_partsOf_0 9 rfl rfl)
theorem dX4_partsOf_12 : decode cX4_partsOf 12 = .ok (.aload_n 0, 1) := dk_42 (dk_at dksX4_partsOf_0 12 rfl rfl)
theorem dX4_partsOf_13 : decode cX4_partsOf 13 = .ok (.getfield 19, 3) := dk_180 0 19 (dk_at dksX4_partsOf_0 13 rfl rfl)
theorem dX4_partsOf_16 : decode cX4_partsOf 16 = .ok (.iload_n 1, 1) := dk_27 (dk_at dksX4_partsOf_0 16 rfl rfl)
theorem dX4_partsOf_17 : decode cX4_partsOf 17 = .ok (.iaload, 1) := dk_46 (dk_at dksX4_partsOf_0 17 rfl rfl)
theorem dX4_partsOf_18 : decode cX4_partsOf 18 = .ok (.ireturn, 1) := dk_172 (dk_at dksX4_partsOf_0 18 rfl rfl)
abbrev cX4_isEven : ByteArray := prog_23_method_28_code
def yX4_isEven : MethodName := ⟨RX4, "isEven", "(I)Z"⟩
def dkwX4_isEven_1 : List UInt8 := [96, 46, 96, 61, 132, 3, 1, 167, 255, 229, 28, 154, 0, 7, 4, 167, 0, 4, 3, 172]
abbrev dktX4_isEven_1 : List UInt8 := dkwX4_isEven_1 ++ []
def dkwX4_isEven_0 : List UInt8 := [3, 61, 3, 62, 29, 42, 180, 0, 19, 27, 46, 162, 0, 23, 28, 42, 180, 0, 22, 16, 8, 27, 104, 29]
abbrev dktX4_isEven_0 : List UInt8 := dkwX4_isEven_0 ++ dktX4_isEven_1
theorem dksX4_isEven_0 : cX4_isEven.data.toList.drop 0 = dktX4_isEven_0 := by decide +kernel
theorem dksX4_isEven_1 : cX4_isEven.data.toList.drop 24 = dktX4_isEven_1 := dk_seg dksX4_isEven_0 24 rfl rfl
theorem dX4_isEven_0 : decode cX4_isEven 0 = .ok (.iconst 0, 1) := dk_3 (dk_at dksX4_isEven_0 0 rfl rfl)
theorem dX4_isEven_1 : decode cX4_isEven 1 = .ok (.istore_n 2, 1) := dk_61 (dk_at dksX4_isEven_0 1 rfl rfl)
theorem dX4_isEven_2 : decode cX4_isEven 2 = .ok (.iconst 0, 1) := dk_3 (dk_at dksX4_isEven_0 2 rfl rfl)
theorem dX4_isEven_3 : decode cX4_isEven 3 = .ok (.istore_n 3, 1) := dk_62 (dk_at dksX4_isEven_0 3 rfl rfl)
theorem dX4_isEven_4 : decode cX4_isEven 4 = .ok (.iload_n 3, 1) := dk_29 (dk_at dksX4_isEven_0 4 rfl rfl)
theorem dX4_isEven_5 : decode cX4_isEven 5 = .ok (.aload_n 0, 1) := dk_42 (dk_at dksX4_isEven_0 5 rfl rfl)
theorem dX4_isEven_6 : decode cX4_isEven 6 = .ok (.getfield 19, 3) := dk_180 0 19 (dk_at dksX4_isEven_0 6 rfl rfl)
theorem dX4_isEven_9 : decode cX4_isEven 9 = .ok (.iload_n 1, 1) := dk_27 (dk_at dksX4_isEven_0 9 rfl rfl)
theorem dX4_isEven_10 : decode cX4_isEven 10 = .ok (.iaload, 1) := dk_46 (dk_at dksX4_isEven_0 10 rfl rfl)
theorem dX4_isEven_11 : decode cX4_isEven 11 = .ok (.if_icmp .ge 23, 3) := dk_162 0 23 (dk_at dksX4_isEven_0 11 rfl rfl)
theorem dX4_isEven_14 : decode cX4_isEven 14 = .ok (.iload_n 2, 1) := dk_28 (dk_at dksX4_isEven_0 14 rfl rfl)
theorem dX4_isEven_15 : decode cX4_isEven 15 = .ok (.aload_n 0, 1) := dk_42 (dk_at dksX4_isEven_0 15 rfl rfl)
theorem dX4_isEven_16 : decode cX4_isEven 16 = .ok (.getfield 22, 3) := dk_180 0 22 (dk_at dksX4_isEven_0 16 rfl rfl)
theorem dX4_isEven_19 : decode cX4_isEven 19 = .ok (.bipush 8, 2) := dk_16 8 (dk_at dksX4_isEven_0 19 rfl rfl)
theorem dX4_isEven_21 : decode cX4_isEven 21 = .ok (.iload_n 1, 1) := dk_27 (dk_at dksX4_isEven_0 21 rfl rfl)
theorem dX4_isEven_22 : decode cX4_isEven 22 = .ok (.imul, 1) := dk_104 (dk_at dksX4_isEven_0 22 rfl rfl)
theorem dX4_isEven_23 : decode cX4_isEven 23 = .ok (.iload_n 3, 1) := dk_29 (dk_at dksX4_isEven_0 23 rfl rfl)
theorem dX4_isEven_24 : decode cX4_isEven 24 = .ok (.iadd, 1) := dk_96 (dk_at dksX4_isEven_1 0 rfl rfl)
theorem dX4_isEven_25 : decode cX4_isEven 25 = .ok (.iaload, 1) := dk_46 (dk_at dksX4_isEven_1 1 rfl rfl)
theorem dX4_isEven_26 : decode cX4_isEven 26 = .ok (.iadd, 1) := dk_96 (dk_at dksX4_isEven_1 2 rfl rfl)
theorem dX4_isEven_27 : decode cX4_isEven 27 = .ok (.istore_n 2, 1) := dk_61 (dk_at dksX4_isEven_1 3 rfl rfl)
theorem dX4_isEven_28 : decode cX4_isEven 28 = .ok (.iinc 3 1, 3) := dk_132 3 1 (dk_at dksX4_isEven_1 4 rfl rfl)
theorem dX4_isEven_31 : decode cX4_isEven 31 = .ok (.goto (-27), 3) := dk_167 255 229 (dk_at dksX4_isEven_1 7 rfl rfl)
theorem dX4_isEven_34 : decode cX4_isEven 34 = .ok (.iload_n 2, 1) := dk_28 (dk_at dksX4_isEven_1 10 rfl rfl)
theorem dX4_isEven_35 : decode cX4_isEven 35 = .ok (.ifCond .ne 7, 3) := dk_154 0 7 (dk_at dksX4_isEven_1 11 rfl rfl)
theorem dX4_isEven_38 : decode cX4_isEven 38 = .ok (.iconst 1, 1) := dk_4 (dk_at dksX4_isEven_1 14 rfl rfl)
theorem dX4_isEven_39 : decode cX4_isEven 39 = .ok (.goto 4, 3) := dk_167 0 4 (dk_at dksX4_isEven_1 15 rfl rfl)
theorem dX4_isEven_42 : decode cX4_isEven 42 = .ok (.iconst 0, 1) := dk_3 (dk_at dksX4_isEven_1 18 rfl rfl)
theorem dX4_isEven_43 : decode cX4_isEven 43 = .ok (.ireturn, 1) := dk_172 (dk_at dksX4_isEven_1 19 rfl rfl)
abbrev cX4_allWeights : ByteArray := prog_23_method_30_code
def yX4_allWeights : MethodName := ⟨RX4, "allWeights", "(I)J"⟩
def dkwX4_allWeights_1 : List UInt8 := [65, 132, 4, 1, 167, 255, 233, 32, 173]
abbrev dktX4_allWeights_1 : List UInt8 := dkwX4_allWeights_1 ++ []
def dkwX4_allWeights_0 : List UInt8 := [9, 65, 3, 54, 4, 21, 4, 42, 27, 182, 0, 223, 162, 0, 19, 32, 42, 27, 21, 4, 182, 0, 227, 97]
abbrev dktX4_allWeights_0 : List UInt8 := dkwX4_allWeights_0 ++ dktX4_allWeights_1
theorem dksX4_allWeights_0 : cX4_allWeights.data.toList.drop 0 = dktX4_allWeights_0 := by decide +kernel
theorem dksX4_allWeights_1 : cX4_allWeights.data.toList.drop 24 = dktX4_allWeights_1 := dk_seg dksX4_allWeights_0 24 rfl rfl
theorem dX4_allWeights_0 : decode cX4_allWeights 0 = .ok (.lconst 0, 1) := dk_9 (dk_at dksX4_allWeights_0 0 rfl rfl)
theorem dX4_allWeights_1 : decode cX4_allWeights 1 = .ok (.lstore_n 2, 1) := dk_65 (dk_at dksX4_allWeights_0 1 rfl rfl)
theorem dX4_allWeights_2 : decode cX4_allWeights 2 = .ok (.iconst 0, 1) := dk_3 (dk_at dksX4_allWeights_0 2 rfl rfl)
theorem dX4_allWeights_3 : decode cX4_allWeights 3 = .ok (.istore 4, 2) := dk_54 4 (dk_at dksX4_allWeights_0 3 rfl rfl)
theorem dX4_allWeights_5 : decode cX4_allWeights 5 = .ok (.iload 4, 2) := dk_21 4 (dk_at dksX4_allWeights_0 5 rfl rfl)
theorem dX4_allWeights_7 : decode cX4_allWeights 7 = .ok (.aload_n 0, 1) := dk_42 (dk_at dksX4_allWeights_0 7 rfl rfl)
theorem dX4_allWeights_8 : decode cX4_allWeights 8 = .ok (.iload_n 1, 1) := dk_27 (dk_at dksX4_allWeights_0 8 rfl rfl)
theorem dX4_allWeights_9 : decode cX4_allWeights 9 = .ok (.invokevirtual 223, 3) := dk_182 0 223 (dk_at dksX4_allWeights_0 9 rfl rfl)
theorem dX4_allWeights_12 : decode cX4_allWeights 12 = .ok (.if_icmp .ge 19, 3) := dk_162 0 19 (dk_at dksX4_allWeights_0 12 rfl rfl)
theorem dX4_allWeights_15 : decode cX4_allWeights 15 = .ok (.lload_n 2, 1) := dk_32 (dk_at dksX4_allWeights_0 15 rfl rfl)
theorem dX4_allWeights_16 : decode cX4_allWeights 16 = .ok (.aload_n 0, 1) := dk_42 (dk_at dksX4_allWeights_0 16 rfl rfl)
theorem dX4_allWeights_17 : decode cX4_allWeights 17 = .ok (.iload_n 1, 1) := dk_27 (dk_at dksX4_allWeights_0 17 rfl rfl)
theorem dX4_allWeights_18 : decode cX4_allWeights 18 = .ok (.iload 4, 2) := dk_21 4 (dk_at dksX4_allWeights_0 18 rfl rfl)
theorem dX4_allWeights_20 : decode cX4_allWeights 20 = .ok (.invokevirtual 227, 3) := dk_182 0 227 (dk_at dksX4_allWeights_0 20 rfl rfl)
theorem dX4_allWeights_23 : decode cX4_allWeights 23 = .ok (.ladd, 1) := dk_97 (dk_at dksX4_allWeights_0 23 rfl rfl)
theorem dX4_allWeights_24 : decode cX4_allWeights 24 = .ok (.lstore_n 2, 1) := dk_65 (dk_at dksX4_allWeights_1 0 rfl rfl)
theorem dX4_allWeights_25 : decode cX4_allWeights 25 = .ok (.iinc 4 1, 3) := dk_132 4 1 (dk_at dksX4_allWeights_1 1 rfl rfl)
theorem dX4_allWeights_28 : decode cX4_allWeights 28 = .ok (.goto (-23), 3) := dk_167 255 233 (dk_at dksX4_allWeights_1 4 rfl rfl)
theorem dX4_allWeights_31 : decode cX4_allWeights 31 = .ok (.lload_n 2, 1) := dk_32 (dk_at dksX4_allWeights_1 7 rfl rfl)
theorem dX4_allWeights_32 : decode cX4_allWeights 32 = .ok (.lreturn, 1) := dk_173 (dk_at dksX4_allWeights_1 8 rfl rfl)
abbrev cX4_weighed : ByteArray := prog_23_method_27_code
def yX4_weighed : MethodName := ⟨RX4, "weighed", "(II)J"⟩
def dkwX4_weighed_1 : List UInt8 := [173]
abbrev dktX4_weighed_1 : List UInt8 := dkwX4_weighed_1 ++ []
def dkwX4_weighed_0 : List UInt8 := [42, 27, 182, 0, 220, 153, 0, 7, 10, 167, 0, 15, 42, 180, 0, 22, 16, 8, 27, 104, 28, 96, 46, 133]
abbrev dktX4_weighed_0 : List UInt8 := dkwX4_weighed_0 ++ dktX4_weighed_1
theorem dksX4_weighed_0 : cX4_weighed.data.toList.drop 0 = dktX4_weighed_0 := by decide +kernel
theorem dksX4_weighed_1 : cX4_weighed.data.toList.drop 24 = dktX4_weighed_1 := dk_seg dksX4_weighed_0 24 rfl rfl
theorem dX4_weighed_0 : decode cX4_weighed 0 = .ok (.aload_n 0, 1) := dk_42 (dk_at dksX4_weighed_0 0 rfl rfl)
theorem dX4_weighed_1 : decode cX4_weighed 1 = .ok (.iload_n 1, 1) := dk_27 (dk_at dksX4_weighed_0 1 rfl rfl)
theorem dX4_weighed_2 : decode cX4_weighed 2 = .ok (.invokevirtual 220, 3) := dk_182 0 220 (dk_at dksX4_weighed_0 2 rfl rfl)
theorem dX4_weighed_5 : decode cX4_weighed 5 = .ok (.ifCond .eq 7, 3) := dk_153 0 7 (dk_at dksX4_weighed_0 5 rfl rfl)
theorem dX4_weighed_8 : decode cX4_weighed 8 = .ok (.lconst 1, 1) := dk_10 (dk_at dksX4_weighed_0 8 rfl rfl)
theorem dX4_weighed_9 : decode cX4_weighed 9 = .ok (.goto 15, 3) := dk_167 0 15 (dk_at dksX4_weighed_0 9 rfl rfl)
theorem dX4_weighed_12 : decode cX4_weighed 12 = .ok (.aload_n 0, 1) := dk_42 (dk_at dksX4_weighed_0 12 rfl rfl)
theorem dX4_weighed_13 : decode cX4_weighed 13 = .ok (.getfield 22, 3) := dk_180 0 22 (dk_at dksX4_weighed_0 13 rfl rfl)
theorem dX4_weighed_16 : decode cX4_weighed 16 = .ok (.bipush 8, 2) := dk_16 8 (dk_at dksX4_weighed_0 16 rfl rfl)
theorem dX4_weighed_18 : decode cX4_weighed 18 = .ok (.iload_n 1, 1) := dk_27 (dk_at dksX4_weighed_0 18 rfl rfl)
theorem dX4_weighed_19 : decode cX4_weighed 19 = .ok (.imul, 1) := dk_104 (dk_at dksX4_weighed_0 19 rfl rfl)
theorem dX4_weighed_20 : decode cX4_weighed 20 = .ok (.iload_n 2, 1) := dk_28 (dk_at dksX4_weighed_0 20 rfl rfl)
theorem dX4_weighed_21 : decode cX4_weighed 21 = .ok (.iadd, 1) := dk_96 (dk_at dksX4_weighed_0 21 rfl rfl)
theorem dX4_weighed_22 : decode cX4_weighed 22 = .ok (.iaload, 1) := dk_46 (dk_at dksX4_weighed_0 22 rfl rfl)
theorem dX4_weighed_23 : decode cX4_weighed 23 = .ok (.i2l, 1) := dk_133 (dk_at dksX4_weighed_0 23 rfl rfl)
theorem dX4_weighed_24 : decode cX4_weighed 24 = .ok (.lreturn, 1) := dk_173 (dk_at dksX4_weighed_1 0 rfl rfl)
abbrev cX4_carries : ByteArray := prog_23_method_34_code
def yX4_carries : MethodName := ⟨RX4, "carries", "(II)V"⟩
def dkwX4_carries_8 : List UInt8 := [180, 0, 66, 21, 4, 22, 17, 22, 19, 109, 80, 177]
abbrev dktX4_carries_8 : List UInt8 := dkwX4_carries_8 ++ []
def dkwX4_carries_7 : List UInt8 := [22, 15, 22, 17, 184, 0, 189, 55, 19, 42, 180, 0, 63, 21, 4, 22, 15, 22, 19, 109, 80, 42]
abbrev dktX4_carries_7 : List UInt8 := dkwX4_carries_7 ++ dktX4_carries_8
def dkwX4_carries_6 : List UInt8 := [182, 0, 205, 154, 0, 20, 42, 180, 0, 47, 29, 22, 9, 80, 42, 180, 0, 51, 29, 22, 11, 80, 177]
abbrev dktX4_carries_6 : List UInt8 := dkwX4_carries_6 ++ dktX4_carries_7
def dkwX4_carries_5 : List UInt8 := [22, 13, 42, 180, 0, 51, 29, 47, 105, 101, 55, 15, 42, 180, 0, 51, 29, 47, 55, 17, 42, 27, 22, 13]
abbrev dktX4_carries_5 : List UInt8 := dkwX4_carries_5 ++ dktX4_carries_6
def dkwX4_carries_4 : List UInt8 := [42, 180, 0, 47, 29, 47, 42, 180, 0, 51, 29, 47, 184, 0, 183, 55, 13, 42, 180, 0, 47, 29, 47]
abbrev dktX4_carries_4 : List UInt8 := dkwX4_carries_4 ++ dktX4_carries_5
def dkwX4_carries_3 : List UInt8 := [47, 55, 9, 42, 180, 0, 51, 29, 47, 55, 11, 42, 27, 22, 5, 22, 7, 182, 0, 201, 154, 0, 4, 177]
abbrev dktX4_carries_3 : List UInt8 := dkwX4_carries_3 ++ dktX4_carries_4
def dkwX4_carries_2 : List UInt8 := [97, 55, 5, 42, 180, 0, 66, 21, 4, 47, 42, 180, 0, 51, 29, 47, 105, 55, 7, 42, 180, 0, 47, 29]
abbrev dktX4_carries_2 : List UInt8 := dkwX4_carries_2 ++ dktX4_carries_3
def dkwX4_carries_1 : List UInt8 := [21, 4, 47, 42, 180, 0, 51, 29, 47, 105, 42, 180, 0, 47, 29, 47, 42, 180, 0, 66, 21, 4, 47, 105]
abbrev dktX4_carries_1 : List UInt8 := dkwX4_carries_1 ++ dktX4_carries_2
def dkwX4_carries_0 : List UInt8 := [16, 8, 42, 180, 0, 146, 104, 27, 96, 62, 7, 42, 180, 0, 146, 104, 28, 96, 54, 4, 42, 180, 0, 63]
abbrev dktX4_carries_0 : List UInt8 := dkwX4_carries_0 ++ dktX4_carries_1
theorem dksX4_carries_0 : cX4_carries.data.toList.drop 0 = dktX4_carries_0 := by decide +kernel
theorem dksX4_carries_1 : cX4_carries.data.toList.drop 24 = dktX4_carries_1 := dk_seg dksX4_carries_0 24 rfl rfl
theorem dksX4_carries_2 : cX4_carries.data.toList.drop 48 = dktX4_carries_2 := dk_seg dksX4_carries_1 24 rfl rfl
theorem dksX4_carries_3 : cX4_carries.data.toList.drop 72 = dktX4_carries_3 := dk_seg dksX4_carries_2 24 rfl rfl
theorem dksX4_carries_4 : cX4_carries.data.toList.drop 96 = dktX4_carries_4 := dk_seg dksX4_carries_3 24 rfl rfl
theorem dksX4_carries_5 : cX4_carries.data.toList.drop 119 = dktX4_carries_5 := dk_seg dksX4_carries_4 23 rfl rfl
theorem dksX4_carries_6 : cX4_carries.data.toList.drop 143 = dktX4_carries_6 := dk_seg dksX4_carries_5 24 rfl rfl
theorem dksX4_carries_7 : cX4_carries.data.toList.drop 166 = dktX4_carries_7 := dk_seg dksX4_carries_6 23 rfl rfl
theorem dksX4_carries_8 : cX4_carries.data.toList.drop 188 = dktX4_carries_8 := dk_seg dksX4_carries_7 22 rfl rfl
theorem dX4_carries_0 : decode cX4_carries 0 = .ok (.bipush 8, 2) := dk_16 8 (dk_at dksX4_carries_0 0 rfl rfl)
theorem dX4_carries_2 : decode cX4_carries 2 = .ok (.aload_n 0, 1) := dk_42 (dk_at dksX4_carries_0 2 rfl rfl)
theorem dX4_carries_3 : decode cX4_carries 3 = .ok (.getfield 146, 3) := dk_180 0 146 (dk_at dksX4_carries_0 3 rfl rfl)
theorem dX4_carries_6 : decode cX4_carries 6 = .ok (.imul, 1) := dk_104 (dk_at dksX4_carries_0 6 rfl rfl)
theorem dX4_carries_7 : decode cX4_carries 7 = .ok (.iload_n 1, 1) := dk_27 (dk_at dksX4_carries_0 7 rfl rfl)
theorem dX4_carries_8 : decode cX4_carries 8 = .ok (.iadd, 1) := dk_96 (dk_at dksX4_carries_0 8 rfl rfl)
theorem dX4_carries_9 : decode cX4_carries 9 = .ok (.istore_n 3, 1) := dk_62 (dk_at dksX4_carries_0 9 rfl rfl)
theorem dX4_carries_10 : decode cX4_carries 10 = .ok (.iconst 4, 1) := dk_7 (dk_at dksX4_carries_0 10 rfl rfl)
theorem dX4_carries_11 : decode cX4_carries 11 = .ok (.aload_n 0, 1) := dk_42 (dk_at dksX4_carries_0 11 rfl rfl)
theorem dX4_carries_12 : decode cX4_carries 12 = .ok (.getfield 146, 3) := dk_180 0 146 (dk_at dksX4_carries_0 12 rfl rfl)
theorem dX4_carries_15 : decode cX4_carries 15 = .ok (.imul, 1) := dk_104 (dk_at dksX4_carries_0 15 rfl rfl)
theorem dX4_carries_16 : decode cX4_carries 16 = .ok (.iload_n 2, 1) := dk_28 (dk_at dksX4_carries_0 16 rfl rfl)
theorem dX4_carries_17 : decode cX4_carries 17 = .ok (.iadd, 1) := dk_96 (dk_at dksX4_carries_0 17 rfl rfl)
theorem dX4_carries_18 : decode cX4_carries 18 = .ok (.istore 4, 2) := dk_54 4 (dk_at dksX4_carries_0 18 rfl rfl)
theorem dX4_carries_20 : decode cX4_carries 20 = .ok (.aload_n 0, 1) := dk_42 (dk_at dksX4_carries_0 20 rfl rfl)
theorem dX4_carries_21 : decode cX4_carries 21 = .ok (.getfield 63, 3) := dk_180 0 63 (dk_at dksX4_carries_0 21 rfl rfl)
theorem dX4_carries_24 : decode cX4_carries 24 = .ok (.iload 4, 2) := dk_21 4 (dk_at dksX4_carries_1 0 rfl rfl)
theorem dX4_carries_26 : decode cX4_carries 26 = .ok (.laload, 1) := dk_47 (dk_at dksX4_carries_1 2 rfl rfl)
theorem dX4_carries_27 : decode cX4_carries 27 = .ok (.aload_n 0, 1) := dk_42 (dk_at dksX4_carries_1 3 rfl rfl)
theorem dX4_carries_28 : decode cX4_carries 28 = .ok (.getfield 51, 3) := dk_180 0 51 (dk_at dksX4_carries_1 4 rfl rfl)
theorem dX4_carries_31 : decode cX4_carries 31 = .ok (.iload_n 3, 1) := dk_29 (dk_at dksX4_carries_1 7 rfl rfl)
theorem dX4_carries_32 : decode cX4_carries 32 = .ok (.laload, 1) := dk_47 (dk_at dksX4_carries_1 8 rfl rfl)
theorem dX4_carries_33 : decode cX4_carries 33 = .ok (.lmul, 1) := dk_105 (dk_at dksX4_carries_1 9 rfl rfl)
theorem dX4_carries_34 : decode cX4_carries 34 = .ok (.aload_n 0, 1) := dk_42 (dk_at dksX4_carries_1 10 rfl rfl)
theorem dX4_carries_35 : decode cX4_carries 35 = .ok (.getfield 47, 3) := dk_180 0 47 (dk_at dksX4_carries_1 11 rfl rfl)
theorem dX4_carries_38 : decode cX4_carries 38 = .ok (.iload_n 3, 1) := dk_29 (dk_at dksX4_carries_1 14 rfl rfl)
theorem dX4_carries_39 : decode cX4_carries 39 = .ok (.laload, 1) := dk_47 (dk_at dksX4_carries_1 15 rfl rfl)
theorem dX4_carries_40 : decode cX4_carries 40 = .ok (.aload_n 0, 1) := dk_42 (dk_at dksX4_carries_1 16 rfl rfl)
theorem dX4_carries_41 : decode cX4_carries 41 = .ok (.getfield 66, 3) := dk_180 0 66 (dk_at dksX4_carries_1 17 rfl rfl)
theorem dX4_carries_44 : decode cX4_carries 44 = .ok (.iload 4, 2) := dk_21 4 (dk_at dksX4_carries_1 20 rfl rfl)
theorem dX4_carries_46 : decode cX4_carries 46 = .ok (.laload, 1) := dk_47 (dk_at dksX4_carries_1 22 rfl rfl)
theorem dX4_carries_47 : decode cX4_carries 47 = .ok (.lmul, 1) := dk_105 (dk_at dksX4_carries_1 23 rfl rfl)
theorem dX4_carries_48 : decode cX4_carries 48 = .ok (.ladd, 1) := dk_97 (dk_at dksX4_carries_2 0 rfl rfl)
theorem dX4_carries_49 : decode cX4_carries 49 = .ok (.lstore 5, 2) := dk_55 5 (dk_at dksX4_carries_2 1 rfl rfl)
theorem dX4_carries_51 : decode cX4_carries 51 = .ok (.aload_n 0, 1) := dk_42 (dk_at dksX4_carries_2 3 rfl rfl)
theorem dX4_carries_52 : decode cX4_carries 52 = .ok (.getfield 66, 3) := dk_180 0 66 (dk_at dksX4_carries_2 4 rfl rfl)
theorem dX4_carries_55 : decode cX4_carries 55 = .ok (.iload 4, 2) := dk_21 4 (dk_at dksX4_carries_2 7 rfl rfl)
theorem dX4_carries_57 : decode cX4_carries 57 = .ok (.laload, 1) := dk_47 (dk_at dksX4_carries_2 9 rfl rfl)
theorem dX4_carries_58 : decode cX4_carries 58 = .ok (.aload_n 0, 1) := dk_42 (dk_at dksX4_carries_2 10 rfl rfl)
theorem dX4_carries_59 : decode cX4_carries 59 = .ok (.getfield 51, 3) := dk_180 0 51 (dk_at dksX4_carries_2 11 rfl rfl)
theorem dX4_carries_62 : decode cX4_carries 62 = .ok (.iload_n 3, 1) := dk_29 (dk_at dksX4_carries_2 14 rfl rfl)
theorem dX4_carries_63 : decode cX4_carries 63 = .ok (.laload, 1) := dk_47 (dk_at dksX4_carries_2 15 rfl rfl)
theorem dX4_carries_64 : decode cX4_carries 64 = .ok (.lmul, 1) := dk_105 (dk_at dksX4_carries_2 16 rfl rfl)
theorem dX4_carries_65 : decode cX4_carries 65 = .ok (.lstore 7, 2) := dk_55 7 (dk_at dksX4_carries_2 17 rfl rfl)
theorem dX4_carries_67 : decode cX4_carries 67 = .ok (.aload_n 0, 1) := dk_42 (dk_at dksX4_carries_2 19 rfl rfl)
theorem dX4_carries_68 : decode cX4_carries 68 = .ok (.getfield 47, 3) := dk_180 0 47 (dk_at dksX4_carries_2 20 rfl rfl)
theorem dX4_carries_71 : decode cX4_carries 71 = .ok (.iload_n 3, 1) := dk_29 (dk_at dksX4_carries_2 23 rfl rfl)
theorem dX4_carries_72 : decode cX4_carries 72 = .ok (.laload, 1) := dk_47 (dk_at dksX4_carries_3 0 rfl rfl)
theorem dX4_carries_73 : decode cX4_carries 73 = .ok (.lstore 9, 2) := dk_55 9 (dk_at dksX4_carries_3 1 rfl rfl)
theorem dX4_carries_75 : decode cX4_carries 75 = .ok (.aload_n 0, 1) := dk_42 (dk_at dksX4_carries_3 3 rfl rfl)
theorem dX4_carries_76 : decode cX4_carries 76 = .ok (.getfield 51, 3) := dk_180 0 51 (dk_at dksX4_carries_3 4 rfl rfl)
theorem dX4_carries_79 : decode cX4_carries 79 = .ok (.iload_n 3, 1) := dk_29 (dk_at dksX4_carries_3 7 rfl rfl)
theorem dX4_carries_80 : decode cX4_carries 80 = .ok (.laload, 1) := dk_47 (dk_at dksX4_carries_3 8 rfl rfl)
theorem dX4_carries_81 : decode cX4_carries 81 = .ok (.lstore 11, 2) := dk_55 11 (dk_at dksX4_carries_3 9 rfl rfl)
theorem dX4_carries_83 : decode cX4_carries 83 = .ok (.aload_n 0, 1) := dk_42 (dk_at dksX4_carries_3 11 rfl rfl)
theorem dX4_carries_84 : decode cX4_carries 84 = .ok (.iload_n 1, 1) := dk_27 (dk_at dksX4_carries_3 12 rfl rfl)
theorem dX4_carries_85 : decode cX4_carries 85 = .ok (.lload 5, 2) := dk_22 5 (dk_at dksX4_carries_3 13 rfl rfl)
theorem dX4_carries_87 : decode cX4_carries 87 = .ok (.lload 7, 2) := dk_22 7 (dk_at dksX4_carries_3 15 rfl rfl)
theorem dX4_carries_89 : decode cX4_carries 89 = .ok (.invokevirtual 201, 3) := dk_182 0 201 (dk_at dksX4_carries_3 17 rfl rfl)
theorem dX4_carries_92 : decode cX4_carries 92 = .ok (.ifCond .ne 4, 3) := dk_154 0 4 (dk_at dksX4_carries_3 20 rfl rfl)
theorem dX4_carries_95 : decode cX4_carries 95 = .ok (.return_, 1) := dk_177 (dk_at dksX4_carries_3 23 rfl rfl)
theorem dX4_carries_96 : decode cX4_carries 96 = .ok (.aload_n 0, 1) := dk_42 (dk_at dksX4_carries_4 0 rfl rfl)
theorem dX4_carries_97 : decode cX4_carries 97 = .ok (.getfield 47, 3) := dk_180 0 47 (dk_at dksX4_carries_4 1 rfl rfl)
theorem dX4_carries_100 : decode cX4_carries 100 = .ok (.iload_n 3, 1) := dk_29 (dk_at dksX4_carries_4 4 rfl rfl)
theorem dX4_carries_101 : decode cX4_carries 101 = .ok (.laload, 1) := dk_47 (dk_at dksX4_carries_4 5 rfl rfl)
theorem dX4_carries_102 : decode cX4_carries 102 = .ok (.aload_n 0, 1) := dk_42 (dk_at dksX4_carries_4 6 rfl rfl)
theorem dX4_carries_103 : decode cX4_carries 103 = .ok (.getfield 51, 3) := dk_180 0 51 (dk_at dksX4_carries_4 7 rfl rfl)
theorem dX4_carries_106 : decode cX4_carries 106 = .ok (.iload_n 3, 1) := dk_29 (dk_at dksX4_carries_4 10 rfl rfl)
theorem dX4_carries_107 : decode cX4_carries 107 = .ok (.laload, 1) := dk_47 (dk_at dksX4_carries_4 11 rfl rfl)
theorem dX4_carries_108 : decode cX4_carries 108 = .ok (.invokestatic 183, 3) := dk_184 0 183 (dk_at dksX4_carries_4 12 rfl rfl)
theorem dX4_carries_111 : decode cX4_carries 111 = .ok (.lstore 13, 2) := dk_55 13 (dk_at dksX4_carries_4 15 rfl rfl)
theorem dX4_carries_113 : decode cX4_carries 113 = .ok (.aload_n 0, 1) := dk_42 (dk_at dksX4_carries_4 17 rfl rfl)
theorem dX4_carries_114 : decode cX4_carries 114 = .ok (.getfield 47, 3) := dk_180 0 47 (dk_at dksX4_carries_4 18 rfl rfl)
theorem dX4_carries_117 : decode cX4_carries 117 = .ok (.iload_n 3, 1) := dk_29 (dk_at dksX4_carries_4 21 rfl rfl)
theorem dX4_carries_118 : decode cX4_carries 118 = .ok (.laload, 1) := dk_47 (dk_at dksX4_carries_4 22 rfl rfl)
theorem dX4_carries_119 : decode cX4_carries 119 = .ok (.lload 13, 2) := dk_22 13 (dk_at dksX4_carries_5 0 rfl rfl)
theorem dX4_carries_121 : decode cX4_carries 121 = .ok (.aload_n 0, 1) := dk_42 (dk_at dksX4_carries_5 2 rfl rfl)
theorem dX4_carries_122 : decode cX4_carries 122 = .ok (.getfield 51, 3) := dk_180 0 51 (dk_at dksX4_carries_5 3 rfl rfl)
theorem dX4_carries_125 : decode cX4_carries 125 = .ok (.iload_n 3, 1) := dk_29 (dk_at dksX4_carries_5 6 rfl rfl)
theorem dX4_carries_126 : decode cX4_carries 126 = .ok (.laload, 1) := dk_47 (dk_at dksX4_carries_5 7 rfl rfl)
theorem dX4_carries_127 : decode cX4_carries 127 = .ok (.lmul, 1) := dk_105 (dk_at dksX4_carries_5 8 rfl rfl)
theorem dX4_carries_128 : decode cX4_carries 128 = .ok (.lsub, 1) := dk_101 (dk_at dksX4_carries_5 9 rfl rfl)
theorem dX4_carries_129 : decode cX4_carries 129 = .ok (.lstore 15, 2) := dk_55 15 (dk_at dksX4_carries_5 10 rfl rfl)
theorem dX4_carries_131 : decode cX4_carries 131 = .ok (.aload_n 0, 1) := dk_42 (dk_at dksX4_carries_5 12 rfl rfl)
theorem dX4_carries_132 : decode cX4_carries 132 = .ok (.getfield 51, 3) := dk_180 0 51 (dk_at dksX4_carries_5 13 rfl rfl)
theorem dX4_carries_135 : decode cX4_carries 135 = .ok (.iload_n 3, 1) := dk_29 (dk_at dksX4_carries_5 16 rfl rfl)
theorem dX4_carries_136 : decode cX4_carries 136 = .ok (.laload, 1) := dk_47 (dk_at dksX4_carries_5 17 rfl rfl)
theorem dX4_carries_137 : decode cX4_carries 137 = .ok (.lstore 17, 2) := dk_55 17 (dk_at dksX4_carries_5 18 rfl rfl)
theorem dX4_carries_139 : decode cX4_carries 139 = .ok (.aload_n 0, 1) := dk_42 (dk_at dksX4_carries_5 20 rfl rfl)
theorem dX4_carries_140 : decode cX4_carries 140 = .ok (.iload_n 1, 1) := dk_27 (dk_at dksX4_carries_5 21 rfl rfl)
theorem dX4_carries_141 : decode cX4_carries 141 = .ok (.lload 13, 2) := dk_22 13 (dk_at dksX4_carries_5 22 rfl rfl)
theorem dX4_carries_143 : decode cX4_carries 143 = .ok (.invokevirtual 205, 3) := dk_182 0 205 (dk_at dksX4_carries_6 0 rfl rfl)
theorem dX4_carries_146 : decode cX4_carries 146 = .ok (.ifCond .ne 20, 3) := dk_154 0 20 (dk_at dksX4_carries_6 3 rfl rfl)
theorem dX4_carries_149 : decode cX4_carries 149 = .ok (.aload_n 0, 1) := dk_42 (dk_at dksX4_carries_6 6 rfl rfl)
theorem dX4_carries_150 : decode cX4_carries 150 = .ok (.getfield 47, 3) := dk_180 0 47 (dk_at dksX4_carries_6 7 rfl rfl)
theorem dX4_carries_153 : decode cX4_carries 153 = .ok (.iload_n 3, 1) := dk_29 (dk_at dksX4_carries_6 10 rfl rfl)
theorem dX4_carries_154 : decode cX4_carries 154 = .ok (.lload 9, 2) := dk_22 9 (dk_at dksX4_carries_6 11 rfl rfl)
theorem dX4_carries_156 : decode cX4_carries 156 = .ok (.lastore, 1) := dk_80 (dk_at dksX4_carries_6 13 rfl rfl)
theorem dX4_carries_157 : decode cX4_carries 157 = .ok (.aload_n 0, 1) := dk_42 (dk_at dksX4_carries_6 14 rfl rfl)
theorem dX4_carries_158 : decode cX4_carries 158 = .ok (.getfield 51, 3) := dk_180 0 51 (dk_at dksX4_carries_6 15 rfl rfl)
theorem dX4_carries_161 : decode cX4_carries 161 = .ok (.iload_n 3, 1) := dk_29 (dk_at dksX4_carries_6 18 rfl rfl)
theorem dX4_carries_162 : decode cX4_carries 162 = .ok (.lload 11, 2) := dk_22 11 (dk_at dksX4_carries_6 19 rfl rfl)
theorem dX4_carries_164 : decode cX4_carries 164 = .ok (.lastore, 1) := dk_80 (dk_at dksX4_carries_6 21 rfl rfl)
theorem dX4_carries_165 : decode cX4_carries 165 = .ok (.return_, 1) := dk_177 (dk_at dksX4_carries_6 22 rfl rfl)
theorem dX4_carries_166 : decode cX4_carries 166 = .ok (.lload 15, 2) := dk_22 15 (dk_at dksX4_carries_7 0 rfl rfl)
theorem dX4_carries_168 : decode cX4_carries 168 = .ok (.lload 17, 2) := dk_22 17 (dk_at dksX4_carries_7 2 rfl rfl)
theorem dX4_carries_170 : decode cX4_carries 170 = .ok (.invokestatic 189, 3) := dk_184 0 189 (dk_at dksX4_carries_7 4 rfl rfl)
theorem dX4_carries_173 : decode cX4_carries 173 = .ok (.lstore 19, 2) := dk_55 19 (dk_at dksX4_carries_7 7 rfl rfl)
theorem dX4_carries_175 : decode cX4_carries 175 = .ok (.aload_n 0, 1) := dk_42 (dk_at dksX4_carries_7 9 rfl rfl)
theorem dX4_carries_176 : decode cX4_carries 176 = .ok (.getfield 63, 3) := dk_180 0 63 (dk_at dksX4_carries_7 10 rfl rfl)
theorem dX4_carries_179 : decode cX4_carries 179 = .ok (.iload 4, 2) := dk_21 4 (dk_at dksX4_carries_7 13 rfl rfl)
theorem dX4_carries_181 : decode cX4_carries 181 = .ok (.lload 15, 2) := dk_22 15 (dk_at dksX4_carries_7 15 rfl rfl)
theorem dX4_carries_183 : decode cX4_carries 183 = .ok (.lload 19, 2) := dk_22 19 (dk_at dksX4_carries_7 17 rfl rfl)
theorem dX4_carries_185 : decode cX4_carries 185 = .ok (.ldiv, 1) := dk_109 (dk_at dksX4_carries_7 19 rfl rfl)
theorem dX4_carries_186 : decode cX4_carries 186 = .ok (.lastore, 1) := dk_80 (dk_at dksX4_carries_7 20 rfl rfl)
theorem dX4_carries_187 : decode cX4_carries 187 = .ok (.aload_n 0, 1) := dk_42 (dk_at dksX4_carries_7 21 rfl rfl)
theorem dX4_carries_188 : decode cX4_carries 188 = .ok (.getfield 66, 3) := dk_180 0 66 (dk_at dksX4_carries_8 0 rfl rfl)
theorem dX4_carries_191 : decode cX4_carries 191 = .ok (.iload 4, 2) := dk_21 4 (dk_at dksX4_carries_8 3 rfl rfl)
theorem dX4_carries_193 : decode cX4_carries 193 = .ok (.lload 17, 2) := dk_22 17 (dk_at dksX4_carries_8 5 rfl rfl)
theorem dX4_carries_195 : decode cX4_carries 195 = .ok (.lload 19, 2) := dk_22 19 (dk_at dksX4_carries_8 7 rfl rfl)
theorem dX4_carries_197 : decode cX4_carries 197 = .ok (.ldiv, 1) := dk_109 (dk_at dksX4_carries_8 9 rfl rfl)
theorem dX4_carries_198 : decode cX4_carries 198 = .ok (.lastore, 1) := dk_80 (dk_at dksX4_carries_8 10 rfl rfl)
theorem dX4_carries_199 : decode cX4_carries 199 = .ok (.return_, 1) := dk_177 (dk_at dksX4_carries_8 11 rfl rfl)
abbrev cX4_caps : ByteArray := prog_23_method_36_code
def yX4_caps : MethodName := ⟨RX4, "caps", "(IIJ)V"⟩
def dkwX4_caps_3 : List UInt8 := [21, 6, 153, 0, 19, 42, 180, 0, 47, 21, 5, 33, 80, 42, 180, 0, 51, 21, 5, 10, 80, 177]
abbrev dktX4_caps_3 : List UInt8 := dkwX4_caps_3 ++ []
def dkwX4_caps_2 : List UInt8 := [21, 5, 47, 33, 42, 180, 0, 51, 21, 5, 47, 105, 148, 156, 0, 7, 4, 167, 0, 4, 3, 54, 6]
abbrev dktX4_caps_2 : List UInt8 := dkwX4_caps_2 ++ dktX4_caps_3
def dkwX4_caps_1 : List UInt8 := [180, 0, 51, 21, 5, 47, 105, 148, 158, 0, 7, 4, 167, 0, 32, 3, 167, 0, 28, 42, 180, 0, 47]
abbrev dktX4_caps_1 : List UInt8 := dkwX4_caps_1 ++ dktX4_caps_2
def dkwX4_caps_0 : List UInt8 := [16, 8, 42, 180, 0, 146, 104, 27, 96, 54, 5, 28, 154, 0, 31, 42, 180, 0, 47, 21, 5, 47, 33, 42]
abbrev dktX4_caps_0 : List UInt8 := dkwX4_caps_0 ++ dktX4_caps_1
theorem dksX4_caps_0 : cX4_caps.data.toList.drop 0 = dktX4_caps_0 := by decide +kernel
theorem dksX4_caps_1 : cX4_caps.data.toList.drop 24 = dktX4_caps_1 := dk_seg dksX4_caps_0 24 rfl rfl
theorem dksX4_caps_2 : cX4_caps.data.toList.drop 47 = dktX4_caps_2 := dk_seg dksX4_caps_1 23 rfl rfl
theorem dksX4_caps_3 : cX4_caps.data.toList.drop 70 = dktX4_caps_3 := dk_seg dksX4_caps_2 23 rfl rfl
theorem dX4_caps_0 : decode cX4_caps 0 = .ok (.bipush 8, 2) := dk_16 8 (dk_at dksX4_caps_0 0 rfl rfl)
theorem dX4_caps_2 : decode cX4_caps 2 = .ok (.aload_n 0, 1) := dk_42 (dk_at dksX4_caps_0 2 rfl rfl)
theorem dX4_caps_3 : decode cX4_caps 3 = .ok (.getfield 146, 3) := dk_180 0 146 (dk_at dksX4_caps_0 3 rfl rfl)
theorem dX4_caps_6 : decode cX4_caps 6 = .ok (.imul, 1) := dk_104 (dk_at dksX4_caps_0 6 rfl rfl)
theorem dX4_caps_7 : decode cX4_caps 7 = .ok (.iload_n 1, 1) := dk_27 (dk_at dksX4_caps_0 7 rfl rfl)
theorem dX4_caps_8 : decode cX4_caps 8 = .ok (.iadd, 1) := dk_96 (dk_at dksX4_caps_0 8 rfl rfl)
theorem dX4_caps_9 : decode cX4_caps 9 = .ok (.istore 5, 2) := dk_54 5 (dk_at dksX4_caps_0 9 rfl rfl)
theorem dX4_caps_11 : decode cX4_caps 11 = .ok (.iload_n 2, 1) := dk_28 (dk_at dksX4_caps_0 11 rfl rfl)
theorem dX4_caps_12 : decode cX4_caps 12 = .ok (.ifCond .ne 31, 3) := dk_154 0 31 (dk_at dksX4_caps_0 12 rfl rfl)
theorem dX4_caps_15 : decode cX4_caps 15 = .ok (.aload_n 0, 1) := dk_42 (dk_at dksX4_caps_0 15 rfl rfl)
theorem dX4_caps_16 : decode cX4_caps 16 = .ok (.getfield 47, 3) := dk_180 0 47 (dk_at dksX4_caps_0 16 rfl rfl)
theorem dX4_caps_19 : decode cX4_caps 19 = .ok (.iload 5, 2) := dk_21 5 (dk_at dksX4_caps_0 19 rfl rfl)
theorem dX4_caps_21 : decode cX4_caps 21 = .ok (.laload, 1) := dk_47 (dk_at dksX4_caps_0 21 rfl rfl)
theorem dX4_caps_22 : decode cX4_caps 22 = .ok (.lload_n 3, 1) := dk_33 (dk_at dksX4_caps_0 22 rfl rfl)
theorem dX4_caps_23 : decode cX4_caps 23 = .ok (.aload_n 0, 1) := dk_42 (dk_at dksX4_caps_0 23 rfl rfl)
theorem dX4_caps_24 : decode cX4_caps 24 = .ok (.getfield 51, 3) := dk_180 0 51 (dk_at dksX4_caps_1 0 rfl rfl)
theorem dX4_caps_27 : decode cX4_caps 27 = .ok (.iload 5, 2) := dk_21 5 (dk_at dksX4_caps_1 3 rfl rfl)
theorem dX4_caps_29 : decode cX4_caps 29 = .ok (.laload, 1) := dk_47 (dk_at dksX4_caps_1 5 rfl rfl)
theorem dX4_caps_30 : decode cX4_caps 30 = .ok (.lmul, 1) := dk_105 (dk_at dksX4_caps_1 6 rfl rfl)
theorem dX4_caps_31 : decode cX4_caps 31 = .ok (.lcmp, 1) := dk_148 (dk_at dksX4_caps_1 7 rfl rfl)
theorem dX4_caps_32 : decode cX4_caps 32 = .ok (.ifCond .le 7, 3) := dk_158 0 7 (dk_at dksX4_caps_1 8 rfl rfl)
theorem dX4_caps_35 : decode cX4_caps 35 = .ok (.iconst 1, 1) := dk_4 (dk_at dksX4_caps_1 11 rfl rfl)
theorem dX4_caps_36 : decode cX4_caps 36 = .ok (.goto 32, 3) := dk_167 0 32 (dk_at dksX4_caps_1 12 rfl rfl)
theorem dX4_caps_39 : decode cX4_caps 39 = .ok (.iconst 0, 1) := dk_3 (dk_at dksX4_caps_1 15 rfl rfl)
theorem dX4_caps_40 : decode cX4_caps 40 = .ok (.goto 28, 3) := dk_167 0 28 (dk_at dksX4_caps_1 16 rfl rfl)
theorem dX4_caps_43 : decode cX4_caps 43 = .ok (.aload_n 0, 1) := dk_42 (dk_at dksX4_caps_1 19 rfl rfl)
theorem dX4_caps_44 : decode cX4_caps 44 = .ok (.getfield 47, 3) := dk_180 0 47 (dk_at dksX4_caps_1 20 rfl rfl)
theorem dX4_caps_47 : decode cX4_caps 47 = .ok (.iload 5, 2) := dk_21 5 (dk_at dksX4_caps_2 0 rfl rfl)
theorem dX4_caps_49 : decode cX4_caps 49 = .ok (.laload, 1) := dk_47 (dk_at dksX4_caps_2 2 rfl rfl)
theorem dX4_caps_50 : decode cX4_caps 50 = .ok (.lload_n 3, 1) := dk_33 (dk_at dksX4_caps_2 3 rfl rfl)
theorem dX4_caps_51 : decode cX4_caps 51 = .ok (.aload_n 0, 1) := dk_42 (dk_at dksX4_caps_2 4 rfl rfl)
theorem dX4_caps_52 : decode cX4_caps 52 = .ok (.getfield 51, 3) := dk_180 0 51 (dk_at dksX4_caps_2 5 rfl rfl)
theorem dX4_caps_55 : decode cX4_caps 55 = .ok (.iload 5, 2) := dk_21 5 (dk_at dksX4_caps_2 8 rfl rfl)
theorem dX4_caps_57 : decode cX4_caps 57 = .ok (.laload, 1) := dk_47 (dk_at dksX4_caps_2 10 rfl rfl)
theorem dX4_caps_58 : decode cX4_caps 58 = .ok (.lmul, 1) := dk_105 (dk_at dksX4_caps_2 11 rfl rfl)
theorem dX4_caps_59 : decode cX4_caps 59 = .ok (.lcmp, 1) := dk_148 (dk_at dksX4_caps_2 12 rfl rfl)
theorem dX4_caps_60 : decode cX4_caps 60 = .ok (.ifCond .ge 7, 3) := dk_156 0 7 (dk_at dksX4_caps_2 13 rfl rfl)
theorem dX4_caps_63 : decode cX4_caps 63 = .ok (.iconst 1, 1) := dk_4 (dk_at dksX4_caps_2 16 rfl rfl)
theorem dX4_caps_64 : decode cX4_caps 64 = .ok (.goto 4, 3) := dk_167 0 4 (dk_at dksX4_caps_2 17 rfl rfl)
theorem dX4_caps_67 : decode cX4_caps 67 = .ok (.iconst 0, 1) := dk_3 (dk_at dksX4_caps_2 20 rfl rfl)
theorem dX4_caps_68 : decode cX4_caps 68 = .ok (.istore 6, 2) := dk_54 6 (dk_at dksX4_caps_2 21 rfl rfl)
theorem dX4_caps_70 : decode cX4_caps 70 = .ok (.iload 6, 2) := dk_21 6 (dk_at dksX4_caps_3 0 rfl rfl)
theorem dX4_caps_72 : decode cX4_caps 72 = .ok (.ifCond .eq 19, 3) := dk_153 0 19 (dk_at dksX4_caps_3 2 rfl rfl)
theorem dX4_caps_75 : decode cX4_caps 75 = .ok (.aload_n 0, 1) := dk_42 (dk_at dksX4_caps_3 5 rfl rfl)
theorem dX4_caps_76 : decode cX4_caps 76 = .ok (.getfield 47, 3) := dk_180 0 47 (dk_at dksX4_caps_3 6 rfl rfl)
theorem dX4_caps_79 : decode cX4_caps 79 = .ok (.iload 5, 2) := dk_21 5 (dk_at dksX4_caps_3 9 rfl rfl)
theorem dX4_caps_81 : decode cX4_caps 81 = .ok (.lload_n 3, 1) := dk_33 (dk_at dksX4_caps_3 11 rfl rfl)
theorem dX4_caps_82 : decode cX4_caps 82 = .ok (.lastore, 1) := dk_80 (dk_at dksX4_caps_3 12 rfl rfl)
theorem dX4_caps_83 : decode cX4_caps 83 = .ok (.aload_n 0, 1) := dk_42 (dk_at dksX4_caps_3 13 rfl rfl)
theorem dX4_caps_84 : decode cX4_caps 84 = .ok (.getfield 51, 3) := dk_180 0 51 (dk_at dksX4_caps_3 14 rfl rfl)
theorem dX4_caps_87 : decode cX4_caps 87 = .ok (.iload 5, 2) := dk_21 5 (dk_at dksX4_caps_3 17 rfl rfl)
theorem dX4_caps_89 : decode cX4_caps 89 = .ok (.lconst 1, 1) := dk_10 (dk_at dksX4_caps_3 19 rfl rfl)
theorem dX4_caps_90 : decode cX4_caps 90 = .ok (.lastore, 1) := dk_80 (dk_at dksX4_caps_3 20 rfl rfl)
theorem dX4_caps_91 : decode cX4_caps 91 = .ok (.return_, 1) := dk_177 (dk_at dksX4_caps_3 21 rfl rfl)
abbrev cX4_books : ByteArray := prog_23_method_35_code
def yX4_books : MethodName := ⟨RX4, "books", "(III)V"⟩
def dkwX4_books_3 : List UInt8 := [89, 180, 0, 235, 42, 180, 0, 69, 21, 4, 51, 153, 0, 7, 4, 167, 0, 4, 3, 96, 181, 0, 235, 177]
abbrev dktX4_books_3 : List UInt8 := dkwX4_books_3 ++ []
def dkwX4_books_2 : List UInt8 := [154, 0, 13, 42, 180, 0, 47, 21, 4, 47, 167, 0, 11, 42, 180, 0, 47, 21, 4, 47, 117, 97, 80, 42]
abbrev dktX4_books_2 : List UInt8 := dkwX4_books_2 ++ dktX4_books_3
def dkwX4_books_1 : List UInt8 := [16, 251, 181, 0, 198, 177, 42, 180, 0, 60, 16, 8, 42, 180, 0, 146, 104, 28, 96, 92, 47, 29]
abbrev dktX4_books_1 : List UInt8 := dkwX4_books_1 ++ dktX4_books_2
def dkwX4_books_0 : List UInt8 := [16, 8, 42, 180, 0, 146, 104, 27, 96, 54, 4, 42, 180, 0, 51, 21, 4, 47, 10, 148, 153, 0, 10, 42]
abbrev dktX4_books_0 : List UInt8 := dkwX4_books_0 ++ dktX4_books_1
theorem dksX4_books_0 : cX4_books.data.toList.drop 0 = dktX4_books_0 := by decide +kernel
theorem dksX4_books_1 : cX4_books.data.toList.drop 24 = dktX4_books_1 := dk_seg dksX4_books_0 24 rfl rfl
theorem dksX4_books_2 : cX4_books.data.toList.drop 46 = dktX4_books_2 := dk_seg dksX4_books_1 22 rfl rfl
theorem dksX4_books_3 : cX4_books.data.toList.drop 70 = dktX4_books_3 := dk_seg dksX4_books_2 24 rfl rfl
theorem dX4_books_0 : decode cX4_books 0 = .ok (.bipush 8, 2) := dk_16 8 (dk_at dksX4_books_0 0 rfl rfl)
theorem dX4_books_2 : decode cX4_books 2 = .ok (.aload_n 0, 1) := dk_42 (dk_at dksX4_books_0 2 rfl rfl)
theorem dX4_books_3 : decode cX4_books 3 = .ok (.getfield 146, 3) := dk_180 0 146 (dk_at dksX4_books_0 3 rfl rfl)
theorem dX4_books_6 : decode cX4_books 6 = .ok (.imul, 1) := dk_104 (dk_at dksX4_books_0 6 rfl rfl)
theorem dX4_books_7 : decode cX4_books 7 = .ok (.iload_n 1, 1) := dk_27 (dk_at dksX4_books_0 7 rfl rfl)
theorem dX4_books_8 : decode cX4_books 8 = .ok (.iadd, 1) := dk_96 (dk_at dksX4_books_0 8 rfl rfl)
theorem dX4_books_9 : decode cX4_books 9 = .ok (.istore 4, 2) := dk_54 4 (dk_at dksX4_books_0 9 rfl rfl)
theorem dX4_books_11 : decode cX4_books 11 = .ok (.aload_n 0, 1) := dk_42 (dk_at dksX4_books_0 11 rfl rfl)
theorem dX4_books_12 : decode cX4_books 12 = .ok (.getfield 51, 3) := dk_180 0 51 (dk_at dksX4_books_0 12 rfl rfl)
theorem dX4_books_15 : decode cX4_books 15 = .ok (.iload 4, 2) := dk_21 4 (dk_at dksX4_books_0 15 rfl rfl)
theorem dX4_books_17 : decode cX4_books 17 = .ok (.laload, 1) := dk_47 (dk_at dksX4_books_0 17 rfl rfl)
theorem dX4_books_18 : decode cX4_books 18 = .ok (.lconst 1, 1) := dk_10 (dk_at dksX4_books_0 18 rfl rfl)
theorem dX4_books_19 : decode cX4_books 19 = .ok (.lcmp, 1) := dk_148 (dk_at dksX4_books_0 19 rfl rfl)
theorem dX4_books_20 : decode cX4_books 20 = .ok (.ifCond .eq 10, 3) := dk_153 0 10 (dk_at dksX4_books_0 20 rfl rfl)
theorem dX4_books_23 : decode cX4_books 23 = .ok (.aload_n 0, 1) := dk_42 (dk_at dksX4_books_0 23 rfl rfl)
theorem dX4_books_24 : decode cX4_books 24 = .ok (.bipush (-5), 2) := dk_16 251 (dk_at dksX4_books_1 0 rfl rfl)
theorem dX4_books_26 : decode cX4_books 26 = .ok (.putfield 198, 3) := dk_181 0 198 (dk_at dksX4_books_1 2 rfl rfl)
theorem dX4_books_29 : decode cX4_books 29 = .ok (.return_, 1) := dk_177 (dk_at dksX4_books_1 5 rfl rfl)
theorem dX4_books_30 : decode cX4_books 30 = .ok (.aload_n 0, 1) := dk_42 (dk_at dksX4_books_1 6 rfl rfl)
theorem dX4_books_31 : decode cX4_books 31 = .ok (.getfield 60, 3) := dk_180 0 60 (dk_at dksX4_books_1 7 rfl rfl)
theorem dX4_books_34 : decode cX4_books 34 = .ok (.bipush 8, 2) := dk_16 8 (dk_at dksX4_books_1 10 rfl rfl)
theorem dX4_books_36 : decode cX4_books 36 = .ok (.aload_n 0, 1) := dk_42 (dk_at dksX4_books_1 12 rfl rfl)
theorem dX4_books_37 : decode cX4_books 37 = .ok (.getfield 146, 3) := dk_180 0 146 (dk_at dksX4_books_1 13 rfl rfl)
theorem dX4_books_40 : decode cX4_books 40 = .ok (.imul, 1) := dk_104 (dk_at dksX4_books_1 16 rfl rfl)
theorem dX4_books_41 : decode cX4_books 41 = .ok (.iload_n 2, 1) := dk_28 (dk_at dksX4_books_1 17 rfl rfl)
theorem dX4_books_42 : decode cX4_books 42 = .ok (.iadd, 1) := dk_96 (dk_at dksX4_books_1 18 rfl rfl)
theorem dX4_books_43 : decode cX4_books 43 = .ok (.dup2, 1) := dk_92 (dk_at dksX4_books_1 19 rfl rfl)
theorem dX4_books_44 : decode cX4_books 44 = .ok (.laload, 1) := dk_47 (dk_at dksX4_books_1 20 rfl rfl)
theorem dX4_books_45 : decode cX4_books 45 = .ok (.iload_n 3, 1) := dk_29 (dk_at dksX4_books_1 21 rfl rfl)
theorem dX4_books_46 : decode cX4_books 46 = .ok (.ifCond .ne 13, 3) := dk_154 0 13 (dk_at dksX4_books_2 0 rfl rfl)
theorem dX4_books_49 : decode cX4_books 49 = .ok (.aload_n 0, 1) := dk_42 (dk_at dksX4_books_2 3 rfl rfl)
theorem dX4_books_50 : decode cX4_books 50 = .ok (.getfield 47, 3) := dk_180 0 47 (dk_at dksX4_books_2 4 rfl rfl)
theorem dX4_books_53 : decode cX4_books 53 = .ok (.iload 4, 2) := dk_21 4 (dk_at dksX4_books_2 7 rfl rfl)
theorem dX4_books_55 : decode cX4_books 55 = .ok (.laload, 1) := dk_47 (dk_at dksX4_books_2 9 rfl rfl)
theorem dX4_books_56 : decode cX4_books 56 = .ok (.goto 11, 3) := dk_167 0 11 (dk_at dksX4_books_2 10 rfl rfl)
theorem dX4_books_59 : decode cX4_books 59 = .ok (.aload_n 0, 1) := dk_42 (dk_at dksX4_books_2 13 rfl rfl)
theorem dX4_books_60 : decode cX4_books 60 = .ok (.getfield 47, 3) := dk_180 0 47 (dk_at dksX4_books_2 14 rfl rfl)
theorem dX4_books_63 : decode cX4_books 63 = .ok (.iload 4, 2) := dk_21 4 (dk_at dksX4_books_2 17 rfl rfl)
theorem dX4_books_65 : decode cX4_books 65 = .ok (.laload, 1) := dk_47 (dk_at dksX4_books_2 19 rfl rfl)
theorem dX4_books_66 : decode cX4_books 66 = .ok (.lneg, 1) := dk_117 (dk_at dksX4_books_2 20 rfl rfl)
theorem dX4_books_67 : decode cX4_books 67 = .ok (.ladd, 1) := dk_97 (dk_at dksX4_books_2 21 rfl rfl)
theorem dX4_books_68 : decode cX4_books 68 = .ok (.lastore, 1) := dk_80 (dk_at dksX4_books_2 22 rfl rfl)
theorem dX4_books_69 : decode cX4_books 69 = .ok (.aload_n 0, 1) := dk_42 (dk_at dksX4_books_2 23 rfl rfl)
theorem dX4_books_70 : decode cX4_books 70 = .ok (.dup, 1) := dk_89 (dk_at dksX4_books_3 0 rfl rfl)
theorem dX4_books_71 : decode cX4_books 71 = .ok (.getfield 235, 3) := dk_180 0 235 (dk_at dksX4_books_3 1 rfl rfl)
theorem dX4_books_74 : decode cX4_books 74 = .ok (.aload_n 0, 1) := dk_42 (dk_at dksX4_books_3 4 rfl rfl)
theorem dX4_books_75 : decode cX4_books 75 = .ok (.getfield 69, 3) := dk_180 0 69 (dk_at dksX4_books_3 5 rfl rfl)
theorem dX4_books_78 : decode cX4_books 78 = .ok (.iload 4, 2) := dk_21 4 (dk_at dksX4_books_3 8 rfl rfl)
theorem dX4_books_80 : decode cX4_books 80 = .ok (.baload, 1) := dk_51 (dk_at dksX4_books_3 10 rfl rfl)
theorem dX4_books_81 : decode cX4_books 81 = .ok (.ifCond .eq 7, 3) := dk_153 0 7 (dk_at dksX4_books_3 11 rfl rfl)
theorem dX4_books_84 : decode cX4_books 84 = .ok (.iconst 1, 1) := dk_4 (dk_at dksX4_books_3 14 rfl rfl)
theorem dX4_books_85 : decode cX4_books 85 = .ok (.goto 4, 3) := dk_167 0 4 (dk_at dksX4_books_3 15 rfl rfl)
theorem dX4_books_88 : decode cX4_books 88 = .ok (.iconst 0, 1) := dk_3 (dk_at dksX4_books_3 18 rfl rfl)
theorem dX4_books_89 : decode cX4_books 89 = .ok (.iadd, 1) := dk_96 (dk_at dksX4_books_3 19 rfl rfl)
theorem dX4_books_90 : decode cX4_books 90 = .ok (.putfield 235, 3) := dk_181 0 235 (dk_at dksX4_books_3 20 rfl rfl)
theorem dX4_books_93 : decode cX4_books 93 = .ok (.return_, 1) := dk_177 (dk_at dksX4_books_3 23 rfl rfl)
abbrev cX4_days : ByteArray := prog_23_method_37_code
def yX4_days : MethodName := ⟨RX4, "days", "(III)V"⟩
def dkwX4_days_4 : List UInt8 := [132, 5, 1, 167, 255, 172, 177]
abbrev dktX4_days_4 : List UInt8 := dkwX4_days_4 ++ []
def dkwX4_days_3 : List UInt8 := [22, 6, 42, 180, 0, 51, 21, 4, 47, 105, 97, 42, 180, 0, 51, 21, 4, 47, 182, 0, 201, 54, 8]
abbrev dktX4_days_3 : List UInt8 := dkwX4_days_3 ++ dktX4_days_4
def dkwX4_days_2 : List UInt8 := [47, 42, 180, 0, 13, 28, 46, 133, 105, 4, 184, 0, 212, 55, 6, 42, 27, 42, 180, 0, 47, 21, 4, 47]
abbrev dktX4_days_2 : List UInt8 := dkwX4_days_2 ++ dktX4_days_3
def dkwX4_days_1 : List UInt8 := [154, 0, 77, 42, 180, 0, 47, 21, 4, 47, 42, 180, 0, 7, 28, 46, 133, 105, 42, 180, 0, 51, 21, 4]
abbrev dktX4_days_1 : List UInt8 := dkwX4_days_1 ++ dktX4_days_2
def dkwX4_days_0 : List UInt8 := [16, 8, 42, 180, 0, 146, 104, 27, 96, 54, 4, 3, 54, 5, 21, 5, 29, 162, 0, 84, 42, 180, 0, 198]
abbrev dktX4_days_0 : List UInt8 := dkwX4_days_0 ++ dktX4_days_1
theorem dksX4_days_0 : cX4_days.data.toList.drop 0 = dktX4_days_0 := by decide +kernel
theorem dksX4_days_1 : cX4_days.data.toList.drop 24 = dktX4_days_1 := dk_seg dksX4_days_0 24 rfl rfl
theorem dksX4_days_2 : cX4_days.data.toList.drop 48 = dktX4_days_2 := dk_seg dksX4_days_1 24 rfl rfl
theorem dksX4_days_3 : cX4_days.data.toList.drop 72 = dktX4_days_3 := dk_seg dksX4_days_2 24 rfl rfl
theorem dksX4_days_4 : cX4_days.data.toList.drop 95 = dktX4_days_4 := dk_seg dksX4_days_3 23 rfl rfl
theorem dX4_days_0 : decode cX4_days 0 = .ok (.bipush 8, 2) := dk_16 8 (dk_at dksX4_days_0 0 rfl rfl)
theorem dX4_days_2 : decode cX4_days 2 = .ok (.aload_n 0, 1) := dk_42 (dk_at dksX4_days_0 2 rfl rfl)
theorem dX4_days_3 : decode cX4_days 3 = .ok (.getfield 146, 3) := dk_180 0 146 (dk_at dksX4_days_0 3 rfl rfl)
theorem dX4_days_6 : decode cX4_days 6 = .ok (.imul, 1) := dk_104 (dk_at dksX4_days_0 6 rfl rfl)
theorem dX4_days_7 : decode cX4_days 7 = .ok (.iload_n 1, 1) := dk_27 (dk_at dksX4_days_0 7 rfl rfl)
theorem dX4_days_8 : decode cX4_days 8 = .ok (.iadd, 1) := dk_96 (dk_at dksX4_days_0 8 rfl rfl)
theorem dX4_days_9 : decode cX4_days 9 = .ok (.istore 4, 2) := dk_54 4 (dk_at dksX4_days_0 9 rfl rfl)
theorem dX4_days_11 : decode cX4_days 11 = .ok (.iconst 0, 1) := dk_3 (dk_at dksX4_days_0 11 rfl rfl)
theorem dX4_days_12 : decode cX4_days 12 = .ok (.istore 5, 2) := dk_54 5 (dk_at dksX4_days_0 12 rfl rfl)
theorem dX4_days_14 : decode cX4_days 14 = .ok (.iload 5, 2) := dk_21 5 (dk_at dksX4_days_0 14 rfl rfl)
theorem dX4_days_16 : decode cX4_days 16 = .ok (.iload_n 3, 1) := dk_29 (dk_at dksX4_days_0 16 rfl rfl)
theorem dX4_days_17 : decode cX4_days 17 = .ok (.if_icmp .ge 84, 3) := dk_162 0 84 (dk_at dksX4_days_0 17 rfl rfl)
theorem dX4_days_20 : decode cX4_days 20 = .ok (.aload_n 0, 1) := dk_42 (dk_at dksX4_days_0 20 rfl rfl)
theorem dX4_days_21 : decode cX4_days 21 = .ok (.getfield 198, 3) := dk_180 0 198 (dk_at dksX4_days_0 21 rfl rfl)
theorem dX4_days_24 : decode cX4_days 24 = .ok (.ifCond .ne 77, 3) := dk_154 0 77 (dk_at dksX4_days_1 0 rfl rfl)
theorem dX4_days_27 : decode cX4_days 27 = .ok (.aload_n 0, 1) := dk_42 (dk_at dksX4_days_1 3 rfl rfl)
theorem dX4_days_28 : decode cX4_days 28 = .ok (.getfield 47, 3) := dk_180 0 47 (dk_at dksX4_days_1 4 rfl rfl)
theorem dX4_days_31 : decode cX4_days 31 = .ok (.iload 4, 2) := dk_21 4 (dk_at dksX4_days_1 7 rfl rfl)
theorem dX4_days_33 : decode cX4_days 33 = .ok (.laload, 1) := dk_47 (dk_at dksX4_days_1 9 rfl rfl)
theorem dX4_days_34 : decode cX4_days 34 = .ok (.aload_n 0, 1) := dk_42 (dk_at dksX4_days_1 10 rfl rfl)
theorem dX4_days_35 : decode cX4_days 35 = .ok (.getfield 7, 3) := dk_180 0 7 (dk_at dksX4_days_1 11 rfl rfl)
theorem dX4_days_38 : decode cX4_days 38 = .ok (.iload_n 2, 1) := dk_28 (dk_at dksX4_days_1 14 rfl rfl)
theorem dX4_days_39 : decode cX4_days 39 = .ok (.iaload, 1) := dk_46 (dk_at dksX4_days_1 15 rfl rfl)
theorem dX4_days_40 : decode cX4_days 40 = .ok (.i2l, 1) := dk_133 (dk_at dksX4_days_1 16 rfl rfl)
theorem dX4_days_41 : decode cX4_days 41 = .ok (.lmul, 1) := dk_105 (dk_at dksX4_days_1 17 rfl rfl)
theorem dX4_days_42 : decode cX4_days 42 = .ok (.aload_n 0, 1) := dk_42 (dk_at dksX4_days_1 18 rfl rfl)
theorem dX4_days_43 : decode cX4_days 43 = .ok (.getfield 51, 3) := dk_180 0 51 (dk_at dksX4_days_1 19 rfl rfl)
theorem dX4_days_46 : decode cX4_days 46 = .ok (.iload 4, 2) := dk_21 4 (dk_at dksX4_days_1 22 rfl rfl)
theorem dX4_days_48 : decode cX4_days 48 = .ok (.laload, 1) := dk_47 (dk_at dksX4_days_2 0 rfl rfl)
theorem dX4_days_49 : decode cX4_days 49 = .ok (.aload_n 0, 1) := dk_42 (dk_at dksX4_days_2 1 rfl rfl)
theorem dX4_days_50 : decode cX4_days 50 = .ok (.getfield 13, 3) := dk_180 0 13 (dk_at dksX4_days_2 2 rfl rfl)
theorem dX4_days_53 : decode cX4_days 53 = .ok (.iload_n 2, 1) := dk_28 (dk_at dksX4_days_2 5 rfl rfl)
theorem dX4_days_54 : decode cX4_days 54 = .ok (.iaload, 1) := dk_46 (dk_at dksX4_days_2 6 rfl rfl)
theorem dX4_days_55 : decode cX4_days 55 = .ok (.i2l, 1) := dk_133 (dk_at dksX4_days_2 7 rfl rfl)
theorem dX4_days_56 : decode cX4_days 56 = .ok (.lmul, 1) := dk_105 (dk_at dksX4_days_2 8 rfl rfl)
theorem dX4_days_57 : decode cX4_days 57 = .ok (.iconst 1, 1) := dk_4 (dk_at dksX4_days_2 9 rfl rfl)
theorem dX4_days_58 : decode cX4_days 58 = .ok (.invokestatic 212, 3) := dk_184 0 212 (dk_at dksX4_days_2 10 rfl rfl)
theorem dX4_days_61 : decode cX4_days 61 = .ok (.lstore 6, 2) := dk_55 6 (dk_at dksX4_days_2 13 rfl rfl)
theorem dX4_days_63 : decode cX4_days 63 = .ok (.aload_n 0, 1) := dk_42 (dk_at dksX4_days_2 15 rfl rfl)
theorem dX4_days_64 : decode cX4_days 64 = .ok (.iload_n 1, 1) := dk_27 (dk_at dksX4_days_2 16 rfl rfl)
theorem dX4_days_65 : decode cX4_days 65 = .ok (.aload_n 0, 1) := dk_42 (dk_at dksX4_days_2 17 rfl rfl)
theorem dX4_days_66 : decode cX4_days 66 = .ok (.getfield 47, 3) := dk_180 0 47 (dk_at dksX4_days_2 18 rfl rfl)
theorem dX4_days_69 : decode cX4_days 69 = .ok (.iload 4, 2) := dk_21 4 (dk_at dksX4_days_2 21 rfl rfl)
theorem dX4_days_71 : decode cX4_days 71 = .ok (.laload, 1) := dk_47 (dk_at dksX4_days_2 23 rfl rfl)
theorem dX4_days_72 : decode cX4_days 72 = .ok (.lload 6, 2) := dk_22 6 (dk_at dksX4_days_3 0 rfl rfl)
theorem dX4_days_74 : decode cX4_days 74 = .ok (.aload_n 0, 1) := dk_42 (dk_at dksX4_days_3 2 rfl rfl)
theorem dX4_days_75 : decode cX4_days 75 = .ok (.getfield 51, 3) := dk_180 0 51 (dk_at dksX4_days_3 3 rfl rfl)
theorem dX4_days_78 : decode cX4_days 78 = .ok (.iload 4, 2) := dk_21 4 (dk_at dksX4_days_3 6 rfl rfl)
theorem dX4_days_80 : decode cX4_days 80 = .ok (.laload, 1) := dk_47 (dk_at dksX4_days_3 8 rfl rfl)
theorem dX4_days_81 : decode cX4_days 81 = .ok (.lmul, 1) := dk_105 (dk_at dksX4_days_3 9 rfl rfl)
theorem dX4_days_82 : decode cX4_days 82 = .ok (.ladd, 1) := dk_97 (dk_at dksX4_days_3 10 rfl rfl)
theorem dX4_days_83 : decode cX4_days 83 = .ok (.aload_n 0, 1) := dk_42 (dk_at dksX4_days_3 11 rfl rfl)
theorem dX4_days_84 : decode cX4_days 84 = .ok (.getfield 51, 3) := dk_180 0 51 (dk_at dksX4_days_3 12 rfl rfl)
theorem dX4_days_87 : decode cX4_days 87 = .ok (.iload 4, 2) := dk_21 4 (dk_at dksX4_days_3 15 rfl rfl)
theorem dX4_days_89 : decode cX4_days 89 = .ok (.laload, 1) := dk_47 (dk_at dksX4_days_3 17 rfl rfl)
theorem dX4_days_90 : decode cX4_days 90 = .ok (.invokevirtual 201, 3) := dk_182 0 201 (dk_at dksX4_days_3 18 rfl rfl)
theorem dX4_days_93 : decode cX4_days 93 = .ok (.istore 8, 2) := dk_54 8 (dk_at dksX4_days_3 21 rfl rfl)
theorem dX4_days_95 : decode cX4_days 95 = .ok (.iinc 5 1, 3) := dk_132 5 1 (dk_at dksX4_days_4 0 rfl rfl)
theorem dX4_days_98 : decode cX4_days 98 = .ok (.goto (-84), 3) := dk_167 255 172 (dk_at dksX4_days_4 3 rfl rfl)
theorem dX4_days_101 : decode cX4_days 101 = .ok (.return_, 1) := dk_177 (dk_at dksX4_days_4 6 rfl rfl)
abbrev cX4_years : ByteArray := prog_23_method_42_code
def yX4_years : MethodName := ⟨RX4, "years", "(II)I"⟩
def dkwX4_years_1 : List UInt8 := [162, 0, 19, 42, 27, 182, 1, 24, 16, 254, 160, 0, 9, 132, 3, 1, 167, 255, 238, 29, 172]
abbrev dktX4_years_1 : List UInt8 := dkwX4_years_1 ++ []
def dkwX4_years_0 : List UInt8 := [42, 27, 182, 0, 172, 153, 0, 13, 28, 3, 16, 40, 184, 0, 159, 154, 0, 5, 2, 172, 3, 62, 29, 28]
abbrev dktX4_years_0 : List UInt8 := dkwX4_years_0 ++ dktX4_years_1
theorem dksX4_years_0 : cX4_years.data.toList.drop 0 = dktX4_years_0 := by decide +kernel
theorem dksX4_years_1 : cX4_years.data.toList.drop 24 = dktX4_years_1 := dk_seg dksX4_years_0 24 rfl rfl
theorem dX4_years_0 : decode cX4_years 0 = .ok (.aload_n 0, 1) := dk_42 (dk_at dksX4_years_0 0 rfl rfl)
theorem dX4_years_1 : decode cX4_years 1 = .ok (.iload_n 1, 1) := dk_27 (dk_at dksX4_years_0 1 rfl rfl)
theorem dX4_years_2 : decode cX4_years 2 = .ok (.invokevirtual 172, 3) := dk_182 0 172 (dk_at dksX4_years_0 2 rfl rfl)
theorem dX4_years_5 : decode cX4_years 5 = .ok (.ifCond .eq 13, 3) := dk_153 0 13 (dk_at dksX4_years_0 5 rfl rfl)
theorem dX4_years_8 : decode cX4_years 8 = .ok (.iload_n 2, 1) := dk_28 (dk_at dksX4_years_0 8 rfl rfl)
theorem dX4_years_9 : decode cX4_years 9 = .ok (.iconst 0, 1) := dk_3 (dk_at dksX4_years_0 9 rfl rfl)
theorem dX4_years_10 : decode cX4_years 10 = .ok (.bipush 40, 2) := dk_16 40 (dk_at dksX4_years_0 10 rfl rfl)
theorem dX4_years_12 : decode cX4_years 12 = .ok (.invokestatic 159, 3) := dk_184 0 159 (dk_at dksX4_years_0 12 rfl rfl)
theorem dX4_years_15 : decode cX4_years 15 = .ok (.ifCond .ne 5, 3) := dk_154 0 5 (dk_at dksX4_years_0 15 rfl rfl)
theorem dX4_years_18 : decode cX4_years 18 = .ok (.iconst (-1), 1) := dk_2 (dk_at dksX4_years_0 18 rfl rfl)
theorem dX4_years_19 : decode cX4_years 19 = .ok (.ireturn, 1) := dk_172 (dk_at dksX4_years_0 19 rfl rfl)
theorem dX4_years_20 : decode cX4_years 20 = .ok (.iconst 0, 1) := dk_3 (dk_at dksX4_years_0 20 rfl rfl)
theorem dX4_years_21 : decode cX4_years 21 = .ok (.istore_n 3, 1) := dk_62 (dk_at dksX4_years_0 21 rfl rfl)
theorem dX4_years_22 : decode cX4_years 22 = .ok (.iload_n 3, 1) := dk_29 (dk_at dksX4_years_0 22 rfl rfl)
theorem dX4_years_23 : decode cX4_years 23 = .ok (.iload_n 2, 1) := dk_28 (dk_at dksX4_years_0 23 rfl rfl)
theorem dX4_years_24 : decode cX4_years 24 = .ok (.if_icmp .ge 19, 3) := dk_162 0 19 (dk_at dksX4_years_1 0 rfl rfl)
theorem dX4_years_27 : decode cX4_years 27 = .ok (.aload_n 0, 1) := dk_42 (dk_at dksX4_years_1 3 rfl rfl)
theorem dX4_years_28 : decode cX4_years 28 = .ok (.iload_n 1, 1) := dk_27 (dk_at dksX4_years_1 4 rfl rfl)
theorem dX4_years_29 : decode cX4_years 29 = .ok (.invokevirtual 280, 3) := dk_182 1 24 (dk_at dksX4_years_1 5 rfl rfl)
theorem dX4_years_32 : decode cX4_years 32 = .ok (.bipush (-2), 2) := dk_16 254 (dk_at dksX4_years_1 8 rfl rfl)
theorem dX4_years_34 : decode cX4_years 34 = .ok (.if_icmp .ne 9, 3) := dk_160 0 9 (dk_at dksX4_years_1 10 rfl rfl)
theorem dX4_years_37 : decode cX4_years 37 = .ok (.iinc 3 1, 3) := dk_132 3 1 (dk_at dksX4_years_1 13 rfl rfl)
theorem dX4_years_40 : decode cX4_years 40 = .ok (.goto (-18), 3) := dk_167 255 238 (dk_at dksX4_years_1 16 rfl rfl)
theorem dX4_years_43 : decode cX4_years 43 = .ok (.iload_n 3, 1) := dk_29 (dk_at dksX4_years_1 19 rfl rfl)
theorem dX4_years_44 : decode cX4_years 44 = .ok (.ireturn, 1) := dk_172 (dk_at dksX4_years_1 20 rfl rfl)
abbrev cX4_failed : ByteArray := prog_23_method_43_code
def yX4_failed : MethodName := ⟨RX4, "failed", "()I"⟩
theorem dX4_failed_0 : decode cX4_failed 0 = .ok (.aload_n 0, 1) := by decide +kernel
theorem dX4_failed_1 : decode cX4_failed 1 = .ok (.getfield 40, 3) := by decide +kernel
theorem dX4_failed_4 : decode cX4_failed 4 = .ok (.ireturn, 1) := by decide +kernel
abbrev cX4_account : ByteArray := prog_23_method_45_code
def yX4_account : MethodName := ⟨RX4, "account", "(I)J"⟩
def dkwX4_account_1 : List UInt8 := [173]
abbrev dktX4_account_1 : List UInt8 := dkwX4_account_1 ++ []
def dkwX4_account_0 : List UInt8 := [42, 27, 3, 16, 7, 184, 0, 159, 182, 1, 27, 153, 0, 7, 9, 167, 0, 9, 42, 180, 0, 60, 27, 47]
abbrev dktX4_account_0 : List UInt8 := dkwX4_account_0 ++ dktX4_account_1
theorem dksX4_account_0 : cX4_account.data.toList.drop 0 = dktX4_account_0 := by decide +kernel
theorem dksX4_account_1 : cX4_account.data.toList.drop 24 = dktX4_account_1 := dk_seg dksX4_account_0 24 rfl rfl
theorem dX4_account_0 : decode cX4_account 0 = .ok (.aload_n 0, 1) := dk_42 (dk_at dksX4_account_0 0 rfl rfl)
theorem dX4_account_1 : decode cX4_account 1 = .ok (.iload_n 1, 1) := dk_27 (dk_at dksX4_account_0 1 rfl rfl)
theorem dX4_account_2 : decode cX4_account 2 = .ok (.iconst 0, 1) := dk_3 (dk_at dksX4_account_0 2 rfl rfl)
theorem dX4_account_3 : decode cX4_account 3 = .ok (.bipush 7, 2) := dk_16 7 (dk_at dksX4_account_0 3 rfl rfl)
theorem dX4_account_5 : decode cX4_account 5 = .ok (.invokestatic 159, 3) := dk_184 0 159 (dk_at dksX4_account_0 5 rfl rfl)
theorem dX4_account_8 : decode cX4_account 8 = .ok (.invokevirtual 283, 3) := dk_182 1 27 (dk_at dksX4_account_0 8 rfl rfl)
theorem dX4_account_11 : decode cX4_account 11 = .ok (.ifCond .eq 7, 3) := dk_153 0 7 (dk_at dksX4_account_0 11 rfl rfl)
theorem dX4_account_14 : decode cX4_account 14 = .ok (.lconst 0, 1) := dk_9 (dk_at dksX4_account_0 14 rfl rfl)
theorem dX4_account_15 : decode cX4_account 15 = .ok (.goto 9, 3) := dk_167 0 9 (dk_at dksX4_account_0 15 rfl rfl)
theorem dX4_account_18 : decode cX4_account 18 = .ok (.aload_n 0, 1) := dk_42 (dk_at dksX4_account_0 18 rfl rfl)
theorem dX4_account_19 : decode cX4_account 19 = .ok (.getfield 60, 3) := dk_180 0 60 (dk_at dksX4_account_0 19 rfl rfl)
theorem dX4_account_22 : decode cX4_account 22 = .ok (.iload_n 1, 1) := dk_27 (dk_at dksX4_account_0 22 rfl rfl)
theorem dX4_account_23 : decode cX4_account 23 = .ok (.laload, 1) := dk_47 (dk_at dksX4_account_0 23 rfl rfl)
theorem dX4_account_24 : decode cX4_account 24 = .ok (.lreturn, 1) := dk_173 (dk_at dksX4_account_1 0 rfl rfl)
abbrev cX4_isRefused : ByteArray := prog_23_method_44_code
def yX4_isRefused : MethodName := ⟨RX4, "isRefused", "(Z)Z"⟩
def dkwX4_isRefused_0 : List UInt8 := [42, 27, 153, 0, 7, 3, 167, 0, 4, 4, 181, 0, 131, 27, 154, 0, 7, 4, 167, 0, 4, 3, 172]
abbrev dktX4_isRefused_0 : List UInt8 := dkwX4_isRefused_0 ++ []
theorem dksX4_isRefused_0 : cX4_isRefused.data.toList.drop 0 = dktX4_isRefused_0 := by decide +kernel
theorem dX4_isRefused_0 : decode cX4_isRefused 0 = .ok (.aload_n 0, 1) := dk_42 (dk_at dksX4_isRefused_0 0 rfl rfl)
theorem dX4_isRefused_1 : decode cX4_isRefused 1 = .ok (.iload_n 1, 1) := dk_27 (dk_at dksX4_isRefused_0 1 rfl rfl)
theorem dX4_isRefused_2 : decode cX4_isRefused 2 = .ok (.ifCond .eq 7, 3) := dk_153 0 7 (dk_at dksX4_isRefused_0 2 rfl rfl)
theorem dX4_isRefused_5 : decode cX4_isRefused 5 = .ok (.iconst 0, 1) := dk_3 (dk_at dksX4_isRefused_0 5 rfl rfl)
theorem dX4_isRefused_6 : decode cX4_isRefused 6 = .ok (.goto 4, 3) := dk_167 0 4 (dk_at dksX4_isRefused_0 6 rfl rfl)
theorem dX4_isRefused_9 : decode cX4_isRefused 9 = .ok (.iconst 1, 1) := dk_4 (dk_at dksX4_isRefused_0 9 rfl rfl)
theorem dX4_isRefused_10 : decode cX4_isRefused 10 = .ok (.putfield 131, 3) := dk_181 0 131 (dk_at dksX4_isRefused_0 10 rfl rfl)
theorem dX4_isRefused_13 : decode cX4_isRefused 13 = .ok (.iload_n 1, 1) := dk_27 (dk_at dksX4_isRefused_0 13 rfl rfl)
theorem dX4_isRefused_14 : decode cX4_isRefused 14 = .ok (.ifCond .ne 7, 3) := dk_154 0 7 (dk_at dksX4_isRefused_0 14 rfl rfl)
theorem dX4_isRefused_17 : decode cX4_isRefused 17 = .ok (.iconst 1, 1) := dk_4 (dk_at dksX4_isRefused_0 17 rfl rfl)
theorem dX4_isRefused_18 : decode cX4_isRefused 18 = .ok (.goto 4, 3) := dk_167 0 4 (dk_at dksX4_isRefused_0 18 rfl rfl)
theorem dX4_isRefused_21 : decode cX4_isRefused 21 = .ok (.iconst 0, 1) := dk_3 (dk_at dksX4_isRefused_0 21 rfl rfl)
theorem dX4_isRefused_22 : decode cX4_isRefused 22 = .ok (.ireturn, 1) := dk_172 (dk_at dksX4_isRefused_0 22 rfl rfl)
abbrev cX4_slot : ByteArray := prog_23_method_46_code
def yX4_slot : MethodName := ⟨RX4, "slot", "(II)J"⟩
def dkwX4_slot_3 : List UInt8 := [167, 0, 4, 9, 173]
abbrev dktX4_slot_3 : List UInt8 := dkwX4_slot_3 ++ []
def dkwX4_slot_2 : List UInt8 := [160, 0, 12, 42, 180, 0, 51, 27, 47, 167, 0, 17, 42, 180, 0, 69, 27, 51, 153, 0, 7, 10]
abbrev dktX4_slot_2 : List UInt8 := dkwX4_slot_2 ++ dktX4_slot_3
def dkwX4_slot_1 : List UInt8 := [3, 182, 1, 27, 153, 0, 5, 9, 173, 28, 154, 0, 12, 42, 180, 0, 47, 27, 47, 167, 0, 31, 28, 4]
abbrev dktX4_slot_1 : List UInt8 := dkwX4_slot_1 ++ dktX4_slot_2
def dkwX4_slot_0 : List UInt8 := [42, 27, 3, 16, 7, 184, 0, 159, 153, 0, 16, 28, 3, 5, 184, 0, 159, 153, 0, 7, 4, 167, 0, 4]
abbrev dktX4_slot_0 : List UInt8 := dkwX4_slot_0 ++ dktX4_slot_1
theorem dksX4_slot_0 : cX4_slot.data.toList.drop 0 = dktX4_slot_0 := by decide +kernel
theorem dksX4_slot_1 : cX4_slot.data.toList.drop 24 = dktX4_slot_1 := dk_seg dksX4_slot_0 24 rfl rfl
theorem dksX4_slot_2 : cX4_slot.data.toList.drop 48 = dktX4_slot_2 := dk_seg dksX4_slot_1 24 rfl rfl
theorem dksX4_slot_3 : cX4_slot.data.toList.drop 70 = dktX4_slot_3 := dk_seg dksX4_slot_2 22 rfl rfl
theorem dX4_slot_0 : decode cX4_slot 0 = .ok (.aload_n 0, 1) := dk_42 (dk_at dksX4_slot_0 0 rfl rfl)
theorem dX4_slot_1 : decode cX4_slot 1 = .ok (.iload_n 1, 1) := dk_27 (dk_at dksX4_slot_0 1 rfl rfl)
theorem dX4_slot_2 : decode cX4_slot 2 = .ok (.iconst 0, 1) := dk_3 (dk_at dksX4_slot_0 2 rfl rfl)
theorem dX4_slot_3 : decode cX4_slot 3 = .ok (.bipush 7, 2) := dk_16 7 (dk_at dksX4_slot_0 3 rfl rfl)
theorem dX4_slot_5 : decode cX4_slot 5 = .ok (.invokestatic 159, 3) := dk_184 0 159 (dk_at dksX4_slot_0 5 rfl rfl)
theorem dX4_slot_8 : decode cX4_slot 8 = .ok (.ifCond .eq 16, 3) := dk_153 0 16 (dk_at dksX4_slot_0 8 rfl rfl)
theorem dX4_slot_11 : decode cX4_slot 11 = .ok (.iload_n 2, 1) := dk_28 (dk_at dksX4_slot_0 11 rfl rfl)
theorem dX4_slot_12 : decode cX4_slot 12 = .ok (.iconst 0, 1) := dk_3 (dk_at dksX4_slot_0 12 rfl rfl)
theorem dX4_slot_13 : decode cX4_slot 13 = .ok (.iconst 2, 1) := dk_5 (dk_at dksX4_slot_0 13 rfl rfl)
theorem dX4_slot_14 : decode cX4_slot 14 = .ok (.invokestatic 159, 3) := dk_184 0 159 (dk_at dksX4_slot_0 14 rfl rfl)
theorem dX4_slot_17 : decode cX4_slot 17 = .ok (.ifCond .eq 7, 3) := dk_153 0 7 (dk_at dksX4_slot_0 17 rfl rfl)
theorem dX4_slot_20 : decode cX4_slot 20 = .ok (.iconst 1, 1) := dk_4 (dk_at dksX4_slot_0 20 rfl rfl)
theorem dX4_slot_21 : decode cX4_slot 21 = .ok (.goto 4, 3) := dk_167 0 4 (dk_at dksX4_slot_0 21 rfl rfl)
theorem dX4_slot_24 : decode cX4_slot 24 = .ok (.iconst 0, 1) := dk_3 (dk_at dksX4_slot_1 0 rfl rfl)
theorem dX4_slot_25 : decode cX4_slot 25 = .ok (.invokevirtual 283, 3) := dk_182 1 27 (dk_at dksX4_slot_1 1 rfl rfl)
theorem dX4_slot_28 : decode cX4_slot 28 = .ok (.ifCond .eq 5, 3) := dk_153 0 5 (dk_at dksX4_slot_1 4 rfl rfl)
theorem dX4_slot_31 : decode cX4_slot 31 = .ok (.lconst 0, 1) := dk_9 (dk_at dksX4_slot_1 7 rfl rfl)
theorem dX4_slot_32 : decode cX4_slot 32 = .ok (.lreturn, 1) := dk_173 (dk_at dksX4_slot_1 8 rfl rfl)
theorem dX4_slot_33 : decode cX4_slot 33 = .ok (.iload_n 2, 1) := dk_28 (dk_at dksX4_slot_1 9 rfl rfl)
theorem dX4_slot_34 : decode cX4_slot 34 = .ok (.ifCond .ne 12, 3) := dk_154 0 12 (dk_at dksX4_slot_1 10 rfl rfl)
theorem dX4_slot_37 : decode cX4_slot 37 = .ok (.aload_n 0, 1) := dk_42 (dk_at dksX4_slot_1 13 rfl rfl)
theorem dX4_slot_38 : decode cX4_slot 38 = .ok (.getfield 47, 3) := dk_180 0 47 (dk_at dksX4_slot_1 14 rfl rfl)
theorem dX4_slot_41 : decode cX4_slot 41 = .ok (.iload_n 1, 1) := dk_27 (dk_at dksX4_slot_1 17 rfl rfl)
theorem dX4_slot_42 : decode cX4_slot 42 = .ok (.laload, 1) := dk_47 (dk_at dksX4_slot_1 18 rfl rfl)
theorem dX4_slot_43 : decode cX4_slot 43 = .ok (.goto 31, 3) := dk_167 0 31 (dk_at dksX4_slot_1 19 rfl rfl)
theorem dX4_slot_46 : decode cX4_slot 46 = .ok (.iload_n 2, 1) := dk_28 (dk_at dksX4_slot_1 22 rfl rfl)
theorem dX4_slot_47 : decode cX4_slot 47 = .ok (.iconst 1, 1) := dk_4 (dk_at dksX4_slot_1 23 rfl rfl)
theorem dX4_slot_48 : decode cX4_slot 48 = .ok (.if_icmp .ne 12, 3) := dk_160 0 12 (dk_at dksX4_slot_2 0 rfl rfl)
theorem dX4_slot_51 : decode cX4_slot 51 = .ok (.aload_n 0, 1) := dk_42 (dk_at dksX4_slot_2 3 rfl rfl)
theorem dX4_slot_52 : decode cX4_slot 52 = .ok (.getfield 51, 3) := dk_180 0 51 (dk_at dksX4_slot_2 4 rfl rfl)
theorem dX4_slot_55 : decode cX4_slot 55 = .ok (.iload_n 1, 1) := dk_27 (dk_at dksX4_slot_2 7 rfl rfl)
theorem dX4_slot_56 : decode cX4_slot 56 = .ok (.laload, 1) := dk_47 (dk_at dksX4_slot_2 8 rfl rfl)
theorem dX4_slot_57 : decode cX4_slot 57 = .ok (.goto 17, 3) := dk_167 0 17 (dk_at dksX4_slot_2 9 rfl rfl)
theorem dX4_slot_60 : decode cX4_slot 60 = .ok (.aload_n 0, 1) := dk_42 (dk_at dksX4_slot_2 12 rfl rfl)
theorem dX4_slot_61 : decode cX4_slot 61 = .ok (.getfield 69, 3) := dk_180 0 69 (dk_at dksX4_slot_2 13 rfl rfl)
theorem dX4_slot_64 : decode cX4_slot 64 = .ok (.iload_n 1, 1) := dk_27 (dk_at dksX4_slot_2 16 rfl rfl)
theorem dX4_slot_65 : decode cX4_slot 65 = .ok (.baload, 1) := dk_51 (dk_at dksX4_slot_2 17 rfl rfl)
theorem dX4_slot_66 : decode cX4_slot 66 = .ok (.ifCond .eq 7, 3) := dk_153 0 7 (dk_at dksX4_slot_2 18 rfl rfl)
theorem dX4_slot_69 : decode cX4_slot 69 = .ok (.lconst 1, 1) := dk_10 (dk_at dksX4_slot_2 21 rfl rfl)
theorem dX4_slot_70 : decode cX4_slot 70 = .ok (.goto 4, 3) := dk_167 0 4 (dk_at dksX4_slot_3 0 rfl rfl)
theorem dX4_slot_73 : decode cX4_slot 73 = .ok (.lconst 0, 1) := dk_9 (dk_at dksX4_slot_3 3 rfl rfl)
theorem dX4_slot_74 : decode cX4_slot 74 = .ok (.lreturn, 1) := dk_173 (dk_at dksX4_slot_3 4 rfl rfl)
abbrev cX4_part : ByteArray := prog_23_method_47_code
def yX4_part : MethodName := ⟨RX4, "part", "(I)J"⟩
def dkwX4_part_1 : List UInt8 := [173]
abbrev dktX4_part_1 : List UInt8 := dkwX4_part_1 ++ []
def dkwX4_part_0 : List UInt8 := [42, 27, 3, 16, 7, 184, 0, 159, 182, 1, 27, 153, 0, 7, 9, 167, 0, 9, 42, 180, 0, 54, 27, 47]
abbrev dktX4_part_0 : List UInt8 := dkwX4_part_0 ++ dktX4_part_1
theorem dksX4_part_0 : cX4_part.data.toList.drop 0 = dktX4_part_0 := by decide +kernel
theorem dksX4_part_1 : cX4_part.data.toList.drop 24 = dktX4_part_1 := dk_seg dksX4_part_0 24 rfl rfl
theorem dX4_part_0 : decode cX4_part 0 = .ok (.aload_n 0, 1) := dk_42 (dk_at dksX4_part_0 0 rfl rfl)
theorem dX4_part_1 : decode cX4_part 1 = .ok (.iload_n 1, 1) := dk_27 (dk_at dksX4_part_0 1 rfl rfl)
theorem dX4_part_2 : decode cX4_part 2 = .ok (.iconst 0, 1) := dk_3 (dk_at dksX4_part_0 2 rfl rfl)
theorem dX4_part_3 : decode cX4_part 3 = .ok (.bipush 7, 2) := dk_16 7 (dk_at dksX4_part_0 3 rfl rfl)
theorem dX4_part_5 : decode cX4_part 5 = .ok (.invokestatic 159, 3) := dk_184 0 159 (dk_at dksX4_part_0 5 rfl rfl)
theorem dX4_part_8 : decode cX4_part 8 = .ok (.invokevirtual 283, 3) := dk_182 1 27 (dk_at dksX4_part_0 8 rfl rfl)
theorem dX4_part_11 : decode cX4_part 11 = .ok (.ifCond .eq 7, 3) := dk_153 0 7 (dk_at dksX4_part_0 11 rfl rfl)
theorem dX4_part_14 : decode cX4_part 14 = .ok (.lconst 0, 1) := dk_9 (dk_at dksX4_part_0 14 rfl rfl)
theorem dX4_part_15 : decode cX4_part 15 = .ok (.goto 9, 3) := dk_167 0 9 (dk_at dksX4_part_0 15 rfl rfl)
theorem dX4_part_18 : decode cX4_part 18 = .ok (.aload_n 0, 1) := dk_42 (dk_at dksX4_part_0 18 rfl rfl)
theorem dX4_part_19 : decode cX4_part 19 = .ok (.getfield 54, 3) := dk_180 0 54 (dk_at dksX4_part_0 19 rfl rfl)
theorem dX4_part_22 : decode cX4_part 22 = .ok (.iload_n 1, 1) := dk_27 (dk_at dksX4_part_0 22 rfl rfl)
theorem dX4_part_23 : decode cX4_part 23 = .ok (.laload, 1) := dk_47 (dk_at dksX4_part_0 23 rfl rfl)
theorem dX4_part_24 : decode cX4_part 24 = .ok (.lreturn, 1) := dk_173 (dk_at dksX4_part_1 0 rfl rfl)
abbrev cX4_got : ByteArray := prog_23_method_48_code
def yX4_got : MethodName := ⟨RX4, "got", "(I)J"⟩
def dkwX4_got_1 : List UInt8 := [173]
abbrev dktX4_got_1 : List UInt8 := dkwX4_got_1 ++ []
def dkwX4_got_0 : List UInt8 := [42, 27, 3, 16, 11, 184, 0, 159, 182, 1, 27, 153, 0, 7, 9, 167, 0, 9, 42, 180, 0, 57, 27, 47]
abbrev dktX4_got_0 : List UInt8 := dkwX4_got_0 ++ dktX4_got_1
theorem dksX4_got_0 : cX4_got.data.toList.drop 0 = dktX4_got_0 := by decide +kernel
theorem dksX4_got_1 : cX4_got.data.toList.drop 24 = dktX4_got_1 := dk_seg dksX4_got_0 24 rfl rfl
theorem dX4_got_0 : decode cX4_got 0 = .ok (.aload_n 0, 1) := dk_42 (dk_at dksX4_got_0 0 rfl rfl)
theorem dX4_got_1 : decode cX4_got 1 = .ok (.iload_n 1, 1) := dk_27 (dk_at dksX4_got_0 1 rfl rfl)
theorem dX4_got_2 : decode cX4_got 2 = .ok (.iconst 0, 1) := dk_3 (dk_at dksX4_got_0 2 rfl rfl)
theorem dX4_got_3 : decode cX4_got 3 = .ok (.bipush 11, 2) := dk_16 11 (dk_at dksX4_got_0 3 rfl rfl)
theorem dX4_got_5 : decode cX4_got 5 = .ok (.invokestatic 159, 3) := dk_184 0 159 (dk_at dksX4_got_0 5 rfl rfl)
theorem dX4_got_8 : decode cX4_got 8 = .ok (.invokevirtual 283, 3) := dk_182 1 27 (dk_at dksX4_got_0 8 rfl rfl)
theorem dX4_got_11 : decode cX4_got 11 = .ok (.ifCond .eq 7, 3) := dk_153 0 7 (dk_at dksX4_got_0 11 rfl rfl)
theorem dX4_got_14 : decode cX4_got 14 = .ok (.lconst 0, 1) := dk_9 (dk_at dksX4_got_0 14 rfl rfl)
theorem dX4_got_15 : decode cX4_got 15 = .ok (.goto 9, 3) := dk_167 0 9 (dk_at dksX4_got_0 15 rfl rfl)
theorem dX4_got_18 : decode cX4_got 18 = .ok (.aload_n 0, 1) := dk_42 (dk_at dksX4_got_0 18 rfl rfl)
theorem dX4_got_19 : decode cX4_got 19 = .ok (.getfield 57, 3) := dk_180 0 57 (dk_at dksX4_got_0 19 rfl rfl)
theorem dX4_got_22 : decode cX4_got 22 = .ok (.iload_n 1, 1) := dk_27 (dk_at dksX4_got_0 22 rfl rfl)
theorem dX4_got_23 : decode cX4_got 23 = .ok (.laload, 1) := dk_47 (dk_at dksX4_got_0 23 rfl rfl)
theorem dX4_got_24 : decode cX4_got 24 = .ok (.lreturn, 1) := dk_173 (dk_at dksX4_got_1 0 rfl rfl)
abbrev cX4_carried : ByteArray := prog_23_method_49_code
def yX4_carried : MethodName := ⟨RX4, "carried", "(II)J"⟩
def dkwX4_carried_2 : List UInt8 := [180, 0, 66, 27, 47, 173]
abbrev dktX4_carried_2 : List UInt8 := dkwX4_carried_2 ++ []
def dkwX4_carried_1 : List UInt8 := [182, 1, 27, 153, 0, 5, 9, 173, 28, 154, 0, 12, 42, 180, 0, 63, 27, 47, 167, 0, 9, 42]
abbrev dktX4_carried_1 : List UInt8 := dkwX4_carried_1 ++ dktX4_carried_2
def dkwX4_carried_0 : List UInt8 := [42, 42, 27, 182, 0, 172, 153, 0, 16, 28, 3, 4, 184, 0, 159, 153, 0, 7, 4, 167, 0, 4, 3]
abbrev dktX4_carried_0 : List UInt8 := dkwX4_carried_0 ++ dktX4_carried_1
theorem dksX4_carried_0 : cX4_carried.data.toList.drop 0 = dktX4_carried_0 := by decide +kernel
theorem dksX4_carried_1 : cX4_carried.data.toList.drop 23 = dktX4_carried_1 := dk_seg dksX4_carried_0 23 rfl rfl
theorem dksX4_carried_2 : cX4_carried.data.toList.drop 45 = dktX4_carried_2 := dk_seg dksX4_carried_1 22 rfl rfl
theorem dX4_carried_0 : decode cX4_carried 0 = .ok (.aload_n 0, 1) := dk_42 (dk_at dksX4_carried_0 0 rfl rfl)
theorem dX4_carried_1 : decode cX4_carried 1 = .ok (.aload_n 0, 1) := dk_42 (dk_at dksX4_carried_0 1 rfl rfl)
theorem dX4_carried_2 : decode cX4_carried 2 = .ok (.iload_n 1, 1) := dk_27 (dk_at dksX4_carried_0 2 rfl rfl)
theorem dX4_carried_3 : decode cX4_carried 3 = .ok (.invokevirtual 172, 3) := dk_182 0 172 (dk_at dksX4_carried_0 3 rfl rfl)
theorem dX4_carried_6 : decode cX4_carried 6 = .ok (.ifCond .eq 16, 3) := dk_153 0 16 (dk_at dksX4_carried_0 6 rfl rfl)
theorem dX4_carried_9 : decode cX4_carried 9 = .ok (.iload_n 2, 1) := dk_28 (dk_at dksX4_carried_0 9 rfl rfl)
theorem dX4_carried_10 : decode cX4_carried 10 = .ok (.iconst 0, 1) := dk_3 (dk_at dksX4_carried_0 10 rfl rfl)
theorem dX4_carried_11 : decode cX4_carried 11 = .ok (.iconst 1, 1) := dk_4 (dk_at dksX4_carried_0 11 rfl rfl)
theorem dX4_carried_12 : decode cX4_carried 12 = .ok (.invokestatic 159, 3) := dk_184 0 159 (dk_at dksX4_carried_0 12 rfl rfl)
theorem dX4_carried_15 : decode cX4_carried 15 = .ok (.ifCond .eq 7, 3) := dk_153 0 7 (dk_at dksX4_carried_0 15 rfl rfl)
theorem dX4_carried_18 : decode cX4_carried 18 = .ok (.iconst 1, 1) := dk_4 (dk_at dksX4_carried_0 18 rfl rfl)
theorem dX4_carried_19 : decode cX4_carried 19 = .ok (.goto 4, 3) := dk_167 0 4 (dk_at dksX4_carried_0 19 rfl rfl)
theorem dX4_carried_22 : decode cX4_carried 22 = .ok (.iconst 0, 1) := dk_3 (dk_at dksX4_carried_0 22 rfl rfl)
theorem dX4_carried_23 : decode cX4_carried 23 = .ok (.invokevirtual 283, 3) := dk_182 1 27 (dk_at dksX4_carried_1 0 rfl rfl)
theorem dX4_carried_26 : decode cX4_carried 26 = .ok (.ifCond .eq 5, 3) := dk_153 0 5 (dk_at dksX4_carried_1 3 rfl rfl)
theorem dX4_carried_29 : decode cX4_carried 29 = .ok (.lconst 0, 1) := dk_9 (dk_at dksX4_carried_1 6 rfl rfl)
theorem dX4_carried_30 : decode cX4_carried 30 = .ok (.lreturn, 1) := dk_173 (dk_at dksX4_carried_1 7 rfl rfl)
theorem dX4_carried_31 : decode cX4_carried 31 = .ok (.iload_n 2, 1) := dk_28 (dk_at dksX4_carried_1 8 rfl rfl)
theorem dX4_carried_32 : decode cX4_carried 32 = .ok (.ifCond .ne 12, 3) := dk_154 0 12 (dk_at dksX4_carried_1 9 rfl rfl)
theorem dX4_carried_35 : decode cX4_carried 35 = .ok (.aload_n 0, 1) := dk_42 (dk_at dksX4_carried_1 12 rfl rfl)
theorem dX4_carried_36 : decode cX4_carried 36 = .ok (.getfield 63, 3) := dk_180 0 63 (dk_at dksX4_carried_1 13 rfl rfl)
theorem dX4_carried_39 : decode cX4_carried 39 = .ok (.iload_n 1, 1) := dk_27 (dk_at dksX4_carried_1 16 rfl rfl)
theorem dX4_carried_40 : decode cX4_carried 40 = .ok (.laload, 1) := dk_47 (dk_at dksX4_carried_1 17 rfl rfl)
theorem dX4_carried_41 : decode cX4_carried 41 = .ok (.goto 9, 3) := dk_167 0 9 (dk_at dksX4_carried_1 18 rfl rfl)
theorem dX4_carried_44 : decode cX4_carried 44 = .ok (.aload_n 0, 1) := dk_42 (dk_at dksX4_carried_1 21 rfl rfl)
theorem dX4_carried_45 : decode cX4_carried 45 = .ok (.getfield 66, 3) := dk_180 0 66 (dk_at dksX4_carried_2 0 rfl rfl)
theorem dX4_carried_48 : decode cX4_carried 48 = .ok (.iload_n 1, 1) := dk_27 (dk_at dksX4_carried_2 3 rfl rfl)
theorem dX4_carried_49 : decode cX4_carried 49 = .ok (.laload, 1) := dk_47 (dk_at dksX4_carried_2 4 rfl rfl)
theorem dX4_carried_50 : decode cX4_carried 50 = .ok (.lreturn, 1) := dk_173 (dk_at dksX4_carried_2 5 rfl rfl)
abbrev cX4_least : ByteArray := prog_23_method_64_code
def yX4_least : MethodName := ⟨RX4, "least", "(IIIII)I"⟩
def dkwX4_least_2 : List UInt8 := [184, 1, 98, 154, 0, 5, 2, 172, 42, 27, 28, 29, 21, 4, 21, 5, 182, 1, 101, 172]
abbrev dktX4_least_2 : List UInt8 := dkwX4_least_2 ++ []
def dkwX4_least_1 : List UInt8 := [29, 182, 0, 172, 154, 0, 11, 167, 0, 21, 29, 2, 160, 0, 16, 21, 4, 21, 5, 17, 7, 208]
abbrev dktX4_least_1 : List UInt8 := dkwX4_least_1 ++ dktX4_least_2
def dkwX4_least_0 : List UInt8 := [42, 27, 182, 0, 172, 153, 0, 47, 28, 3, 16, 6, 184, 0, 159, 153, 0, 37, 28, 5, 160, 0, 14, 42]
abbrev dktX4_least_0 : List UInt8 := dkwX4_least_0 ++ dktX4_least_1
theorem dksX4_least_0 : cX4_least.data.toList.drop 0 = dktX4_least_0 := by decide +kernel
theorem dksX4_least_1 : cX4_least.data.toList.drop 24 = dktX4_least_1 := dk_seg dksX4_least_0 24 rfl rfl
theorem dksX4_least_2 : cX4_least.data.toList.drop 46 = dktX4_least_2 := dk_seg dksX4_least_1 22 rfl rfl
theorem dX4_least_0 : decode cX4_least 0 = .ok (.aload_n 0, 1) := dk_42 (dk_at dksX4_least_0 0 rfl rfl)
theorem dX4_least_1 : decode cX4_least 1 = .ok (.iload_n 1, 1) := dk_27 (dk_at dksX4_least_0 1 rfl rfl)
theorem dX4_least_2 : decode cX4_least 2 = .ok (.invokevirtual 172, 3) := dk_182 0 172 (dk_at dksX4_least_0 2 rfl rfl)
theorem dX4_least_5 : decode cX4_least 5 = .ok (.ifCond .eq 47, 3) := dk_153 0 47 (dk_at dksX4_least_0 5 rfl rfl)
theorem dX4_least_8 : decode cX4_least 8 = .ok (.iload_n 2, 1) := dk_28 (dk_at dksX4_least_0 8 rfl rfl)
theorem dX4_least_9 : decode cX4_least 9 = .ok (.iconst 0, 1) := dk_3 (dk_at dksX4_least_0 9 rfl rfl)
theorem dX4_least_10 : decode cX4_least 10 = .ok (.bipush 6, 2) := dk_16 6 (dk_at dksX4_least_0 10 rfl rfl)
theorem dX4_least_12 : decode cX4_least 12 = .ok (.invokestatic 159, 3) := dk_184 0 159 (dk_at dksX4_least_0 12 rfl rfl)
theorem dX4_least_15 : decode cX4_least 15 = .ok (.ifCond .eq 37, 3) := dk_153 0 37 (dk_at dksX4_least_0 15 rfl rfl)
theorem dX4_least_18 : decode cX4_least 18 = .ok (.iload_n 2, 1) := dk_28 (dk_at dksX4_least_0 18 rfl rfl)
theorem dX4_least_19 : decode cX4_least 19 = .ok (.iconst 2, 1) := dk_5 (dk_at dksX4_least_0 19 rfl rfl)
theorem dX4_least_20 : decode cX4_least 20 = .ok (.if_icmp .ne 14, 3) := dk_160 0 14 (dk_at dksX4_least_0 20 rfl rfl)
theorem dX4_least_23 : decode cX4_least 23 = .ok (.aload_n 0, 1) := dk_42 (dk_at dksX4_least_0 23 rfl rfl)
theorem dX4_least_24 : decode cX4_least 24 = .ok (.iload_n 3, 1) := dk_29 (dk_at dksX4_least_1 0 rfl rfl)
theorem dX4_least_25 : decode cX4_least 25 = .ok (.invokevirtual 172, 3) := dk_182 0 172 (dk_at dksX4_least_1 1 rfl rfl)
theorem dX4_least_28 : decode cX4_least 28 = .ok (.ifCond .ne 11, 3) := dk_154 0 11 (dk_at dksX4_least_1 4 rfl rfl)
theorem dX4_least_31 : decode cX4_least 31 = .ok (.goto 21, 3) := dk_167 0 21 (dk_at dksX4_least_1 7 rfl rfl)
theorem dX4_least_34 : decode cX4_least 34 = .ok (.iload_n 3, 1) := dk_29 (dk_at dksX4_least_1 10 rfl rfl)
theorem dX4_least_35 : decode cX4_least 35 = .ok (.iconst (-1), 1) := dk_2 (dk_at dksX4_least_1 11 rfl rfl)
theorem dX4_least_36 : decode cX4_least 36 = .ok (.if_icmp .ne 16, 3) := dk_160 0 16 (dk_at dksX4_least_1 12 rfl rfl)
theorem dX4_least_39 : decode cX4_least 39 = .ok (.iload 4, 2) := dk_21 4 (dk_at dksX4_least_1 15 rfl rfl)
theorem dX4_least_41 : decode cX4_least 41 = .ok (.iload 5, 2) := dk_21 5 (dk_at dksX4_least_1 17 rfl rfl)
theorem dX4_least_43 : decode cX4_least 43 = .ok (.sipush 2000, 3) := dk_17 7 208 (dk_at dksX4_least_1 19 rfl rfl)
theorem dX4_least_46 : decode cX4_least 46 = .ok (.invokestatic 354, 3) := dk_184 1 98 (dk_at dksX4_least_2 0 rfl rfl)
theorem dX4_least_49 : decode cX4_least 49 = .ok (.ifCond .ne 5, 3) := dk_154 0 5 (dk_at dksX4_least_2 3 rfl rfl)
theorem dX4_least_52 : decode cX4_least 52 = .ok (.iconst (-1), 1) := dk_2 (dk_at dksX4_least_2 6 rfl rfl)
theorem dX4_least_53 : decode cX4_least 53 = .ok (.ireturn, 1) := dk_172 (dk_at dksX4_least_2 7 rfl rfl)
theorem dX4_least_54 : decode cX4_least 54 = .ok (.aload_n 0, 1) := dk_42 (dk_at dksX4_least_2 8 rfl rfl)
theorem dX4_least_55 : decode cX4_least 55 = .ok (.iload_n 1, 1) := dk_27 (dk_at dksX4_least_2 9 rfl rfl)
theorem dX4_least_56 : decode cX4_least 56 = .ok (.iload_n 2, 1) := dk_28 (dk_at dksX4_least_2 10 rfl rfl)
theorem dX4_least_57 : decode cX4_least 57 = .ok (.iload_n 3, 1) := dk_29 (dk_at dksX4_least_2 11 rfl rfl)
theorem dX4_least_58 : decode cX4_least 58 = .ok (.iload 4, 2) := dk_21 4 (dk_at dksX4_least_2 12 rfl rfl)
theorem dX4_least_60 : decode cX4_least 60 = .ok (.iload 5, 2) := dk_21 5 (dk_at dksX4_least_2 14 rfl rfl)
theorem dX4_least_62 : decode cX4_least 62 = .ok (.invokevirtual 357, 3) := dk_182 1 101 (dk_at dksX4_least_2 16 rfl rfl)
theorem dX4_least_65 : decode cX4_least 65 = .ok (.ireturn, 1) := dk_172 (dk_at dksX4_least_2 19 rfl rfl)
abbrev cX4_isSpan : ByteArray := prog_23_method_62_code
def yX4_isSpan : MethodName := ⟨RX4, "isSpan", "(III)Z"⟩
def dkwX4_isSpan_1 : List UInt8 := [27, 26, 161, 0, 14, 27, 26, 100, 28, 163, 0, 7, 4, 167, 0, 4, 3, 172]
abbrev dktX4_isSpan_1 : List UInt8 := dkwX4_isSpan_1 ++ []
def dkwX4_isSpan_0 : List UInt8 := [26, 19, 1, 92, 18, 171, 184, 0, 159, 153, 0, 31, 27, 19, 1, 92, 18, 171, 184, 0, 159, 153, 0, 19]
abbrev dktX4_isSpan_0 : List UInt8 := dkwX4_isSpan_0 ++ dktX4_isSpan_1
theorem dksX4_isSpan_0 : cX4_isSpan.data.toList.drop 0 = dktX4_isSpan_0 := by decide +kernel
theorem dksX4_isSpan_1 : cX4_isSpan.data.toList.drop 24 = dktX4_isSpan_1 := dk_seg dksX4_isSpan_0 24 rfl rfl
theorem dX4_isSpan_0 : decode cX4_isSpan 0 = .ok (.iload_n 0, 1) := dk_26 (dk_at dksX4_isSpan_0 0 rfl rfl)
theorem dX4_isSpan_1 : decode cX4_isSpan 1 = .ok (.ldc_w 348, 3) := dk_19 1 92 (dk_at dksX4_isSpan_0 1 rfl rfl)
theorem dX4_isSpan_4 : decode cX4_isSpan 4 = .ok (.ldc 171, 2) := dk_18 171 (dk_at dksX4_isSpan_0 4 rfl rfl)
theorem dX4_isSpan_6 : decode cX4_isSpan 6 = .ok (.invokestatic 159, 3) := dk_184 0 159 (dk_at dksX4_isSpan_0 6 rfl rfl)
theorem dX4_isSpan_9 : decode cX4_isSpan 9 = .ok (.ifCond .eq 31, 3) := dk_153 0 31 (dk_at dksX4_isSpan_0 9 rfl rfl)
theorem dX4_isSpan_12 : decode cX4_isSpan 12 = .ok (.iload_n 1, 1) := dk_27 (dk_at dksX4_isSpan_0 12 rfl rfl)
theorem dX4_isSpan_13 : decode cX4_isSpan 13 = .ok (.ldc_w 348, 3) := dk_19 1 92 (dk_at dksX4_isSpan_0 13 rfl rfl)
theorem dX4_isSpan_16 : decode cX4_isSpan 16 = .ok (.ldc 171, 2) := dk_18 171 (dk_at dksX4_isSpan_0 16 rfl rfl)
theorem dX4_isSpan_18 : decode cX4_isSpan 18 = .ok (.invokestatic 159, 3) := dk_184 0 159 (dk_at dksX4_isSpan_0 18 rfl rfl)
theorem dX4_isSpan_21 : decode cX4_isSpan 21 = .ok (.ifCond .eq 19, 3) := dk_153 0 19 (dk_at dksX4_isSpan_0 21 rfl rfl)
theorem dX4_isSpan_24 : decode cX4_isSpan 24 = .ok (.iload_n 1, 1) := dk_27 (dk_at dksX4_isSpan_1 0 rfl rfl)
theorem dX4_isSpan_25 : decode cX4_isSpan 25 = .ok (.iload_n 0, 1) := dk_26 (dk_at dksX4_isSpan_1 1 rfl rfl)
theorem dX4_isSpan_26 : decode cX4_isSpan 26 = .ok (.if_icmp .lt 14, 3) := dk_161 0 14 (dk_at dksX4_isSpan_1 2 rfl rfl)
theorem dX4_isSpan_29 : decode cX4_isSpan 29 = .ok (.iload_n 1, 1) := dk_27 (dk_at dksX4_isSpan_1 5 rfl rfl)
theorem dX4_isSpan_30 : decode cX4_isSpan 30 = .ok (.iload_n 0, 1) := dk_26 (dk_at dksX4_isSpan_1 6 rfl rfl)
theorem dX4_isSpan_31 : decode cX4_isSpan 31 = .ok (.isub, 1) := dk_100 (dk_at dksX4_isSpan_1 7 rfl rfl)
theorem dX4_isSpan_32 : decode cX4_isSpan 32 = .ok (.iload_n 2, 1) := dk_28 (dk_at dksX4_isSpan_1 8 rfl rfl)
theorem dX4_isSpan_33 : decode cX4_isSpan 33 = .ok (.if_icmp .gt 7, 3) := dk_163 0 7 (dk_at dksX4_isSpan_1 9 rfl rfl)
theorem dX4_isSpan_36 : decode cX4_isSpan 36 = .ok (.iconst 1, 1) := dk_4 (dk_at dksX4_isSpan_1 12 rfl rfl)
theorem dX4_isSpan_37 : decode cX4_isSpan 37 = .ok (.goto 4, 3) := dk_167 0 4 (dk_at dksX4_isSpan_1 13 rfl rfl)
theorem dX4_isSpan_40 : decode cX4_isSpan 40 = .ok (.iconst 0, 1) := dk_3 (dk_at dksX4_isSpan_1 16 rfl rfl)
theorem dX4_isSpan_41 : decode cX4_isSpan 41 = .ok (.ireturn, 1) := dk_172 (dk_at dksX4_isSpan_1 17 rfl rfl)
abbrev cX4_leastOf : ByteArray := prog_23_method_63_code
def yX4_leastOf : MethodName := ⟨RX4, "leastOf", "(IIIII)I"⟩
def dkwX4_leastOf_1 : List UInt8 := [21, 6, 172, 132, 6, 1, 167, 255, 231, 19, 1, 97, 172]
abbrev dktX4_leastOf_1 : List UInt8 := dkwX4_leastOf_1 ++ []
def dkwX4_leastOf_0 : List UInt8 := [21, 4, 54, 6, 21, 6, 21, 5, 163, 0, 24, 42, 27, 28, 29, 21, 6, 182, 1, 93, 153, 0, 6]
abbrev dktX4_leastOf_0 : List UInt8 := dkwX4_leastOf_0 ++ dktX4_leastOf_1
theorem dksX4_leastOf_0 : cX4_leastOf.data.toList.drop 0 = dktX4_leastOf_0 := by decide +kernel
theorem dksX4_leastOf_1 : cX4_leastOf.data.toList.drop 23 = dktX4_leastOf_1 := dk_seg dksX4_leastOf_0 23 rfl rfl
theorem dX4_leastOf_0 : decode cX4_leastOf 0 = .ok (.iload 4, 2) := dk_21 4 (dk_at dksX4_leastOf_0 0 rfl rfl)
theorem dX4_leastOf_2 : decode cX4_leastOf 2 = .ok (.istore 6, 2) := dk_54 6 (dk_at dksX4_leastOf_0 2 rfl rfl)
theorem dX4_leastOf_4 : decode cX4_leastOf 4 = .ok (.iload 6, 2) := dk_21 6 (dk_at dksX4_leastOf_0 4 rfl rfl)
theorem dX4_leastOf_6 : decode cX4_leastOf 6 = .ok (.iload 5, 2) := dk_21 5 (dk_at dksX4_leastOf_0 6 rfl rfl)
theorem dX4_leastOf_8 : decode cX4_leastOf 8 = .ok (.if_icmp .gt 24, 3) := dk_163 0 24 (dk_at dksX4_leastOf_0 8 rfl rfl)
theorem dX4_leastOf_11 : decode cX4_leastOf 11 = .ok (.aload_n 0, 1) := dk_42 (dk_at dksX4_leastOf_0 11 rfl rfl)
theorem dX4_leastOf_12 : decode cX4_leastOf 12 = .ok (.iload_n 1, 1) := dk_27 (dk_at dksX4_leastOf_0 12 rfl rfl)
theorem dX4_leastOf_13 : decode cX4_leastOf 13 = .ok (.iload_n 2, 1) := dk_28 (dk_at dksX4_leastOf_0 13 rfl rfl)
theorem dX4_leastOf_14 : decode cX4_leastOf 14 = .ok (.iload_n 3, 1) := dk_29 (dk_at dksX4_leastOf_0 14 rfl rfl)
theorem dX4_leastOf_15 : decode cX4_leastOf 15 = .ok (.iload 6, 2) := dk_21 6 (dk_at dksX4_leastOf_0 15 rfl rfl)
theorem dX4_leastOf_17 : decode cX4_leastOf 17 = .ok (.invokevirtual 349, 3) := dk_182 1 93 (dk_at dksX4_leastOf_0 17 rfl rfl)
theorem dX4_leastOf_20 : decode cX4_leastOf 20 = .ok (.ifCond .eq 6, 3) := dk_153 0 6 (dk_at dksX4_leastOf_0 20 rfl rfl)
theorem dX4_leastOf_23 : decode cX4_leastOf 23 = .ok (.iload 6, 2) := dk_21 6 (dk_at dksX4_leastOf_1 0 rfl rfl)
theorem dX4_leastOf_25 : decode cX4_leastOf 25 = .ok (.ireturn, 1) := dk_172 (dk_at dksX4_leastOf_1 2 rfl rfl)
theorem dX4_leastOf_26 : decode cX4_leastOf 26 = .ok (.iinc 6 1, 3) := dk_132 6 1 (dk_at dksX4_leastOf_1 3 rfl rfl)
theorem dX4_leastOf_29 : decode cX4_leastOf 29 = .ok (.goto (-25), 3) := dk_167 255 231 (dk_at dksX4_leastOf_1 6 rfl rfl)
theorem dX4_leastOf_32 : decode cX4_leastOf 32 = .ok (.ldc_w 353, 3) := dk_19 1 97 (dk_at dksX4_leastOf_1 9 rfl rfl)
theorem dX4_leastOf_35 : decode cX4_leastOf 35 = .ok (.ireturn, 1) := dk_172 (dk_at dksX4_leastOf_1 12 rfl rfl)
abbrev cX4_breaks : ByteArray := prog_23_method_55_code
def yX4_breaks : MethodName := ⟨RX4, "breaks", "(IIII)Z"⟩
def dkwX4_breaks_9 : List UInt8 := [153, 0, 5, 3, 172, 42, 182, 1, 37, 42, 27, 21, 4, 182, 1, 49, 42, 10, 182, 1, 42, 172]
abbrev dktX4_breaks_9 : List UInt8 := dkwX4_breaks_9 ++ []
def dkwX4_breaks_8 : List UInt8 := [21, 5, 172, 21, 5, 154, 0, 14, 42, 180, 0, 235, 158, 0, 7, 4, 167, 0, 4, 3, 172, 21, 5]
abbrev dktX4_breaks_8 : List UInt8 := dkwX4_breaks_8 ++ dktX4_breaks_9
def dkwX4_breaks_7 : List UInt8 := [4, 167, 0, 4, 3, 172, 21, 5, 154, 0, 14, 42, 182, 1, 45, 153, 0, 7, 4, 167, 0, 4, 3, 172]
abbrev dktX4_breaks_7 : List UInt8 := dkwX4_breaks_7 ++ dktX4_breaks_8
def dkwX4_breaks_6 : List UInt8 := [29, 21, 4, 182, 1, 34, 21, 5, 160, 0, 16, 21, 5, 154, 0, 15, 42, 10, 182, 1, 42, 153, 0, 7]
abbrev dktX4_breaks_6 : List UInt8 := dkwX4_breaks_6 ++ dktX4_breaks_7
def dkwX4_breaks_5 : List UInt8 := [154, 0, 17, 42, 20, 1, 40, 182, 1, 42, 153, 0, 7, 4, 167, 0, 4, 3, 172, 42, 182, 1, 37, 42]
abbrev dktX4_breaks_5 : List UInt8 := dkwX4_breaks_5 ++ dktX4_breaks_6
def dkwX4_breaks_4 : List UInt8 := [167, 0, 4, 3, 172, 42, 182, 1, 37, 42, 27, 21, 4, 116, 182, 1, 34, 21, 5, 160, 0, 18, 21, 5]
abbrev dktX4_breaks_4 : List UInt8 := dkwX4_breaks_4 ++ dktX4_breaks_5
def dkwX4_breaks_3 : List UInt8 := [47, 97, 55, 6, 132, 8, 1, 167, 255, 231, 21, 5, 154, 0, 14, 22, 6, 9, 148, 153, 0, 7, 4]
abbrev dktX4_breaks_3 : List UInt8 := dkwX4_breaks_3 ++ dktX4_breaks_4
def dkwX4_breaks_2 : List UInt8 := [9, 55, 6, 3, 54, 8, 21, 8, 16, 8, 162, 0, 24, 22, 6, 42, 180, 0, 60, 16, 8, 21, 8, 96]
abbrev dktX4_breaks_2 : List UInt8 := dkwX4_breaks_2 ++ dktX4_breaks_3
def dkwX4_breaks_1 : List UInt8 := [170, 0, 0, 0, 0, 202, 0, 0, 0, 0, 0, 0, 0, 5, 0, 0, 0, 38, 0, 0, 0, 90, 0, 0, 0, 128, 0, 0, 0, 163, 0, 0, 0, 181, 0, 0, 0, 184]
abbrev dktX4_breaks_1 : List UInt8 := dkwX4_breaks_1 ++ dktX4_breaks_2
def dkwX4_breaks_0 : List UInt8 := [42, 27, 21, 4, 182, 1, 34, 54, 5, 28]
abbrev dktX4_breaks_0 : List UInt8 := dkwX4_breaks_0 ++ dktX4_breaks_1
theorem dksX4_breaks_0 : cX4_breaks.data.toList.drop 0 = dktX4_breaks_0 := by decide +kernel
theorem dksX4_breaks_1 : cX4_breaks.data.toList.drop 10 = dktX4_breaks_1 := dk_seg dksX4_breaks_0 10 rfl rfl
theorem dksX4_breaks_2 : cX4_breaks.data.toList.drop 48 = dktX4_breaks_2 := dk_seg dksX4_breaks_1 38 rfl rfl
theorem dksX4_breaks_3 : cX4_breaks.data.toList.drop 72 = dktX4_breaks_3 := dk_seg dksX4_breaks_2 24 rfl rfl
theorem dksX4_breaks_4 : cX4_breaks.data.toList.drop 95 = dktX4_breaks_4 := dk_seg dksX4_breaks_3 23 rfl rfl
theorem dksX4_breaks_5 : cX4_breaks.data.toList.drop 119 = dktX4_breaks_5 := dk_seg dksX4_breaks_4 24 rfl rfl
theorem dksX4_breaks_6 : cX4_breaks.data.toList.drop 143 = dktX4_breaks_6 := dk_seg dksX4_breaks_5 24 rfl rfl
theorem dksX4_breaks_7 : cX4_breaks.data.toList.drop 167 = dktX4_breaks_7 := dk_seg dksX4_breaks_6 24 rfl rfl
theorem dksX4_breaks_8 : cX4_breaks.data.toList.drop 191 = dktX4_breaks_8 := dk_seg dksX4_breaks_7 24 rfl rfl
theorem dksX4_breaks_9 : cX4_breaks.data.toList.drop 214 = dktX4_breaks_9 := dk_seg dksX4_breaks_8 23 rfl rfl
theorem dX4_breaks_0 : decode cX4_breaks 0 = .ok (.aload_n 0, 1) := dk_42 (dk_at dksX4_breaks_0 0 rfl rfl)
theorem dX4_breaks_1 : decode cX4_breaks 1 = .ok (.iload_n 1, 1) := dk_27 (dk_at dksX4_breaks_0 1 rfl rfl)
theorem dX4_breaks_2 : decode cX4_breaks 2 = .ok (.iload 4, 2) := dk_21 4 (dk_at dksX4_breaks_0 2 rfl rfl)
theorem dX4_breaks_4 : decode cX4_breaks 4 = .ok (.invokevirtual 290, 3) := dk_182 1 34 (dk_at dksX4_breaks_0 4 rfl rfl)
theorem dX4_breaks_7 : decode cX4_breaks 7 = .ok (.istore 5, 2) := dk_54 5 (dk_at dksX4_breaks_0 7 rfl rfl)
theorem dX4_breaks_9 : decode cX4_breaks 9 = .ok (.iload_n 2, 1) := dk_28 (dk_at dksX4_breaks_0 9 rfl rfl)
theorem dX4_breaks_10 : decode cX4_breaks 10 = .ok (.tableswitch 202 0 5 #[38, 90, 128, 163, 181, 184], 38) := by decide +kernel
theorem dX4_breaks_48 : decode cX4_breaks 48 = .ok (.lconst 0, 1) := dk_9 (dk_at dksX4_breaks_2 0 rfl rfl)
theorem dX4_breaks_49 : decode cX4_breaks 49 = .ok (.lstore 6, 2) := dk_55 6 (dk_at dksX4_breaks_2 1 rfl rfl)
theorem dX4_breaks_51 : decode cX4_breaks 51 = .ok (.iconst 0, 1) := dk_3 (dk_at dksX4_breaks_2 3 rfl rfl)
theorem dX4_breaks_52 : decode cX4_breaks 52 = .ok (.istore 8, 2) := dk_54 8 (dk_at dksX4_breaks_2 4 rfl rfl)
theorem dX4_breaks_54 : decode cX4_breaks 54 = .ok (.iload 8, 2) := dk_21 8 (dk_at dksX4_breaks_2 6 rfl rfl)
theorem dX4_breaks_56 : decode cX4_breaks 56 = .ok (.bipush 8, 2) := dk_16 8 (dk_at dksX4_breaks_2 8 rfl rfl)
theorem dX4_breaks_58 : decode cX4_breaks 58 = .ok (.if_icmp .ge 24, 3) := dk_162 0 24 (dk_at dksX4_breaks_2 10 rfl rfl)
theorem dX4_breaks_61 : decode cX4_breaks 61 = .ok (.lload 6, 2) := dk_22 6 (dk_at dksX4_breaks_2 13 rfl rfl)
theorem dX4_breaks_63 : decode cX4_breaks 63 = .ok (.aload_n 0, 1) := dk_42 (dk_at dksX4_breaks_2 15 rfl rfl)
theorem dX4_breaks_64 : decode cX4_breaks 64 = .ok (.getfield 60, 3) := dk_180 0 60 (dk_at dksX4_breaks_2 16 rfl rfl)
theorem dX4_breaks_67 : decode cX4_breaks 67 = .ok (.bipush 8, 2) := dk_16 8 (dk_at dksX4_breaks_2 19 rfl rfl)
theorem dX4_breaks_69 : decode cX4_breaks 69 = .ok (.iload 8, 2) := dk_21 8 (dk_at dksX4_breaks_2 21 rfl rfl)
theorem dX4_breaks_71 : decode cX4_breaks 71 = .ok (.iadd, 1) := dk_96 (dk_at dksX4_breaks_2 23 rfl rfl)
theorem dX4_breaks_72 : decode cX4_breaks 72 = .ok (.laload, 1) := dk_47 (dk_at dksX4_breaks_3 0 rfl rfl)
theorem dX4_breaks_73 : decode cX4_breaks 73 = .ok (.ladd, 1) := dk_97 (dk_at dksX4_breaks_3 1 rfl rfl)
theorem dX4_breaks_74 : decode cX4_breaks 74 = .ok (.lstore 6, 2) := dk_55 6 (dk_at dksX4_breaks_3 2 rfl rfl)
theorem dX4_breaks_76 : decode cX4_breaks 76 = .ok (.iinc 8 1, 3) := dk_132 8 1 (dk_at dksX4_breaks_3 4 rfl rfl)
theorem dX4_breaks_79 : decode cX4_breaks 79 = .ok (.goto (-25), 3) := dk_167 255 231 (dk_at dksX4_breaks_3 7 rfl rfl)
theorem dX4_breaks_82 : decode cX4_breaks 82 = .ok (.iload 5, 2) := dk_21 5 (dk_at dksX4_breaks_3 10 rfl rfl)
theorem dX4_breaks_84 : decode cX4_breaks 84 = .ok (.ifCond .ne 14, 3) := dk_154 0 14 (dk_at dksX4_breaks_3 12 rfl rfl)
theorem dX4_breaks_87 : decode cX4_breaks 87 = .ok (.lload 6, 2) := dk_22 6 (dk_at dksX4_breaks_3 15 rfl rfl)
theorem dX4_breaks_89 : decode cX4_breaks 89 = .ok (.lconst 0, 1) := dk_9 (dk_at dksX4_breaks_3 17 rfl rfl)
theorem dX4_breaks_90 : decode cX4_breaks 90 = .ok (.lcmp, 1) := dk_148 (dk_at dksX4_breaks_3 18 rfl rfl)
theorem dX4_breaks_91 : decode cX4_breaks 91 = .ok (.ifCond .eq 7, 3) := dk_153 0 7 (dk_at dksX4_breaks_3 19 rfl rfl)
theorem dX4_breaks_94 : decode cX4_breaks 94 = .ok (.iconst 1, 1) := dk_4 (dk_at dksX4_breaks_3 22 rfl rfl)
theorem dX4_breaks_95 : decode cX4_breaks 95 = .ok (.goto 4, 3) := dk_167 0 4 (dk_at dksX4_breaks_4 0 rfl rfl)
theorem dX4_breaks_98 : decode cX4_breaks 98 = .ok (.iconst 0, 1) := dk_3 (dk_at dksX4_breaks_4 3 rfl rfl)
theorem dX4_breaks_99 : decode cX4_breaks 99 = .ok (.ireturn, 1) := dk_172 (dk_at dksX4_breaks_4 4 rfl rfl)
theorem dX4_breaks_100 : decode cX4_breaks 100 = .ok (.aload_n 0, 1) := dk_42 (dk_at dksX4_breaks_4 5 rfl rfl)
theorem dX4_breaks_101 : decode cX4_breaks 101 = .ok (.invokevirtual 293, 3) := dk_182 1 37 (dk_at dksX4_breaks_4 6 rfl rfl)
theorem dX4_breaks_104 : decode cX4_breaks 104 = .ok (.aload_n 0, 1) := dk_42 (dk_at dksX4_breaks_4 9 rfl rfl)
theorem dX4_breaks_105 : decode cX4_breaks 105 = .ok (.iload_n 1, 1) := dk_27 (dk_at dksX4_breaks_4 10 rfl rfl)
theorem dX4_breaks_106 : decode cX4_breaks 106 = .ok (.iload 4, 2) := dk_21 4 (dk_at dksX4_breaks_4 11 rfl rfl)
theorem dX4_breaks_108 : decode cX4_breaks 108 = .ok (.ineg, 1) := dk_116 (dk_at dksX4_breaks_4 13 rfl rfl)
theorem dX4_breaks_109 : decode cX4_breaks 109 = .ok (.invokevirtual 290, 3) := dk_182 1 34 (dk_at dksX4_breaks_4 14 rfl rfl)
theorem dX4_breaks_112 : decode cX4_breaks 112 = .ok (.iload 5, 2) := dk_21 5 (dk_at dksX4_breaks_4 17 rfl rfl)
theorem dX4_breaks_114 : decode cX4_breaks 114 = .ok (.if_icmp .ne 18, 3) := dk_160 0 18 (dk_at dksX4_breaks_4 19 rfl rfl)
theorem dX4_breaks_117 : decode cX4_breaks 117 = .ok (.iload 5, 2) := dk_21 5 (dk_at dksX4_breaks_4 22 rfl rfl)
theorem dX4_breaks_119 : decode cX4_breaks 119 = .ok (.ifCond .ne 17, 3) := dk_154 0 17 (dk_at dksX4_breaks_5 0 rfl rfl)
theorem dX4_breaks_122 : decode cX4_breaks 122 = .ok (.aload_n 0, 1) := dk_42 (dk_at dksX4_breaks_5 3 rfl rfl)
theorem dX4_breaks_123 : decode cX4_breaks 123 = .ok (.ldc2_w 296, 3) := dk_20 1 40 (dk_at dksX4_breaks_5 4 rfl rfl)
theorem dX4_breaks_126 : decode cX4_breaks 126 = .ok (.invokevirtual 298, 3) := dk_182 1 42 (dk_at dksX4_breaks_5 7 rfl rfl)
theorem dX4_breaks_129 : decode cX4_breaks 129 = .ok (.ifCond .eq 7, 3) := dk_153 0 7 (dk_at dksX4_breaks_5 10 rfl rfl)
theorem dX4_breaks_132 : decode cX4_breaks 132 = .ok (.iconst 1, 1) := dk_4 (dk_at dksX4_breaks_5 13 rfl rfl)
theorem dX4_breaks_133 : decode cX4_breaks 133 = .ok (.goto 4, 3) := dk_167 0 4 (dk_at dksX4_breaks_5 14 rfl rfl)
theorem dX4_breaks_136 : decode cX4_breaks 136 = .ok (.iconst 0, 1) := dk_3 (dk_at dksX4_breaks_5 17 rfl rfl)
theorem dX4_breaks_137 : decode cX4_breaks 137 = .ok (.ireturn, 1) := dk_172 (dk_at dksX4_breaks_5 18 rfl rfl)
theorem dX4_breaks_138 : decode cX4_breaks 138 = .ok (.aload_n 0, 1) := dk_42 (dk_at dksX4_breaks_5 19 rfl rfl)
theorem dX4_breaks_139 : decode cX4_breaks 139 = .ok (.invokevirtual 293, 3) := dk_182 1 37 (dk_at dksX4_breaks_5 20 rfl rfl)
theorem dX4_breaks_142 : decode cX4_breaks 142 = .ok (.aload_n 0, 1) := dk_42 (dk_at dksX4_breaks_5 23 rfl rfl)
theorem dX4_breaks_143 : decode cX4_breaks 143 = .ok (.iload_n 3, 1) := dk_29 (dk_at dksX4_breaks_6 0 rfl rfl)
theorem dX4_breaks_144 : decode cX4_breaks 144 = .ok (.iload 4, 2) := dk_21 4 (dk_at dksX4_breaks_6 1 rfl rfl)
theorem dX4_breaks_146 : decode cX4_breaks 146 = .ok (.invokevirtual 290, 3) := dk_182 1 34 (dk_at dksX4_breaks_6 3 rfl rfl)
theorem dX4_breaks_149 : decode cX4_breaks 149 = .ok (.iload 5, 2) := dk_21 5 (dk_at dksX4_breaks_6 6 rfl rfl)
theorem dX4_breaks_151 : decode cX4_breaks 151 = .ok (.if_icmp .ne 16, 3) := dk_160 0 16 (dk_at dksX4_breaks_6 8 rfl rfl)
theorem dX4_breaks_154 : decode cX4_breaks 154 = .ok (.iload 5, 2) := dk_21 5 (dk_at dksX4_breaks_6 11 rfl rfl)
theorem dX4_breaks_156 : decode cX4_breaks 156 = .ok (.ifCond .ne 15, 3) := dk_154 0 15 (dk_at dksX4_breaks_6 13 rfl rfl)
theorem dX4_breaks_159 : decode cX4_breaks 159 = .ok (.aload_n 0, 1) := dk_42 (dk_at dksX4_breaks_6 16 rfl rfl)
theorem dX4_breaks_160 : decode cX4_breaks 160 = .ok (.lconst 1, 1) := dk_10 (dk_at dksX4_breaks_6 17 rfl rfl)
theorem dX4_breaks_161 : decode cX4_breaks 161 = .ok (.invokevirtual 298, 3) := dk_182 1 42 (dk_at dksX4_breaks_6 18 rfl rfl)
theorem dX4_breaks_164 : decode cX4_breaks 164 = .ok (.ifCond .eq 7, 3) := dk_153 0 7 (dk_at dksX4_breaks_6 21 rfl rfl)
theorem dX4_breaks_167 : decode cX4_breaks 167 = .ok (.iconst 1, 1) := dk_4 (dk_at dksX4_breaks_7 0 rfl rfl)
theorem dX4_breaks_168 : decode cX4_breaks 168 = .ok (.goto 4, 3) := dk_167 0 4 (dk_at dksX4_breaks_7 1 rfl rfl)
theorem dX4_breaks_171 : decode cX4_breaks 171 = .ok (.iconst 0, 1) := dk_3 (dk_at dksX4_breaks_7 4 rfl rfl)
theorem dX4_breaks_172 : decode cX4_breaks 172 = .ok (.ireturn, 1) := dk_172 (dk_at dksX4_breaks_7 5 rfl rfl)
theorem dX4_breaks_173 : decode cX4_breaks 173 = .ok (.iload 5, 2) := dk_21 5 (dk_at dksX4_breaks_7 6 rfl rfl)
theorem dX4_breaks_175 : decode cX4_breaks 175 = .ok (.ifCond .ne 14, 3) := dk_154 0 14 (dk_at dksX4_breaks_7 8 rfl rfl)
theorem dX4_breaks_178 : decode cX4_breaks 178 = .ok (.aload_n 0, 1) := dk_42 (dk_at dksX4_breaks_7 11 rfl rfl)
theorem dX4_breaks_179 : decode cX4_breaks 179 = .ok (.invokevirtual 301, 3) := dk_182 1 45 (dk_at dksX4_breaks_7 12 rfl rfl)
theorem dX4_breaks_182 : decode cX4_breaks 182 = .ok (.ifCond .eq 7, 3) := dk_153 0 7 (dk_at dksX4_breaks_7 15 rfl rfl)
theorem dX4_breaks_185 : decode cX4_breaks 185 = .ok (.iconst 1, 1) := dk_4 (dk_at dksX4_breaks_7 18 rfl rfl)
theorem dX4_breaks_186 : decode cX4_breaks 186 = .ok (.goto 4, 3) := dk_167 0 4 (dk_at dksX4_breaks_7 19 rfl rfl)
theorem dX4_breaks_189 : decode cX4_breaks 189 = .ok (.iconst 0, 1) := dk_3 (dk_at dksX4_breaks_7 22 rfl rfl)
theorem dX4_breaks_190 : decode cX4_breaks 190 = .ok (.ireturn, 1) := dk_172 (dk_at dksX4_breaks_7 23 rfl rfl)
theorem dX4_breaks_191 : decode cX4_breaks 191 = .ok (.iload 5, 2) := dk_21 5 (dk_at dksX4_breaks_8 0 rfl rfl)
theorem dX4_breaks_193 : decode cX4_breaks 193 = .ok (.ireturn, 1) := dk_172 (dk_at dksX4_breaks_8 2 rfl rfl)
theorem dX4_breaks_194 : decode cX4_breaks 194 = .ok (.iload 5, 2) := dk_21 5 (dk_at dksX4_breaks_8 3 rfl rfl)
theorem dX4_breaks_196 : decode cX4_breaks 196 = .ok (.ifCond .ne 14, 3) := dk_154 0 14 (dk_at dksX4_breaks_8 5 rfl rfl)
theorem dX4_breaks_199 : decode cX4_breaks 199 = .ok (.aload_n 0, 1) := dk_42 (dk_at dksX4_breaks_8 8 rfl rfl)
theorem dX4_breaks_200 : decode cX4_breaks 200 = .ok (.getfield 235, 3) := dk_180 0 235 (dk_at dksX4_breaks_8 9 rfl rfl)
theorem dX4_breaks_203 : decode cX4_breaks 203 = .ok (.ifCond .le 7, 3) := dk_158 0 7 (dk_at dksX4_breaks_8 12 rfl rfl)
theorem dX4_breaks_206 : decode cX4_breaks 206 = .ok (.iconst 1, 1) := dk_4 (dk_at dksX4_breaks_8 15 rfl rfl)
theorem dX4_breaks_207 : decode cX4_breaks 207 = .ok (.goto 4, 3) := dk_167 0 4 (dk_at dksX4_breaks_8 16 rfl rfl)
theorem dX4_breaks_210 : decode cX4_breaks 210 = .ok (.iconst 0, 1) := dk_3 (dk_at dksX4_breaks_8 19 rfl rfl)
theorem dX4_breaks_211 : decode cX4_breaks 211 = .ok (.ireturn, 1) := dk_172 (dk_at dksX4_breaks_8 20 rfl rfl)
theorem dX4_breaks_212 : decode cX4_breaks 212 = .ok (.iload 5, 2) := dk_21 5 (dk_at dksX4_breaks_8 21 rfl rfl)
theorem dX4_breaks_214 : decode cX4_breaks 214 = .ok (.ifCond .eq 5, 3) := dk_153 0 5 (dk_at dksX4_breaks_9 0 rfl rfl)
theorem dX4_breaks_217 : decode cX4_breaks 217 = .ok (.iconst 0, 1) := dk_3 (dk_at dksX4_breaks_9 3 rfl rfl)
theorem dX4_breaks_218 : decode cX4_breaks 218 = .ok (.ireturn, 1) := dk_172 (dk_at dksX4_breaks_9 4 rfl rfl)
theorem dX4_breaks_219 : decode cX4_breaks 219 = .ok (.aload_n 0, 1) := dk_42 (dk_at dksX4_breaks_9 5 rfl rfl)
theorem dX4_breaks_220 : decode cX4_breaks 220 = .ok (.invokevirtual 293, 3) := dk_182 1 37 (dk_at dksX4_breaks_9 6 rfl rfl)
theorem dX4_breaks_223 : decode cX4_breaks 223 = .ok (.aload_n 0, 1) := dk_42 (dk_at dksX4_breaks_9 9 rfl rfl)
theorem dX4_breaks_224 : decode cX4_breaks 224 = .ok (.iload_n 1, 1) := dk_27 (dk_at dksX4_breaks_9 10 rfl rfl)
theorem dX4_breaks_225 : decode cX4_breaks 225 = .ok (.iload 4, 2) := dk_21 4 (dk_at dksX4_breaks_9 11 rfl rfl)
theorem dX4_breaks_227 : decode cX4_breaks 227 = .ok (.invokevirtual 305, 3) := dk_182 1 49 (dk_at dksX4_breaks_9 13 rfl rfl)
theorem dX4_breaks_230 : decode cX4_breaks 230 = .ok (.aload_n 0, 1) := dk_42 (dk_at dksX4_breaks_9 16 rfl rfl)
theorem dX4_breaks_231 : decode cX4_breaks 231 = .ok (.lconst 1, 1) := dk_10 (dk_at dksX4_breaks_9 17 rfl rfl)
theorem dX4_breaks_232 : decode cX4_breaks 232 = .ok (.invokevirtual 298, 3) := dk_182 1 42 (dk_at dksX4_breaks_9 18 rfl rfl)
theorem dX4_breaks_235 : decode cX4_breaks 235 = .ok (.ireturn, 1) := dk_172 (dk_at dksX4_breaks_9 21 rfl rfl)
abbrev cX4_triesAmount : ByteArray := prog_23_method_51_code
def yX4_triesAmount : MethodName := ⟨RX4, "triesAmount", "(II)Z"⟩
def dkwX4_triesAmount_0 : List UInt8 := [42, 4, 181, 0, 209, 42, 180, 0, 44, 3, 28, 79, 42, 27, 182, 1, 31, 172]
abbrev dktX4_triesAmount_0 : List UInt8 := dkwX4_triesAmount_0 ++ []
theorem dksX4_triesAmount_0 : cX4_triesAmount.data.toList.drop 0 = dktX4_triesAmount_0 := by decide +kernel
theorem dX4_triesAmount_0 : decode cX4_triesAmount 0 = .ok (.aload_n 0, 1) := dk_42 (dk_at dksX4_triesAmount_0 0 rfl rfl)
theorem dX4_triesAmount_1 : decode cX4_triesAmount 1 = .ok (.iconst 1, 1) := dk_4 (dk_at dksX4_triesAmount_0 1 rfl rfl)
theorem dX4_triesAmount_2 : decode cX4_triesAmount 2 = .ok (.putfield 209, 3) := dk_181 0 209 (dk_at dksX4_triesAmount_0 2 rfl rfl)
theorem dX4_triesAmount_5 : decode cX4_triesAmount 5 = .ok (.aload_n 0, 1) := dk_42 (dk_at dksX4_triesAmount_0 5 rfl rfl)
theorem dX4_triesAmount_6 : decode cX4_triesAmount 6 = .ok (.getfield 44, 3) := dk_180 0 44 (dk_at dksX4_triesAmount_0 6 rfl rfl)
theorem dX4_triesAmount_9 : decode cX4_triesAmount 9 = .ok (.iconst 0, 1) := dk_3 (dk_at dksX4_triesAmount_0 9 rfl rfl)
theorem dX4_triesAmount_10 : decode cX4_triesAmount 10 = .ok (.iload_n 2, 1) := dk_28 (dk_at dksX4_triesAmount_0 10 rfl rfl)
theorem dX4_triesAmount_11 : decode cX4_triesAmount 11 = .ok (.iastore, 1) := dk_79 (dk_at dksX4_triesAmount_0 11 rfl rfl)
theorem dX4_triesAmount_12 : decode cX4_triesAmount 12 = .ok (.aload_n 0, 1) := dk_42 (dk_at dksX4_triesAmount_0 12 rfl rfl)
theorem dX4_triesAmount_13 : decode cX4_triesAmount 13 = .ok (.iload_n 1, 1) := dk_27 (dk_at dksX4_triesAmount_0 13 rfl rfl)
theorem dX4_triesAmount_14 : decode cX4_triesAmount 14 = .ok (.invokevirtual 287, 3) := dk_182 1 31 (dk_at dksX4_triesAmount_0 14 rfl rfl)
theorem dX4_triesAmount_17 : decode cX4_triesAmount 17 = .ok (.ireturn, 1) := dk_172 (dk_at dksX4_triesAmount_0 17 rfl rfl)
abbrev cX4_tries : ByteArray := prog_23_method_50_code
def yX4_tries : MethodName := ⟨RX4, "tries", "(I)Z"⟩
def dkwX4_tries_2 : List UInt8 := [42, 27, 182, 1, 21, 61, 42, 3, 181, 0, 146, 28, 16, 254, 159, 0, 7, 4, 167, 0, 4, 3, 172]
abbrev dktX4_tries_2 : List UInt8 := dkwX4_tries_2 ++ []
def dkwX4_tries_1 : List UInt8 := [132, 2, 1, 167, 255, 237, 42, 180, 0, 63, 7, 27, 96, 9, 80, 42, 180, 0, 66, 7, 27, 96, 10, 80]
abbrev dktX4_tries_1 : List UInt8 := dkwX4_tries_1 ++ dktX4_tries_2
def dkwX4_tries_0 : List UInt8 := [42, 4, 181, 0, 146, 3, 61, 28, 16, 8, 162, 0, 19, 42, 180, 0, 60, 16, 8, 28, 96, 9, 80]
abbrev dktX4_tries_0 : List UInt8 := dkwX4_tries_0 ++ dktX4_tries_1
theorem dksX4_tries_0 : cX4_tries.data.toList.drop 0 = dktX4_tries_0 := by decide +kernel
theorem dksX4_tries_1 : cX4_tries.data.toList.drop 23 = dktX4_tries_1 := dk_seg dksX4_tries_0 23 rfl rfl
theorem dksX4_tries_2 : cX4_tries.data.toList.drop 47 = dktX4_tries_2 := dk_seg dksX4_tries_1 24 rfl rfl
theorem dX4_tries_0 : decode cX4_tries 0 = .ok (.aload_n 0, 1) := dk_42 (dk_at dksX4_tries_0 0 rfl rfl)
theorem dX4_tries_1 : decode cX4_tries 1 = .ok (.iconst 1, 1) := dk_4 (dk_at dksX4_tries_0 1 rfl rfl)
theorem dX4_tries_2 : decode cX4_tries 2 = .ok (.putfield 146, 3) := dk_181 0 146 (dk_at dksX4_tries_0 2 rfl rfl)
theorem dX4_tries_5 : decode cX4_tries 5 = .ok (.iconst 0, 1) := dk_3 (dk_at dksX4_tries_0 5 rfl rfl)
theorem dX4_tries_6 : decode cX4_tries 6 = .ok (.istore_n 2, 1) := dk_61 (dk_at dksX4_tries_0 6 rfl rfl)
theorem dX4_tries_7 : decode cX4_tries 7 = .ok (.iload_n 2, 1) := dk_28 (dk_at dksX4_tries_0 7 rfl rfl)
theorem dX4_tries_8 : decode cX4_tries 8 = .ok (.bipush 8, 2) := dk_16 8 (dk_at dksX4_tries_0 8 rfl rfl)
theorem dX4_tries_10 : decode cX4_tries 10 = .ok (.if_icmp .ge 19, 3) := dk_162 0 19 (dk_at dksX4_tries_0 10 rfl rfl)
theorem dX4_tries_13 : decode cX4_tries 13 = .ok (.aload_n 0, 1) := dk_42 (dk_at dksX4_tries_0 13 rfl rfl)
theorem dX4_tries_14 : decode cX4_tries 14 = .ok (.getfield 60, 3) := dk_180 0 60 (dk_at dksX4_tries_0 14 rfl rfl)
theorem dX4_tries_17 : decode cX4_tries 17 = .ok (.bipush 8, 2) := dk_16 8 (dk_at dksX4_tries_0 17 rfl rfl)
theorem dX4_tries_19 : decode cX4_tries 19 = .ok (.iload_n 2, 1) := dk_28 (dk_at dksX4_tries_0 19 rfl rfl)
theorem dX4_tries_20 : decode cX4_tries 20 = .ok (.iadd, 1) := dk_96 (dk_at dksX4_tries_0 20 rfl rfl)
theorem dX4_tries_21 : decode cX4_tries 21 = .ok (.lconst 0, 1) := dk_9 (dk_at dksX4_tries_0 21 rfl rfl)
theorem dX4_tries_22 : decode cX4_tries 22 = .ok (.lastore, 1) := dk_80 (dk_at dksX4_tries_0 22 rfl rfl)
theorem dX4_tries_23 : decode cX4_tries 23 = .ok (.iinc 2 1, 3) := dk_132 2 1 (dk_at dksX4_tries_1 0 rfl rfl)
theorem dX4_tries_26 : decode cX4_tries 26 = .ok (.goto (-19), 3) := dk_167 255 237 (dk_at dksX4_tries_1 3 rfl rfl)
theorem dX4_tries_29 : decode cX4_tries 29 = .ok (.aload_n 0, 1) := dk_42 (dk_at dksX4_tries_1 6 rfl rfl)
theorem dX4_tries_30 : decode cX4_tries 30 = .ok (.getfield 63, 3) := dk_180 0 63 (dk_at dksX4_tries_1 7 rfl rfl)
theorem dX4_tries_33 : decode cX4_tries 33 = .ok (.iconst 4, 1) := dk_7 (dk_at dksX4_tries_1 10 rfl rfl)
theorem dX4_tries_34 : decode cX4_tries 34 = .ok (.iload_n 1, 1) := dk_27 (dk_at dksX4_tries_1 11 rfl rfl)
theorem dX4_tries_35 : decode cX4_tries 35 = .ok (.iadd, 1) := dk_96 (dk_at dksX4_tries_1 12 rfl rfl)
theorem dX4_tries_36 : decode cX4_tries 36 = .ok (.lconst 0, 1) := dk_9 (dk_at dksX4_tries_1 13 rfl rfl)
theorem dX4_tries_37 : decode cX4_tries 37 = .ok (.lastore, 1) := dk_80 (dk_at dksX4_tries_1 14 rfl rfl)
theorem dX4_tries_38 : decode cX4_tries 38 = .ok (.aload_n 0, 1) := dk_42 (dk_at dksX4_tries_1 15 rfl rfl)
theorem dX4_tries_39 : decode cX4_tries 39 = .ok (.getfield 66, 3) := dk_180 0 66 (dk_at dksX4_tries_1 16 rfl rfl)
theorem dX4_tries_42 : decode cX4_tries 42 = .ok (.iconst 4, 1) := dk_7 (dk_at dksX4_tries_1 19 rfl rfl)
theorem dX4_tries_43 : decode cX4_tries 43 = .ok (.iload_n 1, 1) := dk_27 (dk_at dksX4_tries_1 20 rfl rfl)
theorem dX4_tries_44 : decode cX4_tries 44 = .ok (.iadd, 1) := dk_96 (dk_at dksX4_tries_1 21 rfl rfl)
theorem dX4_tries_45 : decode cX4_tries 45 = .ok (.lconst 1, 1) := dk_10 (dk_at dksX4_tries_1 22 rfl rfl)
theorem dX4_tries_46 : decode cX4_tries 46 = .ok (.lastore, 1) := dk_80 (dk_at dksX4_tries_1 23 rfl rfl)
theorem dX4_tries_47 : decode cX4_tries 47 = .ok (.aload_n 0, 1) := dk_42 (dk_at dksX4_tries_2 0 rfl rfl)
theorem dX4_tries_48 : decode cX4_tries 48 = .ok (.iload_n 1, 1) := dk_27 (dk_at dksX4_tries_2 1 rfl rfl)
theorem dX4_tries_49 : decode cX4_tries 49 = .ok (.invokevirtual 277, 3) := dk_182 1 21 (dk_at dksX4_tries_2 2 rfl rfl)
theorem dX4_tries_52 : decode cX4_tries 52 = .ok (.istore_n 2, 1) := dk_61 (dk_at dksX4_tries_2 5 rfl rfl)
theorem dX4_tries_53 : decode cX4_tries 53 = .ok (.aload_n 0, 1) := dk_42 (dk_at dksX4_tries_2 6 rfl rfl)
theorem dX4_tries_54 : decode cX4_tries 54 = .ok (.iconst 0, 1) := dk_3 (dk_at dksX4_tries_2 7 rfl rfl)
theorem dX4_tries_55 : decode cX4_tries 55 = .ok (.putfield 146, 3) := dk_181 0 146 (dk_at dksX4_tries_2 8 rfl rfl)
theorem dX4_tries_58 : decode cX4_tries 58 = .ok (.iload_n 2, 1) := dk_28 (dk_at dksX4_tries_2 11 rfl rfl)
theorem dX4_tries_59 : decode cX4_tries 59 = .ok (.bipush (-2), 2) := dk_16 254 (dk_at dksX4_tries_2 12 rfl rfl)
theorem dX4_tries_61 : decode cX4_tries 61 = .ok (.if_icmp .eq 7, 3) := dk_159 0 7 (dk_at dksX4_tries_2 14 rfl rfl)
theorem dX4_tries_64 : decode cX4_tries 64 = .ok (.iconst 1, 1) := dk_4 (dk_at dksX4_tries_2 17 rfl rfl)
theorem dX4_tries_65 : decode cX4_tries 65 = .ok (.goto 4, 3) := dk_167 0 4 (dk_at dksX4_tries_2 18 rfl rfl)
theorem dX4_tries_68 : decode cX4_tries 68 = .ok (.iconst 0, 1) := dk_3 (dk_at dksX4_tries_2 21 rfl rfl)
theorem dX4_tries_69 : decode cX4_tries 69 = .ok (.ireturn, 1) := dk_172 (dk_at dksX4_tries_2 22 rfl rfl)
abbrev cX4_notes : ByteArray := prog_23_method_52_code
def yX4_notes : MethodName := ⟨RX4, "notes", "()V"⟩
def dkwX4_notes_1 : List UInt8 := [132, 1, 1, 167, 255, 232, 177]
abbrev dktX4_notes_1 : List UInt8 := dkwX4_notes_1 ++ []
def dkwX4_notes_0 : List UInt8 := [3, 60, 27, 16, 8, 162, 0, 24, 42, 180, 0, 100, 27, 42, 180, 0, 60, 16, 8, 27, 96, 47, 80]
abbrev dktX4_notes_0 : List UInt8 := dkwX4_notes_0 ++ dktX4_notes_1
theorem dksX4_notes_0 : cX4_notes.data.toList.drop 0 = dktX4_notes_0 := by decide +kernel
theorem dksX4_notes_1 : cX4_notes.data.toList.drop 23 = dktX4_notes_1 := dk_seg dksX4_notes_0 23 rfl rfl
theorem dX4_notes_0 : decode cX4_notes 0 = .ok (.iconst 0, 1) := dk_3 (dk_at dksX4_notes_0 0 rfl rfl)
theorem dX4_notes_1 : decode cX4_notes 1 = .ok (.istore_n 1, 1) := dk_60 (dk_at dksX4_notes_0 1 rfl rfl)
theorem dX4_notes_2 : decode cX4_notes 2 = .ok (.iload_n 1, 1) := dk_27 (dk_at dksX4_notes_0 2 rfl rfl)
theorem dX4_notes_3 : decode cX4_notes 3 = .ok (.bipush 8, 2) := dk_16 8 (dk_at dksX4_notes_0 3 rfl rfl)
theorem dX4_notes_5 : decode cX4_notes 5 = .ok (.if_icmp .ge 24, 3) := dk_162 0 24 (dk_at dksX4_notes_0 5 rfl rfl)
theorem dX4_notes_8 : decode cX4_notes 8 = .ok (.aload_n 0, 1) := dk_42 (dk_at dksX4_notes_0 8 rfl rfl)
theorem dX4_notes_9 : decode cX4_notes 9 = .ok (.getfield 100, 3) := dk_180 0 100 (dk_at dksX4_notes_0 9 rfl rfl)
theorem dX4_notes_12 : decode cX4_notes 12 = .ok (.iload_n 1, 1) := dk_27 (dk_at dksX4_notes_0 12 rfl rfl)
theorem dX4_notes_13 : decode cX4_notes 13 = .ok (.aload_n 0, 1) := dk_42 (dk_at dksX4_notes_0 13 rfl rfl)
theorem dX4_notes_14 : decode cX4_notes 14 = .ok (.getfield 60, 3) := dk_180 0 60 (dk_at dksX4_notes_0 14 rfl rfl)
theorem dX4_notes_17 : decode cX4_notes 17 = .ok (.bipush 8, 2) := dk_16 8 (dk_at dksX4_notes_0 17 rfl rfl)
theorem dX4_notes_19 : decode cX4_notes 19 = .ok (.iload_n 1, 1) := dk_27 (dk_at dksX4_notes_0 19 rfl rfl)
theorem dX4_notes_20 : decode cX4_notes 20 = .ok (.iadd, 1) := dk_96 (dk_at dksX4_notes_0 20 rfl rfl)
theorem dX4_notes_21 : decode cX4_notes 21 = .ok (.laload, 1) := dk_47 (dk_at dksX4_notes_0 21 rfl rfl)
theorem dX4_notes_22 : decode cX4_notes 22 = .ok (.lastore, 1) := dk_80 (dk_at dksX4_notes_0 22 rfl rfl)
theorem dX4_notes_23 : decode cX4_notes 23 = .ok (.iinc 1 1, 3) := dk_132 1 1 (dk_at dksX4_notes_1 0 rfl rfl)
theorem dX4_notes_26 : decode cX4_notes 26 = .ok (.goto (-24), 3) := dk_167 255 232 (dk_at dksX4_notes_1 3 rfl rfl)
theorem dX4_notes_29 : decode cX4_notes 29 = .ok (.return_, 1) := dk_177 (dk_at dksX4_notes_1 6 rfl rfl)
abbrev cX4_differs : ByteArray := prog_23_method_53_code
def yX4_differs : MethodName := ⟨RX4, "differs", "(J)Z"⟩
def dkwX4_differs_2 : List UInt8 := [167, 255, 213, 29, 172]
abbrev dktX4_differs_2 : List UInt8 := dkwX4_differs_2 ++ []
def dkwX4_differs_1 : List UInt8 := [42, 180, 0, 60, 16, 8, 21, 4, 96, 47, 105, 148, 153, 0, 7, 4, 167, 0, 4, 3, 62, 132, 4, 1]
abbrev dktX4_differs_1 : List UInt8 := dkwX4_differs_1 ++ dktX4_differs_2
def dkwX4_differs_0 : List UInt8 := [3, 62, 3, 54, 4, 21, 4, 16, 8, 162, 0, 42, 29, 154, 0, 26, 42, 180, 0, 100, 21, 4, 47, 31]
abbrev dktX4_differs_0 : List UInt8 := dkwX4_differs_0 ++ dktX4_differs_1
theorem dksX4_differs_0 : cX4_differs.data.toList.drop 0 = dktX4_differs_0 := by decide +kernel
theorem dksX4_differs_1 : cX4_differs.data.toList.drop 24 = dktX4_differs_1 := dk_seg dksX4_differs_0 24 rfl rfl
theorem dksX4_differs_2 : cX4_differs.data.toList.drop 48 = dktX4_differs_2 := dk_seg dksX4_differs_1 24 rfl rfl
theorem dX4_differs_0 : decode cX4_differs 0 = .ok (.iconst 0, 1) := dk_3 (dk_at dksX4_differs_0 0 rfl rfl)
theorem dX4_differs_1 : decode cX4_differs 1 = .ok (.istore_n 3, 1) := dk_62 (dk_at dksX4_differs_0 1 rfl rfl)
theorem dX4_differs_2 : decode cX4_differs 2 = .ok (.iconst 0, 1) := dk_3 (dk_at dksX4_differs_0 2 rfl rfl)
theorem dX4_differs_3 : decode cX4_differs 3 = .ok (.istore 4, 2) := dk_54 4 (dk_at dksX4_differs_0 3 rfl rfl)
theorem dX4_differs_5 : decode cX4_differs 5 = .ok (.iload 4, 2) := dk_21 4 (dk_at dksX4_differs_0 5 rfl rfl)
theorem dX4_differs_7 : decode cX4_differs 7 = .ok (.bipush 8, 2) := dk_16 8 (dk_at dksX4_differs_0 7 rfl rfl)
theorem dX4_differs_9 : decode cX4_differs 9 = .ok (.if_icmp .ge 42, 3) := dk_162 0 42 (dk_at dksX4_differs_0 9 rfl rfl)
theorem dX4_differs_12 : decode cX4_differs 12 = .ok (.iload_n 3, 1) := dk_29 (dk_at dksX4_differs_0 12 rfl rfl)
theorem dX4_differs_13 : decode cX4_differs 13 = .ok (.ifCond .ne 26, 3) := dk_154 0 26 (dk_at dksX4_differs_0 13 rfl rfl)
theorem dX4_differs_16 : decode cX4_differs 16 = .ok (.aload_n 0, 1) := dk_42 (dk_at dksX4_differs_0 16 rfl rfl)
theorem dX4_differs_17 : decode cX4_differs 17 = .ok (.getfield 100, 3) := dk_180 0 100 (dk_at dksX4_differs_0 17 rfl rfl)
theorem dX4_differs_20 : decode cX4_differs 20 = .ok (.iload 4, 2) := dk_21 4 (dk_at dksX4_differs_0 20 rfl rfl)
theorem dX4_differs_22 : decode cX4_differs 22 = .ok (.laload, 1) := dk_47 (dk_at dksX4_differs_0 22 rfl rfl)
theorem dX4_differs_23 : decode cX4_differs 23 = .ok (.lload_n 1, 1) := dk_31 (dk_at dksX4_differs_0 23 rfl rfl)
theorem dX4_differs_24 : decode cX4_differs 24 = .ok (.aload_n 0, 1) := dk_42 (dk_at dksX4_differs_1 0 rfl rfl)
theorem dX4_differs_25 : decode cX4_differs 25 = .ok (.getfield 60, 3) := dk_180 0 60 (dk_at dksX4_differs_1 1 rfl rfl)
theorem dX4_differs_28 : decode cX4_differs 28 = .ok (.bipush 8, 2) := dk_16 8 (dk_at dksX4_differs_1 4 rfl rfl)
theorem dX4_differs_30 : decode cX4_differs 30 = .ok (.iload 4, 2) := dk_21 4 (dk_at dksX4_differs_1 6 rfl rfl)
theorem dX4_differs_32 : decode cX4_differs 32 = .ok (.iadd, 1) := dk_96 (dk_at dksX4_differs_1 8 rfl rfl)
theorem dX4_differs_33 : decode cX4_differs 33 = .ok (.laload, 1) := dk_47 (dk_at dksX4_differs_1 9 rfl rfl)
theorem dX4_differs_34 : decode cX4_differs 34 = .ok (.lmul, 1) := dk_105 (dk_at dksX4_differs_1 10 rfl rfl)
theorem dX4_differs_35 : decode cX4_differs 35 = .ok (.lcmp, 1) := dk_148 (dk_at dksX4_differs_1 11 rfl rfl)
theorem dX4_differs_36 : decode cX4_differs 36 = .ok (.ifCond .eq 7, 3) := dk_153 0 7 (dk_at dksX4_differs_1 12 rfl rfl)
theorem dX4_differs_39 : decode cX4_differs 39 = .ok (.iconst 1, 1) := dk_4 (dk_at dksX4_differs_1 15 rfl rfl)
theorem dX4_differs_40 : decode cX4_differs 40 = .ok (.goto 4, 3) := dk_167 0 4 (dk_at dksX4_differs_1 16 rfl rfl)
theorem dX4_differs_43 : decode cX4_differs 43 = .ok (.iconst 0, 1) := dk_3 (dk_at dksX4_differs_1 19 rfl rfl)
theorem dX4_differs_44 : decode cX4_differs 44 = .ok (.istore_n 3, 1) := dk_62 (dk_at dksX4_differs_1 20 rfl rfl)
theorem dX4_differs_45 : decode cX4_differs 45 = .ok (.iinc 4 1, 3) := dk_132 4 1 (dk_at dksX4_differs_1 21 rfl rfl)
theorem dX4_differs_48 : decode cX4_differs 48 = .ok (.goto (-43), 3) := dk_167 255 213 (dk_at dksX4_differs_2 0 rfl rfl)
theorem dX4_differs_51 : decode cX4_differs 51 = .ok (.iload_n 3, 1) := dk_29 (dk_at dksX4_differs_2 3 rfl rfl)
theorem dX4_differs_52 : decode cX4_differs 52 = .ok (.ireturn, 1) := dk_172 (dk_at dksX4_differs_2 4 rfl rfl)
abbrev cX4_isUnfair : ByteArray := prog_23_method_54_code
def yX4_isUnfair : MethodName := ⟨RX4, "isUnfair", "()Z"⟩
def dkwX4_isUnfair_4 : List UInt8 := [157, 0, 7, 4, 167, 0, 4, 3, 60, 132, 4, 1, 167, 255, 178, 27, 172]
abbrev dktX4_isUnfair_4 : List UInt8 := dkwX4_isUnfair_4 ++ []
def dkwX4_isUnfair_3 : List UInt8 := [182, 0, 227, 105, 101, 55, 5, 27, 154, 0, 18, 22, 5, 32, 148, 156, 0, 11, 22, 5, 32, 117, 148]
abbrev dktX4_isUnfair_3 : List UInt8 := dkwX4_isUnfair_3 ++ dktX4_isUnfair_4
def dkwX4_isUnfair_2 : List UInt8 := [180, 0, 54, 16, 8, 21, 4, 96, 47, 32, 105, 42, 180, 0, 253, 42, 42, 180, 1, 1, 21, 4]
abbrev dktX4_isUnfair_2 : List UInt8 := dkwX4_isUnfair_2 ++ dktX4_isUnfair_3
def dkwX4_isUnfair_1 : List UInt8 := [54, 4, 42, 180, 0, 152, 153, 0, 77, 21, 4, 42, 42, 180, 1, 1, 182, 0, 223, 162, 0, 64, 42]
abbrev dktX4_isUnfair_1 : List UInt8 := dkwX4_isUnfair_1 ++ dktX4_isUnfair_2
def dkwX4_isUnfair_0 : List UInt8 := [3, 60, 42, 180, 0, 152, 153, 0, 14, 42, 42, 180, 1, 1, 182, 0, 231, 167, 0, 4, 10, 65, 3]
abbrev dktX4_isUnfair_0 : List UInt8 := dkwX4_isUnfair_0 ++ dktX4_isUnfair_1
theorem dksX4_isUnfair_0 : cX4_isUnfair.data.toList.drop 0 = dktX4_isUnfair_0 := by decide +kernel
theorem dksX4_isUnfair_1 : cX4_isUnfair.data.toList.drop 23 = dktX4_isUnfair_1 := dk_seg dksX4_isUnfair_0 23 rfl rfl
theorem dksX4_isUnfair_2 : cX4_isUnfair.data.toList.drop 46 = dktX4_isUnfair_2 := dk_seg dksX4_isUnfair_1 23 rfl rfl
theorem dksX4_isUnfair_3 : cX4_isUnfair.data.toList.drop 68 = dktX4_isUnfair_3 := dk_seg dksX4_isUnfair_2 22 rfl rfl
theorem dksX4_isUnfair_4 : cX4_isUnfair.data.toList.drop 91 = dktX4_isUnfair_4 := dk_seg dksX4_isUnfair_3 23 rfl rfl
theorem dX4_isUnfair_0 : decode cX4_isUnfair 0 = .ok (.iconst 0, 1) := dk_3 (dk_at dksX4_isUnfair_0 0 rfl rfl)
theorem dX4_isUnfair_1 : decode cX4_isUnfair 1 = .ok (.istore_n 1, 1) := dk_60 (dk_at dksX4_isUnfair_0 1 rfl rfl)
theorem dX4_isUnfair_2 : decode cX4_isUnfair 2 = .ok (.aload_n 0, 1) := dk_42 (dk_at dksX4_isUnfair_0 2 rfl rfl)
theorem dX4_isUnfair_3 : decode cX4_isUnfair 3 = .ok (.getfield 152, 3) := dk_180 0 152 (dk_at dksX4_isUnfair_0 3 rfl rfl)
theorem dX4_isUnfair_6 : decode cX4_isUnfair 6 = .ok (.ifCond .eq 14, 3) := dk_153 0 14 (dk_at dksX4_isUnfair_0 6 rfl rfl)
theorem dX4_isUnfair_9 : decode cX4_isUnfair 9 = .ok (.aload_n 0, 1) := dk_42 (dk_at dksX4_isUnfair_0 9 rfl rfl)
theorem dX4_isUnfair_10 : decode cX4_isUnfair 10 = .ok (.aload_n 0, 1) := dk_42 (dk_at dksX4_isUnfair_0 10 rfl rfl)
theorem dX4_isUnfair_11 : decode cX4_isUnfair 11 = .ok (.getfield 257, 3) := dk_180 1 1 (dk_at dksX4_isUnfair_0 11 rfl rfl)
theorem dX4_isUnfair_14 : decode cX4_isUnfair 14 = .ok (.invokevirtual 231, 3) := dk_182 0 231 (dk_at dksX4_isUnfair_0 14 rfl rfl)
theorem dX4_isUnfair_17 : decode cX4_isUnfair 17 = .ok (.goto 4, 3) := dk_167 0 4 (dk_at dksX4_isUnfair_0 17 rfl rfl)
theorem dX4_isUnfair_20 : decode cX4_isUnfair 20 = .ok (.lconst 1, 1) := dk_10 (dk_at dksX4_isUnfair_0 20 rfl rfl)
theorem dX4_isUnfair_21 : decode cX4_isUnfair 21 = .ok (.lstore_n 2, 1) := dk_65 (dk_at dksX4_isUnfair_0 21 rfl rfl)
theorem dX4_isUnfair_22 : decode cX4_isUnfair 22 = .ok (.iconst 0, 1) := dk_3 (dk_at dksX4_isUnfair_0 22 rfl rfl)
theorem dX4_isUnfair_23 : decode cX4_isUnfair 23 = .ok (.istore 4, 2) := dk_54 4 (dk_at dksX4_isUnfair_1 0 rfl rfl)
theorem dX4_isUnfair_25 : decode cX4_isUnfair 25 = .ok (.aload_n 0, 1) := dk_42 (dk_at dksX4_isUnfair_1 2 rfl rfl)
theorem dX4_isUnfair_26 : decode cX4_isUnfair 26 = .ok (.getfield 152, 3) := dk_180 0 152 (dk_at dksX4_isUnfair_1 3 rfl rfl)
theorem dX4_isUnfair_29 : decode cX4_isUnfair 29 = .ok (.ifCond .eq 77, 3) := dk_153 0 77 (dk_at dksX4_isUnfair_1 6 rfl rfl)
theorem dX4_isUnfair_32 : decode cX4_isUnfair 32 = .ok (.iload 4, 2) := dk_21 4 (dk_at dksX4_isUnfair_1 9 rfl rfl)
theorem dX4_isUnfair_34 : decode cX4_isUnfair 34 = .ok (.aload_n 0, 1) := dk_42 (dk_at dksX4_isUnfair_1 11 rfl rfl)
theorem dX4_isUnfair_35 : decode cX4_isUnfair 35 = .ok (.aload_n 0, 1) := dk_42 (dk_at dksX4_isUnfair_1 12 rfl rfl)
theorem dX4_isUnfair_36 : decode cX4_isUnfair 36 = .ok (.getfield 257, 3) := dk_180 1 1 (dk_at dksX4_isUnfair_1 13 rfl rfl)
theorem dX4_isUnfair_39 : decode cX4_isUnfair 39 = .ok (.invokevirtual 223, 3) := dk_182 0 223 (dk_at dksX4_isUnfair_1 16 rfl rfl)
theorem dX4_isUnfair_42 : decode cX4_isUnfair 42 = .ok (.if_icmp .ge 64, 3) := dk_162 0 64 (dk_at dksX4_isUnfair_1 19 rfl rfl)
theorem dX4_isUnfair_45 : decode cX4_isUnfair 45 = .ok (.aload_n 0, 1) := dk_42 (dk_at dksX4_isUnfair_1 22 rfl rfl)
theorem dX4_isUnfair_46 : decode cX4_isUnfair 46 = .ok (.getfield 54, 3) := dk_180 0 54 (dk_at dksX4_isUnfair_2 0 rfl rfl)
theorem dX4_isUnfair_49 : decode cX4_isUnfair 49 = .ok (.bipush 8, 2) := dk_16 8 (dk_at dksX4_isUnfair_2 3 rfl rfl)
theorem dX4_isUnfair_51 : decode cX4_isUnfair 51 = .ok (.iload 4, 2) := dk_21 4 (dk_at dksX4_isUnfair_2 5 rfl rfl)
theorem dX4_isUnfair_53 : decode cX4_isUnfair 53 = .ok (.iadd, 1) := dk_96 (dk_at dksX4_isUnfair_2 7 rfl rfl)
theorem dX4_isUnfair_54 : decode cX4_isUnfair 54 = .ok (.laload, 1) := dk_47 (dk_at dksX4_isUnfair_2 8 rfl rfl)
theorem dX4_isUnfair_55 : decode cX4_isUnfair 55 = .ok (.lload_n 2, 1) := dk_32 (dk_at dksX4_isUnfair_2 9 rfl rfl)
theorem dX4_isUnfair_56 : decode cX4_isUnfair 56 = .ok (.lmul, 1) := dk_105 (dk_at dksX4_isUnfair_2 10 rfl rfl)
theorem dX4_isUnfair_57 : decode cX4_isUnfair 57 = .ok (.aload_n 0, 1) := dk_42 (dk_at dksX4_isUnfair_2 11 rfl rfl)
theorem dX4_isUnfair_58 : decode cX4_isUnfair 58 = .ok (.getfield 253, 3) := dk_180 0 253 (dk_at dksX4_isUnfair_2 12 rfl rfl)
theorem dX4_isUnfair_61 : decode cX4_isUnfair 61 = .ok (.aload_n 0, 1) := dk_42 (dk_at dksX4_isUnfair_2 15 rfl rfl)
theorem dX4_isUnfair_62 : decode cX4_isUnfair 62 = .ok (.aload_n 0, 1) := dk_42 (dk_at dksX4_isUnfair_2 16 rfl rfl)
theorem dX4_isUnfair_63 : decode cX4_isUnfair 63 = .ok (.getfield 257, 3) := dk_180 1 1 (dk_at dksX4_isUnfair_2 17 rfl rfl)
theorem dX4_isUnfair_66 : decode cX4_isUnfair 66 = .ok (.iload 4, 2) := dk_21 4 (dk_at dksX4_isUnfair_2 20 rfl rfl)
theorem dX4_isUnfair_68 : decode cX4_isUnfair 68 = .ok (.invokevirtual 227, 3) := dk_182 0 227 (dk_at dksX4_isUnfair_3 0 rfl rfl)
theorem dX4_isUnfair_71 : decode cX4_isUnfair 71 = .ok (.lmul, 1) := dk_105 (dk_at dksX4_isUnfair_3 3 rfl rfl)
theorem dX4_isUnfair_72 : decode cX4_isUnfair 72 = .ok (.lsub, 1) := dk_101 (dk_at dksX4_isUnfair_3 4 rfl rfl)
theorem dX4_isUnfair_73 : decode cX4_isUnfair 73 = .ok (.lstore 5, 2) := dk_55 5 (dk_at dksX4_isUnfair_3 5 rfl rfl)
theorem dX4_isUnfair_75 : decode cX4_isUnfair 75 = .ok (.iload_n 1, 1) := dk_27 (dk_at dksX4_isUnfair_3 7 rfl rfl)
theorem dX4_isUnfair_76 : decode cX4_isUnfair 76 = .ok (.ifCond .ne 18, 3) := dk_154 0 18 (dk_at dksX4_isUnfair_3 8 rfl rfl)
theorem dX4_isUnfair_79 : decode cX4_isUnfair 79 = .ok (.lload 5, 2) := dk_22 5 (dk_at dksX4_isUnfair_3 11 rfl rfl)
theorem dX4_isUnfair_81 : decode cX4_isUnfair 81 = .ok (.lload_n 2, 1) := dk_32 (dk_at dksX4_isUnfair_3 13 rfl rfl)
theorem dX4_isUnfair_82 : decode cX4_isUnfair 82 = .ok (.lcmp, 1) := dk_148 (dk_at dksX4_isUnfair_3 14 rfl rfl)
theorem dX4_isUnfair_83 : decode cX4_isUnfair 83 = .ok (.ifCond .ge 11, 3) := dk_156 0 11 (dk_at dksX4_isUnfair_3 15 rfl rfl)
theorem dX4_isUnfair_86 : decode cX4_isUnfair 86 = .ok (.lload 5, 2) := dk_22 5 (dk_at dksX4_isUnfair_3 18 rfl rfl)
theorem dX4_isUnfair_88 : decode cX4_isUnfair 88 = .ok (.lload_n 2, 1) := dk_32 (dk_at dksX4_isUnfair_3 20 rfl rfl)
theorem dX4_isUnfair_89 : decode cX4_isUnfair 89 = .ok (.lneg, 1) := dk_117 (dk_at dksX4_isUnfair_3 21 rfl rfl)
theorem dX4_isUnfair_90 : decode cX4_isUnfair 90 = .ok (.lcmp, 1) := dk_148 (dk_at dksX4_isUnfair_3 22 rfl rfl)
theorem dX4_isUnfair_91 : decode cX4_isUnfair 91 = .ok (.ifCond .gt 7, 3) := dk_157 0 7 (dk_at dksX4_isUnfair_4 0 rfl rfl)
theorem dX4_isUnfair_94 : decode cX4_isUnfair 94 = .ok (.iconst 1, 1) := dk_4 (dk_at dksX4_isUnfair_4 3 rfl rfl)
theorem dX4_isUnfair_95 : decode cX4_isUnfair 95 = .ok (.goto 4, 3) := dk_167 0 4 (dk_at dksX4_isUnfair_4 4 rfl rfl)
theorem dX4_isUnfair_98 : decode cX4_isUnfair 98 = .ok (.iconst 0, 1) := dk_3 (dk_at dksX4_isUnfair_4 7 rfl rfl)
theorem dX4_isUnfair_99 : decode cX4_isUnfair 99 = .ok (.istore_n 1, 1) := dk_60 (dk_at dksX4_isUnfair_4 8 rfl rfl)
theorem dX4_isUnfair_100 : decode cX4_isUnfair 100 = .ok (.iinc 4 1, 3) := dk_132 4 1 (dk_at dksX4_isUnfair_4 9 rfl rfl)
theorem dX4_isUnfair_103 : decode cX4_isUnfair 103 = .ok (.goto (-78), 3) := dk_167 255 178 (dk_at dksX4_isUnfair_4 12 rfl rfl)
theorem dX4_isUnfair_106 : decode cX4_isUnfair 106 = .ok (.iload_n 1, 1) := dk_27 (dk_at dksX4_isUnfair_4 15 rfl rfl)
theorem dX4_isUnfair_107 : decode cX4_isUnfair 107 = .ok (.ireturn, 1) := dk_172 (dk_at dksX4_isUnfair_4 16 rfl rfl)
abbrev cX4_floats : ByteArray := prog_23_method_61_code
def yX4_floats : MethodName := ⟨RX4, "floats", "(II)V"⟩
def dkwX4_floats_3 : List UInt8 := [167, 255, 231, 177]
abbrev dktX4_floats_3 : List UInt8 := dkwX4_floats_3 ++ []
def dkwX4_floats_2 : List UInt8 := [180, 0, 25, 27, 46, 162, 0, 21, 42, 16, 20, 27, 104, 29, 96, 28, 135, 182, 1, 88, 132, 3, 1]
abbrev dktX4_floats_2 : List UInt8 := dkwX4_floats_2 ++ dktX4_floats_3
def dkwX4_floats_1 : List UInt8 := [29, 14, 82, 42, 180, 0, 60, 16, 8, 29, 96, 9, 80, 132, 3, 1, 167, 255, 223, 3, 62, 29, 42]
abbrev dktX4_floats_1 : List UInt8 := dkwX4_floats_1 ++ dktX4_floats_2
def dkwX4_floats_0 : List UInt8 := [42, 14, 181, 1, 76, 3, 62, 29, 16, 8, 162, 0, 33, 42, 180, 0, 103, 29, 14, 82, 42, 180, 0, 107]
abbrev dktX4_floats_0 : List UInt8 := dkwX4_floats_0 ++ dktX4_floats_1
theorem dksX4_floats_0 : cX4_floats.data.toList.drop 0 = dktX4_floats_0 := by decide +kernel
theorem dksX4_floats_1 : cX4_floats.data.toList.drop 24 = dktX4_floats_1 := dk_seg dksX4_floats_0 24 rfl rfl
theorem dksX4_floats_2 : cX4_floats.data.toList.drop 47 = dktX4_floats_2 := dk_seg dksX4_floats_1 23 rfl rfl
theorem dksX4_floats_3 : cX4_floats.data.toList.drop 70 = dktX4_floats_3 := dk_seg dksX4_floats_2 23 rfl rfl
theorem dX4_floats_0 : decode cX4_floats 0 = .ok (.aload_n 0, 1) := dk_42 (dk_at dksX4_floats_0 0 rfl rfl)
theorem dX4_floats_1 : decode cX4_floats 1 = .ok (.dconst 0, 1) := dk_14 (dk_at dksX4_floats_0 1 rfl rfl)
theorem dX4_floats_2 : decode cX4_floats 2 = .ok (.putfield 332, 3) := dk_181 1 76 (dk_at dksX4_floats_0 2 rfl rfl)
theorem dX4_floats_5 : decode cX4_floats 5 = .ok (.iconst 0, 1) := dk_3 (dk_at dksX4_floats_0 5 rfl rfl)
theorem dX4_floats_6 : decode cX4_floats 6 = .ok (.istore_n 3, 1) := dk_62 (dk_at dksX4_floats_0 6 rfl rfl)
theorem dX4_floats_7 : decode cX4_floats 7 = .ok (.iload_n 3, 1) := dk_29 (dk_at dksX4_floats_0 7 rfl rfl)
theorem dX4_floats_8 : decode cX4_floats 8 = .ok (.bipush 8, 2) := dk_16 8 (dk_at dksX4_floats_0 8 rfl rfl)
theorem dX4_floats_10 : decode cX4_floats 10 = .ok (.if_icmp .ge 33, 3) := dk_162 0 33 (dk_at dksX4_floats_0 10 rfl rfl)
theorem dX4_floats_13 : decode cX4_floats 13 = .ok (.aload_n 0, 1) := dk_42 (dk_at dksX4_floats_0 13 rfl rfl)
theorem dX4_floats_14 : decode cX4_floats 14 = .ok (.getfield 103, 3) := dk_180 0 103 (dk_at dksX4_floats_0 14 rfl rfl)
theorem dX4_floats_17 : decode cX4_floats 17 = .ok (.iload_n 3, 1) := dk_29 (dk_at dksX4_floats_0 17 rfl rfl)
theorem dX4_floats_18 : decode cX4_floats 18 = .ok (.dconst 0, 1) := dk_14 (dk_at dksX4_floats_0 18 rfl rfl)
theorem dX4_floats_19 : decode cX4_floats 19 = .ok (.dastore, 1) := dk_82 (dk_at dksX4_floats_0 19 rfl rfl)
theorem dX4_floats_20 : decode cX4_floats 20 = .ok (.aload_n 0, 1) := dk_42 (dk_at dksX4_floats_0 20 rfl rfl)
theorem dX4_floats_21 : decode cX4_floats 21 = .ok (.getfield 107, 3) := dk_180 0 107 (dk_at dksX4_floats_0 21 rfl rfl)
theorem dX4_floats_24 : decode cX4_floats 24 = .ok (.iload_n 3, 1) := dk_29 (dk_at dksX4_floats_1 0 rfl rfl)
theorem dX4_floats_25 : decode cX4_floats 25 = .ok (.dconst 0, 1) := dk_14 (dk_at dksX4_floats_1 1 rfl rfl)
theorem dX4_floats_26 : decode cX4_floats 26 = .ok (.dastore, 1) := dk_82 (dk_at dksX4_floats_1 2 rfl rfl)
theorem dX4_floats_27 : decode cX4_floats 27 = .ok (.aload_n 0, 1) := dk_42 (dk_at dksX4_floats_1 3 rfl rfl)
theorem dX4_floats_28 : decode cX4_floats 28 = .ok (.getfield 60, 3) := dk_180 0 60 (dk_at dksX4_floats_1 4 rfl rfl)
theorem dX4_floats_31 : decode cX4_floats 31 = .ok (.bipush 8, 2) := dk_16 8 (dk_at dksX4_floats_1 7 rfl rfl)
theorem dX4_floats_33 : decode cX4_floats 33 = .ok (.iload_n 3, 1) := dk_29 (dk_at dksX4_floats_1 9 rfl rfl)
theorem dX4_floats_34 : decode cX4_floats 34 = .ok (.iadd, 1) := dk_96 (dk_at dksX4_floats_1 10 rfl rfl)
theorem dX4_floats_35 : decode cX4_floats 35 = .ok (.lconst 0, 1) := dk_9 (dk_at dksX4_floats_1 11 rfl rfl)
theorem dX4_floats_36 : decode cX4_floats 36 = .ok (.lastore, 1) := dk_80 (dk_at dksX4_floats_1 12 rfl rfl)
theorem dX4_floats_37 : decode cX4_floats 37 = .ok (.iinc 3 1, 3) := dk_132 3 1 (dk_at dksX4_floats_1 13 rfl rfl)
theorem dX4_floats_40 : decode cX4_floats 40 = .ok (.goto (-33), 3) := dk_167 255 223 (dk_at dksX4_floats_1 16 rfl rfl)
theorem dX4_floats_43 : decode cX4_floats 43 = .ok (.iconst 0, 1) := dk_3 (dk_at dksX4_floats_1 19 rfl rfl)
theorem dX4_floats_44 : decode cX4_floats 44 = .ok (.istore_n 3, 1) := dk_62 (dk_at dksX4_floats_1 20 rfl rfl)
theorem dX4_floats_45 : decode cX4_floats 45 = .ok (.iload_n 3, 1) := dk_29 (dk_at dksX4_floats_1 21 rfl rfl)
theorem dX4_floats_46 : decode cX4_floats 46 = .ok (.aload_n 0, 1) := dk_42 (dk_at dksX4_floats_1 22 rfl rfl)
theorem dX4_floats_47 : decode cX4_floats 47 = .ok (.getfield 25, 3) := dk_180 0 25 (dk_at dksX4_floats_2 0 rfl rfl)
theorem dX4_floats_50 : decode cX4_floats 50 = .ok (.iload_n 1, 1) := dk_27 (dk_at dksX4_floats_2 3 rfl rfl)
theorem dX4_floats_51 : decode cX4_floats 51 = .ok (.iaload, 1) := dk_46 (dk_at dksX4_floats_2 4 rfl rfl)
theorem dX4_floats_52 : decode cX4_floats 52 = .ok (.if_icmp .ge 21, 3) := dk_162 0 21 (dk_at dksX4_floats_2 5 rfl rfl)
theorem dX4_floats_55 : decode cX4_floats 55 = .ok (.aload_n 0, 1) := dk_42 (dk_at dksX4_floats_2 8 rfl rfl)
theorem dX4_floats_56 : decode cX4_floats 56 = .ok (.bipush 20, 2) := dk_16 20 (dk_at dksX4_floats_2 9 rfl rfl)
theorem dX4_floats_58 : decode cX4_floats 58 = .ok (.iload_n 1, 1) := dk_27 (dk_at dksX4_floats_2 11 rfl rfl)
theorem dX4_floats_59 : decode cX4_floats 59 = .ok (.imul, 1) := dk_104 (dk_at dksX4_floats_2 12 rfl rfl)
theorem dX4_floats_60 : decode cX4_floats 60 = .ok (.iload_n 3, 1) := dk_29 (dk_at dksX4_floats_2 13 rfl rfl)
theorem dX4_floats_61 : decode cX4_floats 61 = .ok (.iadd, 1) := dk_96 (dk_at dksX4_floats_2 14 rfl rfl)
theorem dX4_floats_62 : decode cX4_floats 62 = .ok (.iload_n 2, 1) := dk_28 (dk_at dksX4_floats_2 15 rfl rfl)
theorem dX4_floats_63 : decode cX4_floats 63 = .ok (.i2d, 1) := dk_135 (dk_at dksX4_floats_2 16 rfl rfl)
theorem dX4_floats_64 : decode cX4_floats 64 = .ok (.invokevirtual 344, 3) := dk_182 1 88 (dk_at dksX4_floats_2 17 rfl rfl)
theorem dX4_floats_67 : decode cX4_floats 67 = .ok (.iinc 3 1, 3) := dk_132 3 1 (dk_at dksX4_floats_2 20 rfl rfl)
theorem dX4_floats_70 : decode cX4_floats 70 = .ok (.goto (-25), 3) := dk_167 255 231 (dk_at dksX4_floats_3 0 rfl rfl)
theorem dX4_floats_73 : decode cX4_floats 73 = .ok (.return_, 1) := dk_177 (dk_at dksX4_floats_3 3 rfl rfl)
abbrev cX4_doesF : ByteArray := prog_23_method_59_code
def yX4_doesF : MethodName := ⟨RX4, "doesF", "(ID)V"⟩
def dkwX4_doesF_20 : List UInt8 := [167, 255, 211, 42, 21, 4, 182, 1, 80, 177]
abbrev dktX4_doesF_20 : List UInt8 := dkwX4_doesF_20 ++ []
def dkwX4_doesF_19 : List UInt8 := [42, 21, 5, 182, 1, 65, 107, 15, 4, 184, 1, 69, 99, 82, 42, 21, 4, 182, 1, 80, 132, 10, 1]
abbrev dktX4_doesF_19 : List UInt8 := dkwX4_doesF_19 ++ dktX4_doesF_20
def dkwX4_doesF_18 : List UInt8 := [54, 10, 21, 10, 21, 6, 162, 0, 44, 42, 180, 0, 103, 21, 4, 92, 49, 42, 180, 0, 103, 21, 4, 49]
abbrev dktX4_doesF_18 : List UInt8 := dkwX4_doesF_18 ++ dktX4_doesF_19
def dkwX4_doesF_17 : List UInt8 := [180, 0, 103, 21, 4, 42, 180, 0, 103, 21, 5, 49, 15, 21, 6, 184, 1, 69, 82, 167, 0, 54, 3]
abbrev dktX4_doesF_17 : List UInt8 := dkwX4_doesF_17 ++ dktX4_doesF_18
def dkwX4_doesF_16 : List UInt8 := [21, 4, 49, 143, 167, 0, 12, 42, 180, 0, 103, 21, 4, 49, 143, 117, 97, 80, 167, 0, 77, 42]
abbrev dktX4_doesF_16 : List UInt8 := dkwX4_doesF_16 ++ dktX4_doesF_17
def dkwX4_doesF_15 : List UInt8 := [82, 167, 0, 118, 42, 180, 0, 60, 16, 8, 21, 5, 96, 92, 47, 21, 6, 154, 0, 14, 42, 180, 0, 103]
abbrev dktX4_doesF_15 : List UInt8 := dkwX4_doesF_15 ++ dktX4_doesF_16
def dkwX4_doesF_14 : List UInt8 := [42, 180, 0, 103, 21, 4, 21, 9, 153, 0, 9, 21, 6, 135, 167, 0, 10, 42, 180, 0, 103, 21, 4, 49]
abbrev dktX4_doesF_14 : List UInt8 := dkwX4_doesF_14 ++ dktX4_doesF_15
def dkwX4_doesF_13 : List UInt8 := [167, 0, 22, 42, 180, 0, 103, 21, 4, 49, 21, 6, 135, 152, 156, 0, 7, 4, 167, 0, 4, 3, 54, 9]
abbrev dktX4_doesF_13 : List UInt8 := dkwX4_doesF_13 ++ dktX4_doesF_14
def dkwX4_doesF_12 : List UInt8 := [21, 5, 154, 0, 25, 42, 180, 0, 103, 21, 4, 49, 21, 6, 135, 151, 158, 0, 7, 4, 167, 0, 26, 3]
abbrev dktX4_doesF_12 : List UInt8 := dkwX4_doesF_12 ++ dktX4_doesF_13
def dkwX4_doesF_11 : List UInt8 := [24, 7, 184, 1, 54, 82, 42, 24, 7, 42, 180, 0, 103, 21, 4, 49, 103, 181, 1, 76, 167, 0, 194]
abbrev dktX4_doesF_11 : List UInt8 := dkwX4_doesF_11 ++ dktX4_doesF_12
def dkwX4_doesF_10 : List UInt8 := [167, 0, 237, 42, 180, 1, 76, 42, 180, 0, 103, 21, 4, 49, 99, 57, 7, 42, 180, 0, 103, 21, 4]
abbrev dktX4_doesF_10 : List UInt8 := dkwX4_doesF_10 ++ dktX4_doesF_11
def dkwX4_doesF_9 : List UInt8 := [21, 6, 182, 1, 73, 167, 0, 254, 42, 180, 0, 103, 21, 4, 42, 180, 0, 107, 21, 5, 49, 82]
abbrev dktX4_doesF_9 : List UInt8 := dkwX4_doesF_9 ++ dktX4_doesF_10
def dkwX4_doesF_8 : List UInt8 := [180, 0, 103, 21, 4, 49, 42, 180, 0, 103, 21, 5, 49, 103, 82, 167, 1, 11, 42, 21, 4, 21, 5]
abbrev dktX4_doesF_8 : List UInt8 := dkwX4_doesF_8 ++ dktX4_doesF_9
def dkwX4_doesF_7 : List UInt8 := [21, 6, 154, 0, 21, 42, 180, 0, 103, 21, 4, 49, 42, 180, 0, 103, 21, 5, 49, 99, 167, 0, 18, 42]
abbrev dktX4_doesF_7 : List UInt8 := dkwX4_doesF_7 ++ dktX4_doesF_8
def dkwX4_doesF_6 : List UInt8 := [180, 0, 103, 21, 4, 49, 21, 6, 135, 21, 5, 184, 1, 69, 82, 167, 1, 59, 42, 180, 0, 103, 21, 4]
abbrev dktX4_doesF_6 : List UInt8 := dkwX4_doesF_6 ++ dktX4_doesF_7
def dkwX4_doesF_5 : List UInt8 := [180, 0, 103, 21, 5, 49, 42, 21, 6, 182, 1, 65, 107, 82, 167, 1, 84, 42, 180, 0, 103, 21, 4, 42]
abbrev dktX4_doesF_5 : List UInt8 := dkwX4_doesF_5 ++ dktX4_doesF_6
def dkwX4_doesF_4 : List UInt8 := [21, 5, 182, 1, 65, 107, 15, 21, 6, 184, 1, 69, 99, 82, 167, 1, 108, 42, 180, 0, 103, 21, 4, 42]
abbrev dktX4_doesF_4 : List UInt8 := dkwX4_doesF_4 ++ dktX4_doesF_5
def dkwX4_doesF_3 : List UInt8 := [42, 180, 0, 103, 21, 4, 14, 40, 99, 82, 167, 1, 136, 42, 180, 0, 103, 21, 4, 14, 14, 40, 99, 42]
abbrev dktX4_doesF_3 : List UInt8 := dkwX4_doesF_3 ++ dktX4_doesF_4
def dkwX4_doesF_2 : List UInt8 := [170, 0, 0, 0, 1, 157, 0, 0, 0, 0, 0, 0, 0, 11, 0, 0, 0, 62, 0, 0, 0, 75, 0, 0, 0, 75, 0, 0, 0, 103, 0, 0, 0, 127, 0, 0, 0, 152, 0, 0, 0, 200, 0, 0, 0, 213, 0, 0, 0, 230, 0, 0, 1, 17, 0, 0, 1, 93, 0, 0, 1, 134]
abbrev dktX4_doesF_2 : List UInt8 := dkwX4_doesF_2 ++ dktX4_doesF_3
def dkwX4_doesF_1 : List UInt8 := [42, 180, 0, 28, 27, 46]
abbrev dktX4_doesF_1 : List UInt8 := dkwX4_doesF_1 ++ dktX4_doesF_2
def dkwX4_doesF_0 : List UInt8 := [42, 180, 0, 31, 27, 46, 54, 4, 42, 180, 0, 34, 27, 46, 54, 5, 42, 180, 0, 37, 27, 46, 54, 6]
abbrev dktX4_doesF_0 : List UInt8 := dkwX4_doesF_0 ++ dktX4_doesF_1
theorem dksX4_doesF_0 : cX4_doesF.data.toList.drop 0 = dktX4_doesF_0 := by decide +kernel
theorem dksX4_doesF_1 : cX4_doesF.data.toList.drop 24 = dktX4_doesF_1 := dk_seg dksX4_doesF_0 24 rfl rfl
theorem dksX4_doesF_2 : cX4_doesF.data.toList.drop 30 = dktX4_doesF_2 := dk_seg dksX4_doesF_1 6 rfl rfl
theorem dksX4_doesF_3 : cX4_doesF.data.toList.drop 92 = dktX4_doesF_3 := dk_seg dksX4_doesF_2 62 rfl rfl
theorem dksX4_doesF_4 : cX4_doesF.data.toList.drop 116 = dktX4_doesF_4 := dk_seg dksX4_doesF_3 24 rfl rfl
theorem dksX4_doesF_5 : cX4_doesF.data.toList.drop 140 = dktX4_doesF_5 := dk_seg dksX4_doesF_4 24 rfl rfl
theorem dksX4_doesF_6 : cX4_doesF.data.toList.drop 164 = dktX4_doesF_6 := dk_seg dksX4_doesF_5 24 rfl rfl
theorem dksX4_doesF_7 : cX4_doesF.data.toList.drop 188 = dktX4_doesF_7 := dk_seg dksX4_doesF_6 24 rfl rfl
theorem dksX4_doesF_8 : cX4_doesF.data.toList.drop 212 = dktX4_doesF_8 := dk_seg dksX4_doesF_7 24 rfl rfl
theorem dksX4_doesF_9 : cX4_doesF.data.toList.drop 235 = dktX4_doesF_9 := dk_seg dksX4_doesF_8 23 rfl rfl
theorem dksX4_doesF_10 : cX4_doesF.data.toList.drop 257 = dktX4_doesF_10 := dk_seg dksX4_doesF_9 22 rfl rfl
theorem dksX4_doesF_11 : cX4_doesF.data.toList.drop 280 = dktX4_doesF_11 := dk_seg dksX4_doesF_10 23 rfl rfl
theorem dksX4_doesF_12 : cX4_doesF.data.toList.drop 303 = dktX4_doesF_12 := dk_seg dksX4_doesF_11 23 rfl rfl
theorem dksX4_doesF_13 : cX4_doesF.data.toList.drop 327 = dktX4_doesF_13 := dk_seg dksX4_doesF_12 24 rfl rfl
theorem dksX4_doesF_14 : cX4_doesF.data.toList.drop 351 = dktX4_doesF_14 := dk_seg dksX4_doesF_13 24 rfl rfl
theorem dksX4_doesF_15 : cX4_doesF.data.toList.drop 375 = dktX4_doesF_15 := dk_seg dksX4_doesF_14 24 rfl rfl
theorem dksX4_doesF_16 : cX4_doesF.data.toList.drop 399 = dktX4_doesF_16 := dk_seg dksX4_doesF_15 24 rfl rfl
theorem dksX4_doesF_17 : cX4_doesF.data.toList.drop 421 = dktX4_doesF_17 := dk_seg dksX4_doesF_16 22 rfl rfl
theorem dksX4_doesF_18 : cX4_doesF.data.toList.drop 444 = dktX4_doesF_18 := dk_seg dksX4_doesF_17 23 rfl rfl
theorem dksX4_doesF_19 : cX4_doesF.data.toList.drop 468 = dktX4_doesF_19 := dk_seg dksX4_doesF_18 24 rfl rfl
theorem dksX4_doesF_20 : cX4_doesF.data.toList.drop 491 = dktX4_doesF_20 := dk_seg dksX4_doesF_19 23 rfl rfl
theorem dX4_doesF_0 : decode cX4_doesF 0 = .ok (.aload_n 0, 1) := dk_42 (dk_at dksX4_doesF_0 0 rfl rfl)
theorem dX4_doesF_1 : decode cX4_doesF 1 = .ok (.getfield 31, 3) := dk_180 0 31 (dk_at dksX4_doesF_0 1 rfl rfl)
theorem dX4_doesF_4 : decode cX4_doesF 4 = .ok (.iload_n 1, 1) := dk_27 (dk_at dksX4_doesF_0 4 rfl rfl)
theorem dX4_doesF_5 : decode cX4_doesF 5 = .ok (.iaload, 1) := dk_46 (dk_at dksX4_doesF_0 5 rfl rfl)
theorem dX4_doesF_6 : decode cX4_doesF 6 = .ok (.istore 4, 2) := dk_54 4 (dk_at dksX4_doesF_0 6 rfl rfl)
theorem dX4_doesF_8 : decode cX4_doesF 8 = .ok (.aload_n 0, 1) := dk_42 (dk_at dksX4_doesF_0 8 rfl rfl)
theorem dX4_doesF_9 : decode cX4_doesF 9 = .ok (.getfield 34, 3) := dk_180 0 34 (dk_at dksX4_doesF_0 9 rfl rfl)
theorem dX4_doesF_12 : decode cX4_doesF 12 = .ok (.iload_n 1, 1) := dk_27 (dk_at dksX4_doesF_0 12 rfl rfl)
theorem dX4_doesF_13 : decode cX4_doesF 13 = .ok (.iaload, 1) := dk_46 (dk_at dksX4_doesF_0 13 rfl rfl)
theorem dX4_doesF_14 : decode cX4_doesF 14 = .ok (.istore 5, 2) := dk_54 5 (dk_at dksX4_doesF_0 14 rfl rfl)
theorem dX4_doesF_16 : decode cX4_doesF 16 = .ok (.aload_n 0, 1) := dk_42 (dk_at dksX4_doesF_0 16 rfl rfl)
theorem dX4_doesF_17 : decode cX4_doesF 17 = .ok (.getfield 37, 3) := dk_180 0 37 (dk_at dksX4_doesF_0 17 rfl rfl)
theorem dX4_doesF_20 : decode cX4_doesF 20 = .ok (.iload_n 1, 1) := dk_27 (dk_at dksX4_doesF_0 20 rfl rfl)
theorem dX4_doesF_21 : decode cX4_doesF 21 = .ok (.iaload, 1) := dk_46 (dk_at dksX4_doesF_0 21 rfl rfl)
theorem dX4_doesF_22 : decode cX4_doesF 22 = .ok (.istore 6, 2) := dk_54 6 (dk_at dksX4_doesF_0 22 rfl rfl)
theorem dX4_doesF_24 : decode cX4_doesF 24 = .ok (.aload_n 0, 1) := dk_42 (dk_at dksX4_doesF_1 0 rfl rfl)
theorem dX4_doesF_25 : decode cX4_doesF 25 = .ok (.getfield 28, 3) := dk_180 0 28 (dk_at dksX4_doesF_1 1 rfl rfl)
theorem dX4_doesF_28 : decode cX4_doesF 28 = .ok (.iload_n 1, 1) := dk_27 (dk_at dksX4_doesF_1 4 rfl rfl)
theorem dX4_doesF_29 : decode cX4_doesF 29 = .ok (.iaload, 1) := dk_46 (dk_at dksX4_doesF_1 5 rfl rfl)
theorem dX4_doesF_30 : decode cX4_doesF 30 = .ok (.tableswitch 413 0 11 #[62, 75, 75, 103, 127, 152, 200, 213, 230, 273, 349, 390], 62) := by decide +kernel
theorem dX4_doesF_92 : decode cX4_doesF 92 = .ok (.aload_n 0, 1) := dk_42 (dk_at dksX4_doesF_3 0 rfl rfl)
theorem dX4_doesF_93 : decode cX4_doesF 93 = .ok (.getfield 103, 3) := dk_180 0 103 (dk_at dksX4_doesF_3 1 rfl rfl)
theorem dX4_doesF_96 : decode cX4_doesF 96 = .ok (.iload 4, 2) := dk_21 4 (dk_at dksX4_doesF_3 4 rfl rfl)
theorem dX4_doesF_98 : decode cX4_doesF 98 = .ok (.dconst 0, 1) := dk_14 (dk_at dksX4_doesF_3 6 rfl rfl)
theorem dX4_doesF_99 : decode cX4_doesF 99 = .ok (.dload_n 2, 1) := dk_40 (dk_at dksX4_doesF_3 7 rfl rfl)
theorem dX4_doesF_100 : decode cX4_doesF 100 = .ok (.dadd, 1) := dk_99 (dk_at dksX4_doesF_3 8 rfl rfl)
theorem dX4_doesF_101 : decode cX4_doesF 101 = .ok (.dastore, 1) := dk_82 (dk_at dksX4_doesF_3 9 rfl rfl)
theorem dX4_doesF_102 : decode cX4_doesF 102 = .ok (.goto 392, 3) := dk_167 1 136 (dk_at dksX4_doesF_3 10 rfl rfl)
theorem dX4_doesF_105 : decode cX4_doesF 105 = .ok (.aload_n 0, 1) := dk_42 (dk_at dksX4_doesF_3 13 rfl rfl)
theorem dX4_doesF_106 : decode cX4_doesF 106 = .ok (.getfield 103, 3) := dk_180 0 103 (dk_at dksX4_doesF_3 14 rfl rfl)
theorem dX4_doesF_109 : decode cX4_doesF 109 = .ok (.iload 4, 2) := dk_21 4 (dk_at dksX4_doesF_3 17 rfl rfl)
theorem dX4_doesF_111 : decode cX4_doesF 111 = .ok (.dconst 0, 1) := dk_14 (dk_at dksX4_doesF_3 19 rfl rfl)
theorem dX4_doesF_112 : decode cX4_doesF 112 = .ok (.dconst 0, 1) := dk_14 (dk_at dksX4_doesF_3 20 rfl rfl)
theorem dX4_doesF_113 : decode cX4_doesF 113 = .ok (.dload_n 2, 1) := dk_40 (dk_at dksX4_doesF_3 21 rfl rfl)
theorem dX4_doesF_114 : decode cX4_doesF 114 = .ok (.dadd, 1) := dk_99 (dk_at dksX4_doesF_3 22 rfl rfl)
theorem dX4_doesF_115 : decode cX4_doesF 115 = .ok (.aload_n 0, 1) := dk_42 (dk_at dksX4_doesF_3 23 rfl rfl)
theorem dX4_doesF_116 : decode cX4_doesF 116 = .ok (.iload 5, 2) := dk_21 5 (dk_at dksX4_doesF_4 0 rfl rfl)
theorem dX4_doesF_118 : decode cX4_doesF 118 = .ok (.invokevirtual 321, 3) := dk_182 1 65 (dk_at dksX4_doesF_4 2 rfl rfl)
theorem dX4_doesF_121 : decode cX4_doesF 121 = .ok (.dmul, 1) := dk_107 (dk_at dksX4_doesF_4 5 rfl rfl)
theorem dX4_doesF_122 : decode cX4_doesF 122 = .ok (.dconst 1, 1) := dk_15 (dk_at dksX4_doesF_4 6 rfl rfl)
theorem dX4_doesF_123 : decode cX4_doesF 123 = .ok (.iload 6, 2) := dk_21 6 (dk_at dksX4_doesF_4 7 rfl rfl)
theorem dX4_doesF_125 : decode cX4_doesF 125 = .ok (.invokestatic 325, 3) := dk_184 1 69 (dk_at dksX4_doesF_4 9 rfl rfl)
theorem dX4_doesF_128 : decode cX4_doesF 128 = .ok (.dadd, 1) := dk_99 (dk_at dksX4_doesF_4 12 rfl rfl)
theorem dX4_doesF_129 : decode cX4_doesF 129 = .ok (.dastore, 1) := dk_82 (dk_at dksX4_doesF_4 13 rfl rfl)
theorem dX4_doesF_130 : decode cX4_doesF 130 = .ok (.goto 364, 3) := dk_167 1 108 (dk_at dksX4_doesF_4 14 rfl rfl)
theorem dX4_doesF_133 : decode cX4_doesF 133 = .ok (.aload_n 0, 1) := dk_42 (dk_at dksX4_doesF_4 17 rfl rfl)
theorem dX4_doesF_134 : decode cX4_doesF 134 = .ok (.getfield 103, 3) := dk_180 0 103 (dk_at dksX4_doesF_4 18 rfl rfl)
theorem dX4_doesF_137 : decode cX4_doesF 137 = .ok (.iload 4, 2) := dk_21 4 (dk_at dksX4_doesF_4 21 rfl rfl)
theorem dX4_doesF_139 : decode cX4_doesF 139 = .ok (.aload_n 0, 1) := dk_42 (dk_at dksX4_doesF_4 23 rfl rfl)
theorem dX4_doesF_140 : decode cX4_doesF 140 = .ok (.getfield 103, 3) := dk_180 0 103 (dk_at dksX4_doesF_5 0 rfl rfl)
theorem dX4_doesF_143 : decode cX4_doesF 143 = .ok (.iload 5, 2) := dk_21 5 (dk_at dksX4_doesF_5 3 rfl rfl)
theorem dX4_doesF_145 : decode cX4_doesF 145 = .ok (.daload, 1) := dk_49 (dk_at dksX4_doesF_5 5 rfl rfl)
theorem dX4_doesF_146 : decode cX4_doesF 146 = .ok (.aload_n 0, 1) := dk_42 (dk_at dksX4_doesF_5 6 rfl rfl)
theorem dX4_doesF_147 : decode cX4_doesF 147 = .ok (.iload 6, 2) := dk_21 6 (dk_at dksX4_doesF_5 7 rfl rfl)
theorem dX4_doesF_149 : decode cX4_doesF 149 = .ok (.invokevirtual 321, 3) := dk_182 1 65 (dk_at dksX4_doesF_5 9 rfl rfl)
theorem dX4_doesF_152 : decode cX4_doesF 152 = .ok (.dmul, 1) := dk_107 (dk_at dksX4_doesF_5 12 rfl rfl)
theorem dX4_doesF_153 : decode cX4_doesF 153 = .ok (.dastore, 1) := dk_82 (dk_at dksX4_doesF_5 13 rfl rfl)
theorem dX4_doesF_154 : decode cX4_doesF 154 = .ok (.goto 340, 3) := dk_167 1 84 (dk_at dksX4_doesF_5 14 rfl rfl)
theorem dX4_doesF_157 : decode cX4_doesF 157 = .ok (.aload_n 0, 1) := dk_42 (dk_at dksX4_doesF_5 17 rfl rfl)
theorem dX4_doesF_158 : decode cX4_doesF 158 = .ok (.getfield 103, 3) := dk_180 0 103 (dk_at dksX4_doesF_5 18 rfl rfl)
theorem dX4_doesF_161 : decode cX4_doesF 161 = .ok (.iload 4, 2) := dk_21 4 (dk_at dksX4_doesF_5 21 rfl rfl)
theorem dX4_doesF_163 : decode cX4_doesF 163 = .ok (.aload_n 0, 1) := dk_42 (dk_at dksX4_doesF_5 23 rfl rfl)
theorem dX4_doesF_164 : decode cX4_doesF 164 = .ok (.getfield 103, 3) := dk_180 0 103 (dk_at dksX4_doesF_6 0 rfl rfl)
theorem dX4_doesF_167 : decode cX4_doesF 167 = .ok (.iload 4, 2) := dk_21 4 (dk_at dksX4_doesF_6 3 rfl rfl)
theorem dX4_doesF_169 : decode cX4_doesF 169 = .ok (.daload, 1) := dk_49 (dk_at dksX4_doesF_6 5 rfl rfl)
theorem dX4_doesF_170 : decode cX4_doesF 170 = .ok (.iload 6, 2) := dk_21 6 (dk_at dksX4_doesF_6 6 rfl rfl)
theorem dX4_doesF_172 : decode cX4_doesF 172 = .ok (.i2d, 1) := dk_135 (dk_at dksX4_doesF_6 8 rfl rfl)
theorem dX4_doesF_173 : decode cX4_doesF 173 = .ok (.iload 5, 2) := dk_21 5 (dk_at dksX4_doesF_6 9 rfl rfl)
theorem dX4_doesF_175 : decode cX4_doesF 175 = .ok (.invokestatic 325, 3) := dk_184 1 69 (dk_at dksX4_doesF_6 11 rfl rfl)
theorem dX4_doesF_178 : decode cX4_doesF 178 = .ok (.dastore, 1) := dk_82 (dk_at dksX4_doesF_6 14 rfl rfl)
theorem dX4_doesF_179 : decode cX4_doesF 179 = .ok (.goto 315, 3) := dk_167 1 59 (dk_at dksX4_doesF_6 15 rfl rfl)
theorem dX4_doesF_182 : decode cX4_doesF 182 = .ok (.aload_n 0, 1) := dk_42 (dk_at dksX4_doesF_6 18 rfl rfl)
theorem dX4_doesF_183 : decode cX4_doesF 183 = .ok (.getfield 103, 3) := dk_180 0 103 (dk_at dksX4_doesF_6 19 rfl rfl)
theorem dX4_doesF_186 : decode cX4_doesF 186 = .ok (.iload 4, 2) := dk_21 4 (dk_at dksX4_doesF_6 22 rfl rfl)
theorem dX4_doesF_188 : decode cX4_doesF 188 = .ok (.iload 6, 2) := dk_21 6 (dk_at dksX4_doesF_7 0 rfl rfl)
theorem dX4_doesF_190 : decode cX4_doesF 190 = .ok (.ifCond .ne 21, 3) := dk_154 0 21 (dk_at dksX4_doesF_7 2 rfl rfl)
theorem dX4_doesF_193 : decode cX4_doesF 193 = .ok (.aload_n 0, 1) := dk_42 (dk_at dksX4_doesF_7 5 rfl rfl)
theorem dX4_doesF_194 : decode cX4_doesF 194 = .ok (.getfield 103, 3) := dk_180 0 103 (dk_at dksX4_doesF_7 6 rfl rfl)
theorem dX4_doesF_197 : decode cX4_doesF 197 = .ok (.iload 4, 2) := dk_21 4 (dk_at dksX4_doesF_7 9 rfl rfl)
theorem dX4_doesF_199 : decode cX4_doesF 199 = .ok (.daload, 1) := dk_49 (dk_at dksX4_doesF_7 11 rfl rfl)
theorem dX4_doesF_200 : decode cX4_doesF 200 = .ok (.aload_n 0, 1) := dk_42 (dk_at dksX4_doesF_7 12 rfl rfl)
theorem dX4_doesF_201 : decode cX4_doesF 201 = .ok (.getfield 103, 3) := dk_180 0 103 (dk_at dksX4_doesF_7 13 rfl rfl)
theorem dX4_doesF_204 : decode cX4_doesF 204 = .ok (.iload 5, 2) := dk_21 5 (dk_at dksX4_doesF_7 16 rfl rfl)
theorem dX4_doesF_206 : decode cX4_doesF 206 = .ok (.daload, 1) := dk_49 (dk_at dksX4_doesF_7 18 rfl rfl)
theorem dX4_doesF_207 : decode cX4_doesF 207 = .ok (.dadd, 1) := dk_99 (dk_at dksX4_doesF_7 19 rfl rfl)
theorem dX4_doesF_208 : decode cX4_doesF 208 = .ok (.goto 18, 3) := dk_167 0 18 (dk_at dksX4_doesF_7 20 rfl rfl)
theorem dX4_doesF_211 : decode cX4_doesF 211 = .ok (.aload_n 0, 1) := dk_42 (dk_at dksX4_doesF_7 23 rfl rfl)
theorem dX4_doesF_212 : decode cX4_doesF 212 = .ok (.getfield 103, 3) := dk_180 0 103 (dk_at dksX4_doesF_8 0 rfl rfl)
theorem dX4_doesF_215 : decode cX4_doesF 215 = .ok (.iload 4, 2) := dk_21 4 (dk_at dksX4_doesF_8 3 rfl rfl)
theorem dX4_doesF_217 : decode cX4_doesF 217 = .ok (.daload, 1) := dk_49 (dk_at dksX4_doesF_8 5 rfl rfl)
theorem dX4_doesF_218 : decode cX4_doesF 218 = .ok (.aload_n 0, 1) := dk_42 (dk_at dksX4_doesF_8 6 rfl rfl)
theorem dX4_doesF_219 : decode cX4_doesF 219 = .ok (.getfield 103, 3) := dk_180 0 103 (dk_at dksX4_doesF_8 7 rfl rfl)
theorem dX4_doesF_222 : decode cX4_doesF 222 = .ok (.iload 5, 2) := dk_21 5 (dk_at dksX4_doesF_8 10 rfl rfl)
theorem dX4_doesF_224 : decode cX4_doesF 224 = .ok (.daload, 1) := dk_49 (dk_at dksX4_doesF_8 12 rfl rfl)
theorem dX4_doesF_225 : decode cX4_doesF 225 = .ok (.dsub, 1) := dk_103 (dk_at dksX4_doesF_8 13 rfl rfl)
theorem dX4_doesF_226 : decode cX4_doesF 226 = .ok (.dastore, 1) := dk_82 (dk_at dksX4_doesF_8 14 rfl rfl)
theorem dX4_doesF_227 : decode cX4_doesF 227 = .ok (.goto 267, 3) := dk_167 1 11 (dk_at dksX4_doesF_8 15 rfl rfl)
theorem dX4_doesF_230 : decode cX4_doesF 230 = .ok (.aload_n 0, 1) := dk_42 (dk_at dksX4_doesF_8 18 rfl rfl)
theorem dX4_doesF_231 : decode cX4_doesF 231 = .ok (.iload 4, 2) := dk_21 4 (dk_at dksX4_doesF_8 19 rfl rfl)
theorem dX4_doesF_233 : decode cX4_doesF 233 = .ok (.iload 5, 2) := dk_21 5 (dk_at dksX4_doesF_8 21 rfl rfl)
theorem dX4_doesF_235 : decode cX4_doesF 235 = .ok (.iload 6, 2) := dk_21 6 (dk_at dksX4_doesF_9 0 rfl rfl)
theorem dX4_doesF_237 : decode cX4_doesF 237 = .ok (.invokevirtual 329, 3) := dk_182 1 73 (dk_at dksX4_doesF_9 2 rfl rfl)
theorem dX4_doesF_240 : decode cX4_doesF 240 = .ok (.goto 254, 3) := dk_167 0 254 (dk_at dksX4_doesF_9 5 rfl rfl)
theorem dX4_doesF_243 : decode cX4_doesF 243 = .ok (.aload_n 0, 1) := dk_42 (dk_at dksX4_doesF_9 8 rfl rfl)
theorem dX4_doesF_244 : decode cX4_doesF 244 = .ok (.getfield 103, 3) := dk_180 0 103 (dk_at dksX4_doesF_9 9 rfl rfl)
theorem dX4_doesF_247 : decode cX4_doesF 247 = .ok (.iload 4, 2) := dk_21 4 (dk_at dksX4_doesF_9 12 rfl rfl)
theorem dX4_doesF_249 : decode cX4_doesF 249 = .ok (.aload_n 0, 1) := dk_42 (dk_at dksX4_doesF_9 14 rfl rfl)
theorem dX4_doesF_250 : decode cX4_doesF 250 = .ok (.getfield 107, 3) := dk_180 0 107 (dk_at dksX4_doesF_9 15 rfl rfl)
theorem dX4_doesF_253 : decode cX4_doesF 253 = .ok (.iload 5, 2) := dk_21 5 (dk_at dksX4_doesF_9 18 rfl rfl)
theorem dX4_doesF_255 : decode cX4_doesF 255 = .ok (.daload, 1) := dk_49 (dk_at dksX4_doesF_9 20 rfl rfl)
theorem dX4_doesF_256 : decode cX4_doesF 256 = .ok (.dastore, 1) := dk_82 (dk_at dksX4_doesF_9 21 rfl rfl)
theorem dX4_doesF_257 : decode cX4_doesF 257 = .ok (.goto 237, 3) := dk_167 0 237 (dk_at dksX4_doesF_10 0 rfl rfl)
theorem dX4_doesF_260 : decode cX4_doesF 260 = .ok (.aload_n 0, 1) := dk_42 (dk_at dksX4_doesF_10 3 rfl rfl)
theorem dX4_doesF_261 : decode cX4_doesF 261 = .ok (.getfield 332, 3) := dk_180 1 76 (dk_at dksX4_doesF_10 4 rfl rfl)
theorem dX4_doesF_264 : decode cX4_doesF 264 = .ok (.aload_n 0, 1) := dk_42 (dk_at dksX4_doesF_10 7 rfl rfl)
theorem dX4_doesF_265 : decode cX4_doesF 265 = .ok (.getfield 103, 3) := dk_180 0 103 (dk_at dksX4_doesF_10 8 rfl rfl)
theorem dX4_doesF_268 : decode cX4_doesF 268 = .ok (.iload 4, 2) := dk_21 4 (dk_at dksX4_doesF_10 11 rfl rfl)
theorem dX4_doesF_270 : decode cX4_doesF 270 = .ok (.daload, 1) := dk_49 (dk_at dksX4_doesF_10 13 rfl rfl)
theorem dX4_doesF_271 : decode cX4_doesF 271 = .ok (.dadd, 1) := dk_99 (dk_at dksX4_doesF_10 14 rfl rfl)
theorem dX4_doesF_272 : decode cX4_doesF 272 = .ok (.dstore 7, 2) := dk_57 7 (dk_at dksX4_doesF_10 15 rfl rfl)
theorem dX4_doesF_274 : decode cX4_doesF 274 = .ok (.aload_n 0, 1) := dk_42 (dk_at dksX4_doesF_10 17 rfl rfl)
theorem dX4_doesF_275 : decode cX4_doesF 275 = .ok (.getfield 103, 3) := dk_180 0 103 (dk_at dksX4_doesF_10 18 rfl rfl)
theorem dX4_doesF_278 : decode cX4_doesF 278 = .ok (.iload 4, 2) := dk_21 4 (dk_at dksX4_doesF_10 21 rfl rfl)
theorem dX4_doesF_280 : decode cX4_doesF 280 = .ok (.dload 7, 2) := dk_24 7 (dk_at dksX4_doesF_11 0 rfl rfl)
theorem dX4_doesF_282 : decode cX4_doesF 282 = .ok (.invokestatic 310, 3) := dk_184 1 54 (dk_at dksX4_doesF_11 2 rfl rfl)
theorem dX4_doesF_285 : decode cX4_doesF 285 = .ok (.dastore, 1) := dk_82 (dk_at dksX4_doesF_11 5 rfl rfl)
theorem dX4_doesF_286 : decode cX4_doesF 286 = .ok (.aload_n 0, 1) := dk_42 (dk_at dksX4_doesF_11 6 rfl rfl)
theorem dX4_doesF_287 : decode cX4_doesF 287 = .ok (.dload 7, 2) := dk_24 7 (dk_at dksX4_doesF_11 7 rfl rfl)
theorem dX4_doesF_289 : decode cX4_doesF 289 = .ok (.aload_n 0, 1) := dk_42 (dk_at dksX4_doesF_11 9 rfl rfl)
theorem dX4_doesF_290 : decode cX4_doesF 290 = .ok (.getfield 103, 3) := dk_180 0 103 (dk_at dksX4_doesF_11 10 rfl rfl)
theorem dX4_doesF_293 : decode cX4_doesF 293 = .ok (.iload 4, 2) := dk_21 4 (dk_at dksX4_doesF_11 13 rfl rfl)
theorem dX4_doesF_295 : decode cX4_doesF 295 = .ok (.daload, 1) := dk_49 (dk_at dksX4_doesF_11 15 rfl rfl)
theorem dX4_doesF_296 : decode cX4_doesF 296 = .ok (.dsub, 1) := dk_103 (dk_at dksX4_doesF_11 16 rfl rfl)
theorem dX4_doesF_297 : decode cX4_doesF 297 = .ok (.putfield 332, 3) := dk_181 1 76 (dk_at dksX4_doesF_11 17 rfl rfl)
theorem dX4_doesF_300 : decode cX4_doesF 300 = .ok (.goto 194, 3) := dk_167 0 194 (dk_at dksX4_doesF_11 20 rfl rfl)
theorem dX4_doesF_303 : decode cX4_doesF 303 = .ok (.iload 5, 2) := dk_21 5 (dk_at dksX4_doesF_12 0 rfl rfl)
theorem dX4_doesF_305 : decode cX4_doesF 305 = .ok (.ifCond .ne 25, 3) := dk_154 0 25 (dk_at dksX4_doesF_12 2 rfl rfl)
theorem dX4_doesF_308 : decode cX4_doesF 308 = .ok (.aload_n 0, 1) := dk_42 (dk_at dksX4_doesF_12 5 rfl rfl)
theorem dX4_doesF_309 : decode cX4_doesF 309 = .ok (.getfield 103, 3) := dk_180 0 103 (dk_at dksX4_doesF_12 6 rfl rfl)
theorem dX4_doesF_312 : decode cX4_doesF 312 = .ok (.iload 4, 2) := dk_21 4 (dk_at dksX4_doesF_12 9 rfl rfl)
theorem dX4_doesF_314 : decode cX4_doesF 314 = .ok (.daload, 1) := dk_49 (dk_at dksX4_doesF_12 11 rfl rfl)
theorem dX4_doesF_315 : decode cX4_doesF 315 = .ok (.iload 6, 2) := dk_21 6 (dk_at dksX4_doesF_12 12 rfl rfl)
theorem dX4_doesF_317 : decode cX4_doesF 317 = .ok (.i2d, 1) := dk_135 (dk_at dksX4_doesF_12 14 rfl rfl)
theorem dX4_doesF_318 : decode cX4_doesF 318 = .ok (.dcmp .l, 1) := dk_151 (dk_at dksX4_doesF_12 15 rfl rfl)
theorem dX4_doesF_319 : decode cX4_doesF 319 = .ok (.ifCond .le 7, 3) := dk_158 0 7 (dk_at dksX4_doesF_12 16 rfl rfl)
theorem dX4_doesF_322 : decode cX4_doesF 322 = .ok (.iconst 1, 1) := dk_4 (dk_at dksX4_doesF_12 19 rfl rfl)
theorem dX4_doesF_323 : decode cX4_doesF 323 = .ok (.goto 26, 3) := dk_167 0 26 (dk_at dksX4_doesF_12 20 rfl rfl)
theorem dX4_doesF_326 : decode cX4_doesF 326 = .ok (.iconst 0, 1) := dk_3 (dk_at dksX4_doesF_12 23 rfl rfl)
theorem dX4_doesF_327 : decode cX4_doesF 327 = .ok (.goto 22, 3) := dk_167 0 22 (dk_at dksX4_doesF_13 0 rfl rfl)
theorem dX4_doesF_330 : decode cX4_doesF 330 = .ok (.aload_n 0, 1) := dk_42 (dk_at dksX4_doesF_13 3 rfl rfl)
theorem dX4_doesF_331 : decode cX4_doesF 331 = .ok (.getfield 103, 3) := dk_180 0 103 (dk_at dksX4_doesF_13 4 rfl rfl)
theorem dX4_doesF_334 : decode cX4_doesF 334 = .ok (.iload 4, 2) := dk_21 4 (dk_at dksX4_doesF_13 7 rfl rfl)
theorem dX4_doesF_336 : decode cX4_doesF 336 = .ok (.daload, 1) := dk_49 (dk_at dksX4_doesF_13 9 rfl rfl)
theorem dX4_doesF_337 : decode cX4_doesF 337 = .ok (.iload 6, 2) := dk_21 6 (dk_at dksX4_doesF_13 10 rfl rfl)
theorem dX4_doesF_339 : decode cX4_doesF 339 = .ok (.i2d, 1) := dk_135 (dk_at dksX4_doesF_13 12 rfl rfl)
theorem dX4_doesF_340 : decode cX4_doesF 340 = .ok (.dcmp .g, 1) := dk_152 (dk_at dksX4_doesF_13 13 rfl rfl)
theorem dX4_doesF_341 : decode cX4_doesF 341 = .ok (.ifCond .ge 7, 3) := dk_156 0 7 (dk_at dksX4_doesF_13 14 rfl rfl)
theorem dX4_doesF_344 : decode cX4_doesF 344 = .ok (.iconst 1, 1) := dk_4 (dk_at dksX4_doesF_13 17 rfl rfl)
theorem dX4_doesF_345 : decode cX4_doesF 345 = .ok (.goto 4, 3) := dk_167 0 4 (dk_at dksX4_doesF_13 18 rfl rfl)
theorem dX4_doesF_348 : decode cX4_doesF 348 = .ok (.iconst 0, 1) := dk_3 (dk_at dksX4_doesF_13 21 rfl rfl)
theorem dX4_doesF_349 : decode cX4_doesF 349 = .ok (.istore 9, 2) := dk_54 9 (dk_at dksX4_doesF_13 22 rfl rfl)
theorem dX4_doesF_351 : decode cX4_doesF 351 = .ok (.aload_n 0, 1) := dk_42 (dk_at dksX4_doesF_14 0 rfl rfl)
theorem dX4_doesF_352 : decode cX4_doesF 352 = .ok (.getfield 103, 3) := dk_180 0 103 (dk_at dksX4_doesF_14 1 rfl rfl)
theorem dX4_doesF_355 : decode cX4_doesF 355 = .ok (.iload 4, 2) := dk_21 4 (dk_at dksX4_doesF_14 4 rfl rfl)
theorem dX4_doesF_357 : decode cX4_doesF 357 = .ok (.iload 9, 2) := dk_21 9 (dk_at dksX4_doesF_14 6 rfl rfl)
theorem dX4_doesF_359 : decode cX4_doesF 359 = .ok (.ifCond .eq 9, 3) := dk_153 0 9 (dk_at dksX4_doesF_14 8 rfl rfl)
theorem dX4_doesF_362 : decode cX4_doesF 362 = .ok (.iload 6, 2) := dk_21 6 (dk_at dksX4_doesF_14 11 rfl rfl)
theorem dX4_doesF_364 : decode cX4_doesF 364 = .ok (.i2d, 1) := dk_135 (dk_at dksX4_doesF_14 13 rfl rfl)
theorem dX4_doesF_365 : decode cX4_doesF 365 = .ok (.goto 10, 3) := dk_167 0 10 (dk_at dksX4_doesF_14 14 rfl rfl)
theorem dX4_doesF_368 : decode cX4_doesF 368 = .ok (.aload_n 0, 1) := dk_42 (dk_at dksX4_doesF_14 17 rfl rfl)
theorem dX4_doesF_369 : decode cX4_doesF 369 = .ok (.getfield 103, 3) := dk_180 0 103 (dk_at dksX4_doesF_14 18 rfl rfl)
theorem dX4_doesF_372 : decode cX4_doesF 372 = .ok (.iload 4, 2) := dk_21 4 (dk_at dksX4_doesF_14 21 rfl rfl)
theorem dX4_doesF_374 : decode cX4_doesF 374 = .ok (.daload, 1) := dk_49 (dk_at dksX4_doesF_14 23 rfl rfl)
theorem dX4_doesF_375 : decode cX4_doesF 375 = .ok (.dastore, 1) := dk_82 (dk_at dksX4_doesF_15 0 rfl rfl)
theorem dX4_doesF_376 : decode cX4_doesF 376 = .ok (.goto 118, 3) := dk_167 0 118 (dk_at dksX4_doesF_15 1 rfl rfl)
theorem dX4_doesF_379 : decode cX4_doesF 379 = .ok (.aload_n 0, 1) := dk_42 (dk_at dksX4_doesF_15 4 rfl rfl)
theorem dX4_doesF_380 : decode cX4_doesF 380 = .ok (.getfield 60, 3) := dk_180 0 60 (dk_at dksX4_doesF_15 5 rfl rfl)
theorem dX4_doesF_383 : decode cX4_doesF 383 = .ok (.bipush 8, 2) := dk_16 8 (dk_at dksX4_doesF_15 8 rfl rfl)
theorem dX4_doesF_385 : decode cX4_doesF 385 = .ok (.iload 5, 2) := dk_21 5 (dk_at dksX4_doesF_15 10 rfl rfl)
theorem dX4_doesF_387 : decode cX4_doesF 387 = .ok (.iadd, 1) := dk_96 (dk_at dksX4_doesF_15 12 rfl rfl)
theorem dX4_doesF_388 : decode cX4_doesF 388 = .ok (.dup2, 1) := dk_92 (dk_at dksX4_doesF_15 13 rfl rfl)
theorem dX4_doesF_389 : decode cX4_doesF 389 = .ok (.laload, 1) := dk_47 (dk_at dksX4_doesF_15 14 rfl rfl)
theorem dX4_doesF_390 : decode cX4_doesF 390 = .ok (.iload 6, 2) := dk_21 6 (dk_at dksX4_doesF_15 15 rfl rfl)
theorem dX4_doesF_392 : decode cX4_doesF 392 = .ok (.ifCond .ne 14, 3) := dk_154 0 14 (dk_at dksX4_doesF_15 17 rfl rfl)
theorem dX4_doesF_395 : decode cX4_doesF 395 = .ok (.aload_n 0, 1) := dk_42 (dk_at dksX4_doesF_15 20 rfl rfl)
theorem dX4_doesF_396 : decode cX4_doesF 396 = .ok (.getfield 103, 3) := dk_180 0 103 (dk_at dksX4_doesF_15 21 rfl rfl)
theorem dX4_doesF_399 : decode cX4_doesF 399 = .ok (.iload 4, 2) := dk_21 4 (dk_at dksX4_doesF_16 0 rfl rfl)
theorem dX4_doesF_401 : decode cX4_doesF 401 = .ok (.daload, 1) := dk_49 (dk_at dksX4_doesF_16 2 rfl rfl)
theorem dX4_doesF_402 : decode cX4_doesF 402 = .ok (.d2l, 1) := dk_143 (dk_at dksX4_doesF_16 3 rfl rfl)
theorem dX4_doesF_403 : decode cX4_doesF 403 = .ok (.goto 12, 3) := dk_167 0 12 (dk_at dksX4_doesF_16 4 rfl rfl)
theorem dX4_doesF_406 : decode cX4_doesF 406 = .ok (.aload_n 0, 1) := dk_42 (dk_at dksX4_doesF_16 7 rfl rfl)
theorem dX4_doesF_407 : decode cX4_doesF 407 = .ok (.getfield 103, 3) := dk_180 0 103 (dk_at dksX4_doesF_16 8 rfl rfl)
theorem dX4_doesF_410 : decode cX4_doesF 410 = .ok (.iload 4, 2) := dk_21 4 (dk_at dksX4_doesF_16 11 rfl rfl)
theorem dX4_doesF_412 : decode cX4_doesF 412 = .ok (.daload, 1) := dk_49 (dk_at dksX4_doesF_16 13 rfl rfl)
theorem dX4_doesF_413 : decode cX4_doesF 413 = .ok (.d2l, 1) := dk_143 (dk_at dksX4_doesF_16 14 rfl rfl)
theorem dX4_doesF_414 : decode cX4_doesF 414 = .ok (.lneg, 1) := dk_117 (dk_at dksX4_doesF_16 15 rfl rfl)
theorem dX4_doesF_415 : decode cX4_doesF 415 = .ok (.ladd, 1) := dk_97 (dk_at dksX4_doesF_16 16 rfl rfl)
theorem dX4_doesF_416 : decode cX4_doesF 416 = .ok (.lastore, 1) := dk_80 (dk_at dksX4_doesF_16 17 rfl rfl)
theorem dX4_doesF_417 : decode cX4_doesF 417 = .ok (.goto 77, 3) := dk_167 0 77 (dk_at dksX4_doesF_16 18 rfl rfl)
theorem dX4_doesF_420 : decode cX4_doesF 420 = .ok (.aload_n 0, 1) := dk_42 (dk_at dksX4_doesF_16 21 rfl rfl)
theorem dX4_doesF_421 : decode cX4_doesF 421 = .ok (.getfield 103, 3) := dk_180 0 103 (dk_at dksX4_doesF_17 0 rfl rfl)
theorem dX4_doesF_424 : decode cX4_doesF 424 = .ok (.iload 4, 2) := dk_21 4 (dk_at dksX4_doesF_17 3 rfl rfl)
theorem dX4_doesF_426 : decode cX4_doesF 426 = .ok (.aload_n 0, 1) := dk_42 (dk_at dksX4_doesF_17 5 rfl rfl)
theorem dX4_doesF_427 : decode cX4_doesF 427 = .ok (.getfield 103, 3) := dk_180 0 103 (dk_at dksX4_doesF_17 6 rfl rfl)
theorem dX4_doesF_430 : decode cX4_doesF 430 = .ok (.iload 5, 2) := dk_21 5 (dk_at dksX4_doesF_17 9 rfl rfl)
theorem dX4_doesF_432 : decode cX4_doesF 432 = .ok (.daload, 1) := dk_49 (dk_at dksX4_doesF_17 11 rfl rfl)
theorem dX4_doesF_433 : decode cX4_doesF 433 = .ok (.dconst 1, 1) := dk_15 (dk_at dksX4_doesF_17 12 rfl rfl)
theorem dX4_doesF_434 : decode cX4_doesF 434 = .ok (.iload 6, 2) := dk_21 6 (dk_at dksX4_doesF_17 13 rfl rfl)
theorem dX4_doesF_436 : decode cX4_doesF 436 = .ok (.invokestatic 325, 3) := dk_184 1 69 (dk_at dksX4_doesF_17 15 rfl rfl)
theorem dX4_doesF_439 : decode cX4_doesF 439 = .ok (.dastore, 1) := dk_82 (dk_at dksX4_doesF_17 18 rfl rfl)
theorem dX4_doesF_440 : decode cX4_doesF 440 = .ok (.goto 54, 3) := dk_167 0 54 (dk_at dksX4_doesF_17 19 rfl rfl)
theorem dX4_doesF_443 : decode cX4_doesF 443 = .ok (.iconst 0, 1) := dk_3 (dk_at dksX4_doesF_17 22 rfl rfl)
theorem dX4_doesF_444 : decode cX4_doesF 444 = .ok (.istore 10, 2) := dk_54 10 (dk_at dksX4_doesF_18 0 rfl rfl)
theorem dX4_doesF_446 : decode cX4_doesF 446 = .ok (.iload 10, 2) := dk_21 10 (dk_at dksX4_doesF_18 2 rfl rfl)
theorem dX4_doesF_448 : decode cX4_doesF 448 = .ok (.iload 6, 2) := dk_21 6 (dk_at dksX4_doesF_18 4 rfl rfl)
theorem dX4_doesF_450 : decode cX4_doesF 450 = .ok (.if_icmp .ge 44, 3) := dk_162 0 44 (dk_at dksX4_doesF_18 6 rfl rfl)
theorem dX4_doesF_453 : decode cX4_doesF 453 = .ok (.aload_n 0, 1) := dk_42 (dk_at dksX4_doesF_18 9 rfl rfl)
theorem dX4_doesF_454 : decode cX4_doesF 454 = .ok (.getfield 103, 3) := dk_180 0 103 (dk_at dksX4_doesF_18 10 rfl rfl)
theorem dX4_doesF_457 : decode cX4_doesF 457 = .ok (.iload 4, 2) := dk_21 4 (dk_at dksX4_doesF_18 13 rfl rfl)
theorem dX4_doesF_459 : decode cX4_doesF 459 = .ok (.dup2, 1) := dk_92 (dk_at dksX4_doesF_18 15 rfl rfl)
theorem dX4_doesF_460 : decode cX4_doesF 460 = .ok (.daload, 1) := dk_49 (dk_at dksX4_doesF_18 16 rfl rfl)
theorem dX4_doesF_461 : decode cX4_doesF 461 = .ok (.aload_n 0, 1) := dk_42 (dk_at dksX4_doesF_18 17 rfl rfl)
theorem dX4_doesF_462 : decode cX4_doesF 462 = .ok (.getfield 103, 3) := dk_180 0 103 (dk_at dksX4_doesF_18 18 rfl rfl)
theorem dX4_doesF_465 : decode cX4_doesF 465 = .ok (.iload 4, 2) := dk_21 4 (dk_at dksX4_doesF_18 21 rfl rfl)
theorem dX4_doesF_467 : decode cX4_doesF 467 = .ok (.daload, 1) := dk_49 (dk_at dksX4_doesF_18 23 rfl rfl)
theorem dX4_doesF_468 : decode cX4_doesF 468 = .ok (.aload_n 0, 1) := dk_42 (dk_at dksX4_doesF_19 0 rfl rfl)
theorem dX4_doesF_469 : decode cX4_doesF 469 = .ok (.iload 5, 2) := dk_21 5 (dk_at dksX4_doesF_19 1 rfl rfl)
theorem dX4_doesF_471 : decode cX4_doesF 471 = .ok (.invokevirtual 321, 3) := dk_182 1 65 (dk_at dksX4_doesF_19 3 rfl rfl)
theorem dX4_doesF_474 : decode cX4_doesF 474 = .ok (.dmul, 1) := dk_107 (dk_at dksX4_doesF_19 6 rfl rfl)
theorem dX4_doesF_475 : decode cX4_doesF 475 = .ok (.dconst 1, 1) := dk_15 (dk_at dksX4_doesF_19 7 rfl rfl)
theorem dX4_doesF_476 : decode cX4_doesF 476 = .ok (.iconst 1, 1) := dk_4 (dk_at dksX4_doesF_19 8 rfl rfl)
theorem dX4_doesF_477 : decode cX4_doesF 477 = .ok (.invokestatic 325, 3) := dk_184 1 69 (dk_at dksX4_doesF_19 9 rfl rfl)
theorem dX4_doesF_480 : decode cX4_doesF 480 = .ok (.dadd, 1) := dk_99 (dk_at dksX4_doesF_19 12 rfl rfl)
theorem dX4_doesF_481 : decode cX4_doesF 481 = .ok (.dastore, 1) := dk_82 (dk_at dksX4_doesF_19 13 rfl rfl)
theorem dX4_doesF_482 : decode cX4_doesF 482 = .ok (.aload_n 0, 1) := dk_42 (dk_at dksX4_doesF_19 14 rfl rfl)
theorem dX4_doesF_483 : decode cX4_doesF 483 = .ok (.iload 4, 2) := dk_21 4 (dk_at dksX4_doesF_19 15 rfl rfl)
theorem dX4_doesF_485 : decode cX4_doesF 485 = .ok (.invokevirtual 336, 3) := dk_182 1 80 (dk_at dksX4_doesF_19 17 rfl rfl)
theorem dX4_doesF_488 : decode cX4_doesF 488 = .ok (.iinc 10 1, 3) := dk_132 10 1 (dk_at dksX4_doesF_19 20 rfl rfl)
theorem dX4_doesF_491 : decode cX4_doesF 491 = .ok (.goto (-45), 3) := dk_167 255 211 (dk_at dksX4_doesF_20 0 rfl rfl)
theorem dX4_doesF_494 : decode cX4_doesF 494 = .ok (.aload_n 0, 1) := dk_42 (dk_at dksX4_doesF_20 3 rfl rfl)
theorem dX4_doesF_495 : decode cX4_doesF 495 = .ok (.iload 4, 2) := dk_21 4 (dk_at dksX4_doesF_20 4 rfl rfl)
theorem dX4_doesF_497 : decode cX4_doesF 497 = .ok (.invokevirtual 336, 3) := dk_182 1 80 (dk_at dksX4_doesF_20 6 rfl rfl)
theorem dX4_doesF_500 : decode cX4_doesF 500 = .ok (.return_, 1) := dk_177 (dk_at dksX4_doesF_20 9 rfl rfl)
abbrev cX4_rateF : ByteArray := prog_23_method_57_code
def yX4_rateF : MethodName := ⟨RX4, "rateF", "(I)D"⟩
def dkwX4_rateF_0 : List UInt8 := [42, 180, 0, 7, 27, 46, 135, 42, 180, 0, 13, 27, 46, 135, 111, 175]
abbrev dktX4_rateF_0 : List UInt8 := dkwX4_rateF_0 ++ []
theorem dksX4_rateF_0 : cX4_rateF.data.toList.drop 0 = dktX4_rateF_0 := by decide +kernel
theorem dX4_rateF_0 : decode cX4_rateF 0 = .ok (.aload_n 0, 1) := dk_42 (dk_at dksX4_rateF_0 0 rfl rfl)
theorem dX4_rateF_1 : decode cX4_rateF 1 = .ok (.getfield 7, 3) := dk_180 0 7 (dk_at dksX4_rateF_0 1 rfl rfl)
theorem dX4_rateF_4 : decode cX4_rateF 4 = .ok (.iload_n 1, 1) := dk_27 (dk_at dksX4_rateF_0 4 rfl rfl)
theorem dX4_rateF_5 : decode cX4_rateF 5 = .ok (.iaload, 1) := dk_46 (dk_at dksX4_rateF_0 5 rfl rfl)
theorem dX4_rateF_6 : decode cX4_rateF 6 = .ok (.i2d, 1) := dk_135 (dk_at dksX4_rateF_0 6 rfl rfl)
theorem dX4_rateF_7 : decode cX4_rateF 7 = .ok (.aload_n 0, 1) := dk_42 (dk_at dksX4_rateF_0 7 rfl rfl)
theorem dX4_rateF_8 : decode cX4_rateF 8 = .ok (.getfield 13, 3) := dk_180 0 13 (dk_at dksX4_rateF_0 8 rfl rfl)
theorem dX4_rateF_11 : decode cX4_rateF 11 = .ok (.iload_n 1, 1) := dk_27 (dk_at dksX4_rateF_0 11 rfl rfl)
theorem dX4_rateF_12 : decode cX4_rateF 12 = .ok (.iaload, 1) := dk_46 (dk_at dksX4_rateF_0 12 rfl rfl)
theorem dX4_rateF_13 : decode cX4_rateF 13 = .ok (.i2d, 1) := dk_135 (dk_at dksX4_rateF_0 13 rfl rfl)
theorem dX4_rateF_14 : decode cX4_rateF 14 = .ok (.ddiv, 1) := dk_111 (dk_at dksX4_rateF_0 14 rfl rfl)
theorem dX4_rateF_15 : decode cX4_rateF 15 = .ok (.dreturn, 1) := dk_175 (dk_at dksX4_rateF_0 15 rfl rfl)
abbrev cX4_roundedF : ByteArray := prog_23_method_56_code
def yX4_roundedF : MethodName := ⟨RX4, "roundedF", "(DDI)D"⟩
def dkwX4_roundedF_6 : List UInt8 := [184, 1, 54, 57, 7, 167, 0, 10, 24, 5, 184, 1, 59, 57, 7, 24, 7, 40, 107, 175]
abbrev dktX4_roundedF_6 : List UInt8 := dkwX4_roundedF_6 ++ []
def dkwX4_roundedF_5 : List UInt8 := [151, 158, 0, 11, 24, 5, 184, 1, 59, 167, 0, 8, 24, 5, 184, 1, 54, 57, 7, 167, 0, 20, 24, 5]
abbrev dktX4_roundedF_5 : List UInt8 := dkwX4_roundedF_5 ++ dktX4_roundedF_6
def dkwX4_roundedF_4 : List UInt8 := [158, 0, 11, 24, 5, 184, 1, 54, 167, 0, 8, 24, 5, 184, 1, 59, 57, 7, 167, 0, 45, 24, 5, 14]
abbrev dktX4_roundedF_4 : List UInt8 := dkwX4_roundedF_4 ++ dktX4_roundedF_5
def dkwX4_roundedF_3 : List UInt8 := [103, 184, 1, 59, 57, 7, 167, 0, 80, 24, 5, 184, 1, 62, 57, 7, 167, 0, 70, 24, 5, 14, 151]
abbrev dktX4_roundedF_3 : List UInt8 := dkwX4_roundedF_3 ++ dktX4_roundedF_4
def dkwX4_roundedF_2 : List UInt8 := [24, 5, 14, 152, 155, 0, 15, 24, 5, 20, 1, 52, 99, 184, 1, 54, 167, 0, 12, 24, 5, 20, 1, 52]
abbrev dktX4_roundedF_2 : List UInt8 := dkwX4_roundedF_2 ++ dktX4_roundedF_3
def dkwX4_roundedF_1 : List UInt8 := [170, 0, 0, 0, 136, 0, 0, 0, 0, 0, 0, 0, 4, 0, 0, 0, 33, 0, 0, 0, 66, 0, 0, 0, 76, 0, 0, 0, 101, 0, 0, 0, 126]
abbrev dktX4_roundedF_1 : List UInt8 := dkwX4_roundedF_1 ++ dktX4_roundedF_2
def dkwX4_roundedF_0 : List UInt8 := [38, 40, 111, 57, 5, 21, 4]
abbrev dktX4_roundedF_0 : List UInt8 := dkwX4_roundedF_0 ++ dktX4_roundedF_1
theorem dksX4_roundedF_0 : cX4_roundedF.data.toList.drop 0 = dktX4_roundedF_0 := by decide +kernel
theorem dksX4_roundedF_1 : cX4_roundedF.data.toList.drop 7 = dktX4_roundedF_1 := dk_seg dksX4_roundedF_0 7 rfl rfl
theorem dksX4_roundedF_2 : cX4_roundedF.data.toList.drop 40 = dktX4_roundedF_2 := dk_seg dksX4_roundedF_1 33 rfl rfl
theorem dksX4_roundedF_3 : cX4_roundedF.data.toList.drop 64 = dktX4_roundedF_3 := dk_seg dksX4_roundedF_2 24 rfl rfl
theorem dksX4_roundedF_4 : cX4_roundedF.data.toList.drop 87 = dktX4_roundedF_4 := dk_seg dksX4_roundedF_3 23 rfl rfl
theorem dksX4_roundedF_5 : cX4_roundedF.data.toList.drop 111 = dktX4_roundedF_5 := dk_seg dksX4_roundedF_4 24 rfl rfl
theorem dksX4_roundedF_6 : cX4_roundedF.data.toList.drop 135 = dktX4_roundedF_6 := dk_seg dksX4_roundedF_5 24 rfl rfl
theorem dX4_roundedF_0 : decode cX4_roundedF 0 = .ok (.dload_n 0, 1) := dk_38 (dk_at dksX4_roundedF_0 0 rfl rfl)
theorem dX4_roundedF_1 : decode cX4_roundedF 1 = .ok (.dload_n 2, 1) := dk_40 (dk_at dksX4_roundedF_0 1 rfl rfl)
theorem dX4_roundedF_2 : decode cX4_roundedF 2 = .ok (.ddiv, 1) := dk_111 (dk_at dksX4_roundedF_0 2 rfl rfl)
theorem dX4_roundedF_3 : decode cX4_roundedF 3 = .ok (.dstore 5, 2) := dk_57 5 (dk_at dksX4_roundedF_0 3 rfl rfl)
theorem dX4_roundedF_5 : decode cX4_roundedF 5 = .ok (.iload 4, 2) := dk_21 4 (dk_at dksX4_roundedF_0 5 rfl rfl)
theorem dX4_roundedF_7 : decode cX4_roundedF 7 = .ok (.tableswitch 136 0 4 #[33, 66, 76, 101, 126], 33) := by decide +kernel
theorem dX4_roundedF_40 : decode cX4_roundedF 40 = .ok (.dload 5, 2) := dk_24 5 (dk_at dksX4_roundedF_2 0 rfl rfl)
theorem dX4_roundedF_42 : decode cX4_roundedF 42 = .ok (.dconst 0, 1) := dk_14 (dk_at dksX4_roundedF_2 2 rfl rfl)
theorem dX4_roundedF_43 : decode cX4_roundedF 43 = .ok (.dcmp .g, 1) := dk_152 (dk_at dksX4_roundedF_2 3 rfl rfl)
theorem dX4_roundedF_44 : decode cX4_roundedF 44 = .ok (.ifCond .lt 15, 3) := dk_155 0 15 (dk_at dksX4_roundedF_2 4 rfl rfl)
theorem dX4_roundedF_47 : decode cX4_roundedF 47 = .ok (.dload 5, 2) := dk_24 5 (dk_at dksX4_roundedF_2 7 rfl rfl)
theorem dX4_roundedF_49 : decode cX4_roundedF 49 = .ok (.ldc2_w 308, 3) := dk_20 1 52 (dk_at dksX4_roundedF_2 9 rfl rfl)
theorem dX4_roundedF_52 : decode cX4_roundedF 52 = .ok (.dadd, 1) := dk_99 (dk_at dksX4_roundedF_2 12 rfl rfl)
theorem dX4_roundedF_53 : decode cX4_roundedF 53 = .ok (.invokestatic 310, 3) := dk_184 1 54 (dk_at dksX4_roundedF_2 13 rfl rfl)
theorem dX4_roundedF_56 : decode cX4_roundedF 56 = .ok (.goto 12, 3) := dk_167 0 12 (dk_at dksX4_roundedF_2 16 rfl rfl)
theorem dX4_roundedF_59 : decode cX4_roundedF 59 = .ok (.dload 5, 2) := dk_24 5 (dk_at dksX4_roundedF_2 19 rfl rfl)
theorem dX4_roundedF_61 : decode cX4_roundedF 61 = .ok (.ldc2_w 308, 3) := dk_20 1 52 (dk_at dksX4_roundedF_2 21 rfl rfl)
theorem dX4_roundedF_64 : decode cX4_roundedF 64 = .ok (.dsub, 1) := dk_103 (dk_at dksX4_roundedF_3 0 rfl rfl)
theorem dX4_roundedF_65 : decode cX4_roundedF 65 = .ok (.invokestatic 315, 3) := dk_184 1 59 (dk_at dksX4_roundedF_3 1 rfl rfl)
theorem dX4_roundedF_68 : decode cX4_roundedF 68 = .ok (.dstore 7, 2) := dk_57 7 (dk_at dksX4_roundedF_3 4 rfl rfl)
theorem dX4_roundedF_70 : decode cX4_roundedF 70 = .ok (.goto 80, 3) := dk_167 0 80 (dk_at dksX4_roundedF_3 6 rfl rfl)
theorem dX4_roundedF_73 : decode cX4_roundedF 73 = .ok (.dload 5, 2) := dk_24 5 (dk_at dksX4_roundedF_3 9 rfl rfl)
theorem dX4_roundedF_75 : decode cX4_roundedF 75 = .ok (.invokestatic 318, 3) := dk_184 1 62 (dk_at dksX4_roundedF_3 11 rfl rfl)
theorem dX4_roundedF_78 : decode cX4_roundedF 78 = .ok (.dstore 7, 2) := dk_57 7 (dk_at dksX4_roundedF_3 14 rfl rfl)
theorem dX4_roundedF_80 : decode cX4_roundedF 80 = .ok (.goto 70, 3) := dk_167 0 70 (dk_at dksX4_roundedF_3 16 rfl rfl)
theorem dX4_roundedF_83 : decode cX4_roundedF 83 = .ok (.dload 5, 2) := dk_24 5 (dk_at dksX4_roundedF_3 19 rfl rfl)
theorem dX4_roundedF_85 : decode cX4_roundedF 85 = .ok (.dconst 0, 1) := dk_14 (dk_at dksX4_roundedF_3 21 rfl rfl)
theorem dX4_roundedF_86 : decode cX4_roundedF 86 = .ok (.dcmp .l, 1) := dk_151 (dk_at dksX4_roundedF_3 22 rfl rfl)
theorem dX4_roundedF_87 : decode cX4_roundedF 87 = .ok (.ifCond .le 11, 3) := dk_158 0 11 (dk_at dksX4_roundedF_4 0 rfl rfl)
theorem dX4_roundedF_90 : decode cX4_roundedF 90 = .ok (.dload 5, 2) := dk_24 5 (dk_at dksX4_roundedF_4 3 rfl rfl)
theorem dX4_roundedF_92 : decode cX4_roundedF 92 = .ok (.invokestatic 310, 3) := dk_184 1 54 (dk_at dksX4_roundedF_4 5 rfl rfl)
theorem dX4_roundedF_95 : decode cX4_roundedF 95 = .ok (.goto 8, 3) := dk_167 0 8 (dk_at dksX4_roundedF_4 8 rfl rfl)
theorem dX4_roundedF_98 : decode cX4_roundedF 98 = .ok (.dload 5, 2) := dk_24 5 (dk_at dksX4_roundedF_4 11 rfl rfl)
theorem dX4_roundedF_100 : decode cX4_roundedF 100 = .ok (.invokestatic 315, 3) := dk_184 1 59 (dk_at dksX4_roundedF_4 13 rfl rfl)
theorem dX4_roundedF_103 : decode cX4_roundedF 103 = .ok (.dstore 7, 2) := dk_57 7 (dk_at dksX4_roundedF_4 16 rfl rfl)
theorem dX4_roundedF_105 : decode cX4_roundedF 105 = .ok (.goto 45, 3) := dk_167 0 45 (dk_at dksX4_roundedF_4 18 rfl rfl)
theorem dX4_roundedF_108 : decode cX4_roundedF 108 = .ok (.dload 5, 2) := dk_24 5 (dk_at dksX4_roundedF_4 21 rfl rfl)
theorem dX4_roundedF_110 : decode cX4_roundedF 110 = .ok (.dconst 0, 1) := dk_14 (dk_at dksX4_roundedF_4 23 rfl rfl)
theorem dX4_roundedF_111 : decode cX4_roundedF 111 = .ok (.dcmp .l, 1) := dk_151 (dk_at dksX4_roundedF_5 0 rfl rfl)
theorem dX4_roundedF_112 : decode cX4_roundedF 112 = .ok (.ifCond .le 11, 3) := dk_158 0 11 (dk_at dksX4_roundedF_5 1 rfl rfl)
theorem dX4_roundedF_115 : decode cX4_roundedF 115 = .ok (.dload 5, 2) := dk_24 5 (dk_at dksX4_roundedF_5 4 rfl rfl)
theorem dX4_roundedF_117 : decode cX4_roundedF 117 = .ok (.invokestatic 315, 3) := dk_184 1 59 (dk_at dksX4_roundedF_5 6 rfl rfl)
theorem dX4_roundedF_120 : decode cX4_roundedF 120 = .ok (.goto 8, 3) := dk_167 0 8 (dk_at dksX4_roundedF_5 9 rfl rfl)
theorem dX4_roundedF_123 : decode cX4_roundedF 123 = .ok (.dload 5, 2) := dk_24 5 (dk_at dksX4_roundedF_5 12 rfl rfl)
theorem dX4_roundedF_125 : decode cX4_roundedF 125 = .ok (.invokestatic 310, 3) := dk_184 1 54 (dk_at dksX4_roundedF_5 14 rfl rfl)
theorem dX4_roundedF_128 : decode cX4_roundedF 128 = .ok (.dstore 7, 2) := dk_57 7 (dk_at dksX4_roundedF_5 17 rfl rfl)
theorem dX4_roundedF_130 : decode cX4_roundedF 130 = .ok (.goto 20, 3) := dk_167 0 20 (dk_at dksX4_roundedF_5 19 rfl rfl)
theorem dX4_roundedF_133 : decode cX4_roundedF 133 = .ok (.dload 5, 2) := dk_24 5 (dk_at dksX4_roundedF_5 22 rfl rfl)
theorem dX4_roundedF_135 : decode cX4_roundedF 135 = .ok (.invokestatic 310, 3) := dk_184 1 54 (dk_at dksX4_roundedF_6 0 rfl rfl)
theorem dX4_roundedF_138 : decode cX4_roundedF 138 = .ok (.dstore 7, 2) := dk_57 7 (dk_at dksX4_roundedF_6 3 rfl rfl)
theorem dX4_roundedF_140 : decode cX4_roundedF 140 = .ok (.goto 10, 3) := dk_167 0 10 (dk_at dksX4_roundedF_6 5 rfl rfl)
theorem dX4_roundedF_143 : decode cX4_roundedF 143 = .ok (.dload 5, 2) := dk_24 5 (dk_at dksX4_roundedF_6 8 rfl rfl)
theorem dX4_roundedF_145 : decode cX4_roundedF 145 = .ok (.invokestatic 315, 3) := dk_184 1 59 (dk_at dksX4_roundedF_6 10 rfl rfl)
theorem dX4_roundedF_148 : decode cX4_roundedF 148 = .ok (.dstore 7, 2) := dk_57 7 (dk_at dksX4_roundedF_6 13 rfl rfl)
theorem dX4_roundedF_150 : decode cX4_roundedF 150 = .ok (.dload 7, 2) := dk_24 7 (dk_at dksX4_roundedF_6 15 rfl rfl)
theorem dX4_roundedF_152 : decode cX4_roundedF 152 = .ok (.dload_n 2, 1) := dk_40 (dk_at dksX4_roundedF_6 17 rfl rfl)
theorem dX4_roundedF_153 : decode cX4_roundedF 153 = .ok (.dmul, 1) := dk_107 (dk_at dksX4_roundedF_6 18 rfl rfl)
theorem dX4_roundedF_154 : decode cX4_roundedF 154 = .ok (.dreturn, 1) := dk_175 (dk_at dksX4_roundedF_6 19 rfl rfl)
abbrev cX4_splitsF : ByteArray := prog_23_method_58_code
def yX4_splitsF : MethodName := ⟨RX4, "splitsF", "(III)V"⟩
def dkwX4_splitsF_3 : List UInt8 := [16, 8, 21, 6, 96, 47, 138, 82, 132, 6, 1, 167, 255, 228, 177]
abbrev dktX4_splitsF_3 : List UInt8 := dkwX4_splitsF_3 ++ []
def dkwX4_splitsF_2 : List UInt8 := [181, 0, 146, 3, 54, 6, 21, 6, 16, 8, 162, 0, 27, 42, 180, 0, 107, 21, 6, 42, 180, 0, 54]
abbrev dktX4_splitsF_2 : List UInt8 := dkwX4_splitsF_2 ++ dktX4_splitsF_3
def dkwX4_splitsF_1 : List UInt8 := [22, 4, 20, 0, 194, 148, 156, 0, 7, 9, 167, 0, 5, 22, 4, 28, 29, 182, 0, 249, 42, 3]
abbrev dktX4_splitsF_1 : List UInt8 := dkwX4_splitsF_1 ++ dktX4_splitsF_2
def dkwX4_splitsF_0 : List UInt8 := [42, 180, 0, 103, 27, 49, 143, 55, 4, 42, 4, 181, 0, 146, 42, 22, 4, 20, 0, 192, 148, 157, 0, 12]
abbrev dktX4_splitsF_0 : List UInt8 := dkwX4_splitsF_0 ++ dktX4_splitsF_1
theorem dksX4_splitsF_0 : cX4_splitsF.data.toList.drop 0 = dktX4_splitsF_0 := by decide +kernel
theorem dksX4_splitsF_1 : cX4_splitsF.data.toList.drop 24 = dktX4_splitsF_1 := dk_seg dksX4_splitsF_0 24 rfl rfl
theorem dksX4_splitsF_2 : cX4_splitsF.data.toList.drop 46 = dktX4_splitsF_2 := dk_seg dksX4_splitsF_1 22 rfl rfl
theorem dksX4_splitsF_3 : cX4_splitsF.data.toList.drop 69 = dktX4_splitsF_3 := dk_seg dksX4_splitsF_2 23 rfl rfl
theorem dX4_splitsF_0 : decode cX4_splitsF 0 = .ok (.aload_n 0, 1) := dk_42 (dk_at dksX4_splitsF_0 0 rfl rfl)
theorem dX4_splitsF_1 : decode cX4_splitsF 1 = .ok (.getfield 103, 3) := dk_180 0 103 (dk_at dksX4_splitsF_0 1 rfl rfl)
theorem dX4_splitsF_4 : decode cX4_splitsF 4 = .ok (.iload_n 1, 1) := dk_27 (dk_at dksX4_splitsF_0 4 rfl rfl)
theorem dX4_splitsF_5 : decode cX4_splitsF 5 = .ok (.daload, 1) := dk_49 (dk_at dksX4_splitsF_0 5 rfl rfl)
theorem dX4_splitsF_6 : decode cX4_splitsF 6 = .ok (.d2l, 1) := dk_143 (dk_at dksX4_splitsF_0 6 rfl rfl)
theorem dX4_splitsF_7 : decode cX4_splitsF 7 = .ok (.lstore 4, 2) := dk_55 4 (dk_at dksX4_splitsF_0 7 rfl rfl)
theorem dX4_splitsF_9 : decode cX4_splitsF 9 = .ok (.aload_n 0, 1) := dk_42 (dk_at dksX4_splitsF_0 9 rfl rfl)
theorem dX4_splitsF_10 : decode cX4_splitsF 10 = .ok (.iconst 1, 1) := dk_4 (dk_at dksX4_splitsF_0 10 rfl rfl)
theorem dX4_splitsF_11 : decode cX4_splitsF 11 = .ok (.putfield 146, 3) := dk_181 0 146 (dk_at dksX4_splitsF_0 11 rfl rfl)
theorem dX4_splitsF_14 : decode cX4_splitsF 14 = .ok (.aload_n 0, 1) := dk_42 (dk_at dksX4_splitsF_0 14 rfl rfl)
theorem dX4_splitsF_15 : decode cX4_splitsF 15 = .ok (.lload 4, 2) := dk_22 4 (dk_at dksX4_splitsF_0 15 rfl rfl)
theorem dX4_splitsF_17 : decode cX4_splitsF 17 = .ok (.ldc2_w 192, 3) := dk_20 0 192 (dk_at dksX4_splitsF_0 17 rfl rfl)
theorem dX4_splitsF_20 : decode cX4_splitsF 20 = .ok (.lcmp, 1) := dk_148 (dk_at dksX4_splitsF_0 20 rfl rfl)
theorem dX4_splitsF_21 : decode cX4_splitsF 21 = .ok (.ifCond .gt 12, 3) := dk_157 0 12 (dk_at dksX4_splitsF_0 21 rfl rfl)
theorem dX4_splitsF_24 : decode cX4_splitsF 24 = .ok (.lload 4, 2) := dk_22 4 (dk_at dksX4_splitsF_1 0 rfl rfl)
theorem dX4_splitsF_26 : decode cX4_splitsF 26 = .ok (.ldc2_w 194, 3) := dk_20 0 194 (dk_at dksX4_splitsF_1 2 rfl rfl)
theorem dX4_splitsF_29 : decode cX4_splitsF 29 = .ok (.lcmp, 1) := dk_148 (dk_at dksX4_splitsF_1 5 rfl rfl)
theorem dX4_splitsF_30 : decode cX4_splitsF 30 = .ok (.ifCond .ge 7, 3) := dk_156 0 7 (dk_at dksX4_splitsF_1 6 rfl rfl)
theorem dX4_splitsF_33 : decode cX4_splitsF 33 = .ok (.lconst 0, 1) := dk_9 (dk_at dksX4_splitsF_1 9 rfl rfl)
theorem dX4_splitsF_34 : decode cX4_splitsF 34 = .ok (.goto 5, 3) := dk_167 0 5 (dk_at dksX4_splitsF_1 10 rfl rfl)
theorem dX4_splitsF_37 : decode cX4_splitsF 37 = .ok (.lload 4, 2) := dk_22 4 (dk_at dksX4_splitsF_1 13 rfl rfl)
theorem dX4_splitsF_39 : decode cX4_splitsF 39 = .ok (.iload_n 2, 1) := dk_28 (dk_at dksX4_splitsF_1 15 rfl rfl)
theorem dX4_splitsF_40 : decode cX4_splitsF 40 = .ok (.iload_n 3, 1) := dk_29 (dk_at dksX4_splitsF_1 16 rfl rfl)
theorem dX4_splitsF_41 : decode cX4_splitsF 41 = .ok (.invokevirtual 249, 3) := dk_182 0 249 (dk_at dksX4_splitsF_1 17 rfl rfl)
theorem dX4_splitsF_44 : decode cX4_splitsF 44 = .ok (.aload_n 0, 1) := dk_42 (dk_at dksX4_splitsF_1 20 rfl rfl)
theorem dX4_splitsF_45 : decode cX4_splitsF 45 = .ok (.iconst 0, 1) := dk_3 (dk_at dksX4_splitsF_1 21 rfl rfl)
theorem dX4_splitsF_46 : decode cX4_splitsF 46 = .ok (.putfield 146, 3) := dk_181 0 146 (dk_at dksX4_splitsF_2 0 rfl rfl)
theorem dX4_splitsF_49 : decode cX4_splitsF 49 = .ok (.iconst 0, 1) := dk_3 (dk_at dksX4_splitsF_2 3 rfl rfl)
theorem dX4_splitsF_50 : decode cX4_splitsF 50 = .ok (.istore 6, 2) := dk_54 6 (dk_at dksX4_splitsF_2 4 rfl rfl)
theorem dX4_splitsF_52 : decode cX4_splitsF 52 = .ok (.iload 6, 2) := dk_21 6 (dk_at dksX4_splitsF_2 6 rfl rfl)
theorem dX4_splitsF_54 : decode cX4_splitsF 54 = .ok (.bipush 8, 2) := dk_16 8 (dk_at dksX4_splitsF_2 8 rfl rfl)
theorem dX4_splitsF_56 : decode cX4_splitsF 56 = .ok (.if_icmp .ge 27, 3) := dk_162 0 27 (dk_at dksX4_splitsF_2 10 rfl rfl)
theorem dX4_splitsF_59 : decode cX4_splitsF 59 = .ok (.aload_n 0, 1) := dk_42 (dk_at dksX4_splitsF_2 13 rfl rfl)
theorem dX4_splitsF_60 : decode cX4_splitsF 60 = .ok (.getfield 107, 3) := dk_180 0 107 (dk_at dksX4_splitsF_2 14 rfl rfl)
theorem dX4_splitsF_63 : decode cX4_splitsF 63 = .ok (.iload 6, 2) := dk_21 6 (dk_at dksX4_splitsF_2 17 rfl rfl)
theorem dX4_splitsF_65 : decode cX4_splitsF 65 = .ok (.aload_n 0, 1) := dk_42 (dk_at dksX4_splitsF_2 19 rfl rfl)
theorem dX4_splitsF_66 : decode cX4_splitsF 66 = .ok (.getfield 54, 3) := dk_180 0 54 (dk_at dksX4_splitsF_2 20 rfl rfl)
theorem dX4_splitsF_69 : decode cX4_splitsF 69 = .ok (.bipush 8, 2) := dk_16 8 (dk_at dksX4_splitsF_3 0 rfl rfl)
theorem dX4_splitsF_71 : decode cX4_splitsF 71 = .ok (.iload 6, 2) := dk_21 6 (dk_at dksX4_splitsF_3 2 rfl rfl)
theorem dX4_splitsF_73 : decode cX4_splitsF 73 = .ok (.iadd, 1) := dk_96 (dk_at dksX4_splitsF_3 4 rfl rfl)
theorem dX4_splitsF_74 : decode cX4_splitsF 74 = .ok (.laload, 1) := dk_47 (dk_at dksX4_splitsF_3 5 rfl rfl)
theorem dX4_splitsF_75 : decode cX4_splitsF 75 = .ok (.l2d, 1) := dk_138 (dk_at dksX4_splitsF_3 6 rfl rfl)
theorem dX4_splitsF_76 : decode cX4_splitsF 76 = .ok (.dastore, 1) := dk_82 (dk_at dksX4_splitsF_3 7 rfl rfl)
theorem dX4_splitsF_77 : decode cX4_splitsF 77 = .ok (.iinc 6 1, 3) := dk_132 6 1 (dk_at dksX4_splitsF_3 8 rfl rfl)
theorem dX4_splitsF_80 : decode cX4_splitsF 80 = .ok (.goto (-28), 3) := dk_167 255 228 (dk_at dksX4_splitsF_3 11 rfl rfl)
theorem dX4_splitsF_83 : decode cX4_splitsF 83 = .ok (.return_, 1) := dk_177 (dk_at dksX4_splitsF_3 14 rfl rfl)
abbrev cX4_keepsF : ByteArray := prog_23_method_60_code
def yX4_keepsF : MethodName := ⟨RX4, "keepsF", "(I)V"⟩
def dkwX4_keepsF_2 : List UInt8 := [49, 82, 177]
abbrev dktX4_keepsF_2 : List UInt8 := dkwX4_keepsF_2 ++ []
def dkwX4_keepsF_1 : List UInt8 := [42, 180, 0, 103, 27, 49, 20, 1, 86, 152, 156, 0, 9, 20, 1, 86, 167, 0, 9, 42, 180, 0, 103, 27]
abbrev dktX4_keepsF_1 : List UInt8 := dkwX4_keepsF_1 ++ dktX4_keepsF_2
def dkwX4_keepsF_0 : List UInt8 := [42, 180, 0, 103, 27, 42, 180, 0, 103, 27, 49, 20, 1, 84, 151, 158, 0, 9, 20, 1, 84, 167, 0, 28]
abbrev dktX4_keepsF_0 : List UInt8 := dkwX4_keepsF_0 ++ dktX4_keepsF_1
theorem dksX4_keepsF_0 : cX4_keepsF.data.toList.drop 0 = dktX4_keepsF_0 := by decide +kernel
theorem dksX4_keepsF_1 : cX4_keepsF.data.toList.drop 24 = dktX4_keepsF_1 := dk_seg dksX4_keepsF_0 24 rfl rfl
theorem dksX4_keepsF_2 : cX4_keepsF.data.toList.drop 48 = dktX4_keepsF_2 := dk_seg dksX4_keepsF_1 24 rfl rfl
theorem dX4_keepsF_0 : decode cX4_keepsF 0 = .ok (.aload_n 0, 1) := dk_42 (dk_at dksX4_keepsF_0 0 rfl rfl)
theorem dX4_keepsF_1 : decode cX4_keepsF 1 = .ok (.getfield 103, 3) := dk_180 0 103 (dk_at dksX4_keepsF_0 1 rfl rfl)
theorem dX4_keepsF_4 : decode cX4_keepsF 4 = .ok (.iload_n 1, 1) := dk_27 (dk_at dksX4_keepsF_0 4 rfl rfl)
theorem dX4_keepsF_5 : decode cX4_keepsF 5 = .ok (.aload_n 0, 1) := dk_42 (dk_at dksX4_keepsF_0 5 rfl rfl)
theorem dX4_keepsF_6 : decode cX4_keepsF 6 = .ok (.getfield 103, 3) := dk_180 0 103 (dk_at dksX4_keepsF_0 6 rfl rfl)
theorem dX4_keepsF_9 : decode cX4_keepsF 9 = .ok (.iload_n 1, 1) := dk_27 (dk_at dksX4_keepsF_0 9 rfl rfl)
theorem dX4_keepsF_10 : decode cX4_keepsF 10 = .ok (.daload, 1) := dk_49 (dk_at dksX4_keepsF_0 10 rfl rfl)
theorem dX4_keepsF_11 : decode cX4_keepsF 11 = .ok (.ldc2_w 340, 3) := dk_20 1 84 (dk_at dksX4_keepsF_0 11 rfl rfl)
theorem dX4_keepsF_14 : decode cX4_keepsF 14 = .ok (.dcmp .l, 1) := dk_151 (dk_at dksX4_keepsF_0 14 rfl rfl)
theorem dX4_keepsF_15 : decode cX4_keepsF 15 = .ok (.ifCond .le 9, 3) := dk_158 0 9 (dk_at dksX4_keepsF_0 15 rfl rfl)
theorem dX4_keepsF_18 : decode cX4_keepsF 18 = .ok (.ldc2_w 340, 3) := dk_20 1 84 (dk_at dksX4_keepsF_0 18 rfl rfl)
theorem dX4_keepsF_21 : decode cX4_keepsF 21 = .ok (.goto 28, 3) := dk_167 0 28 (dk_at dksX4_keepsF_0 21 rfl rfl)
theorem dX4_keepsF_24 : decode cX4_keepsF 24 = .ok (.aload_n 0, 1) := dk_42 (dk_at dksX4_keepsF_1 0 rfl rfl)
theorem dX4_keepsF_25 : decode cX4_keepsF 25 = .ok (.getfield 103, 3) := dk_180 0 103 (dk_at dksX4_keepsF_1 1 rfl rfl)
theorem dX4_keepsF_28 : decode cX4_keepsF 28 = .ok (.iload_n 1, 1) := dk_27 (dk_at dksX4_keepsF_1 4 rfl rfl)
theorem dX4_keepsF_29 : decode cX4_keepsF 29 = .ok (.daload, 1) := dk_49 (dk_at dksX4_keepsF_1 5 rfl rfl)
theorem dX4_keepsF_30 : decode cX4_keepsF 30 = .ok (.ldc2_w 342, 3) := dk_20 1 86 (dk_at dksX4_keepsF_1 6 rfl rfl)
theorem dX4_keepsF_33 : decode cX4_keepsF 33 = .ok (.dcmp .g, 1) := dk_152 (dk_at dksX4_keepsF_1 9 rfl rfl)
theorem dX4_keepsF_34 : decode cX4_keepsF 34 = .ok (.ifCond .ge 9, 3) := dk_156 0 9 (dk_at dksX4_keepsF_1 10 rfl rfl)
theorem dX4_keepsF_37 : decode cX4_keepsF 37 = .ok (.ldc2_w 342, 3) := dk_20 1 86 (dk_at dksX4_keepsF_1 13 rfl rfl)
theorem dX4_keepsF_40 : decode cX4_keepsF 40 = .ok (.goto 9, 3) := dk_167 0 9 (dk_at dksX4_keepsF_1 16 rfl rfl)
theorem dX4_keepsF_43 : decode cX4_keepsF 43 = .ok (.aload_n 0, 1) := dk_42 (dk_at dksX4_keepsF_1 19 rfl rfl)
theorem dX4_keepsF_44 : decode cX4_keepsF 44 = .ok (.getfield 103, 3) := dk_180 0 103 (dk_at dksX4_keepsF_1 20 rfl rfl)
theorem dX4_keepsF_47 : decode cX4_keepsF 47 = .ok (.iload_n 1, 1) := dk_27 (dk_at dksX4_keepsF_1 23 rfl rfl)
theorem dX4_keepsF_48 : decode cX4_keepsF 48 = .ok (.daload, 1) := dk_49 (dk_at dksX4_keepsF_2 0 rfl rfl)
theorem dX4_keepsF_49 : decode cX4_keepsF 49 = .ok (.dastore, 1) := dk_82 (dk_at dksX4_keepsF_2 1 rfl rfl)
theorem dX4_keepsF_50 : decode cX4_keepsF 50 = .ok (.return_, 1) := dk_177 (dk_at dksX4_keepsF_2 2 rfl rfl)
abbrev cX4_order : ByteArray := prog_23_method_67_code
def yX4_order : MethodName := ⟨RX4, "order", "(I)I"⟩
def dkwX4_order_8 : List UInt8 := [19, 1, 97, 172]
abbrev dktX4_order_8 : List UInt8 := dkwX4_order_8 ++ []
def dkwX4_order_7 : List UInt8 := [167, 0, 4, 3, 54, 4, 132, 5, 1, 167, 255, 206, 21, 4, 153, 0, 5, 29, 172, 167, 255, 159]
abbrev dktX4_order_7 : List UInt8 := dkwX4_order_7 ++ dktX4_order_8
def dkwX4_order_6 : List UInt8 := [16, 12, 21, 5, 96, 47, 42, 180, 0, 113, 42, 180, 0, 110, 21, 5, 46, 47, 148, 153, 0, 7, 4]
abbrev dktX4_order_6 : List UInt8 := dkwX4_order_6 ++ dktX4_order_7
def dkwX4_order_5 : List UInt8 := [3, 54, 4, 3, 54, 5, 21, 5, 42, 180, 0, 137, 162, 0, 47, 21, 4, 154, 0, 29, 42, 180, 0, 57]
abbrev dktX4_order_5 : List UInt8 := dkwX4_order_5 ++ dktX4_order_6
def dkwX4_order_4 : List UInt8 := [132, 3, 1, 42, 27, 182, 1, 105, 28, 160, 0, 11, 42, 10, 182, 1, 42, 153, 0, 7, 4, 167, 0, 4]
abbrev dktX4_order_4 : List UInt8 := dkwX4_order_4 ++ dktX4_order_5
def dkwX4_order_3 : List UInt8 := [180, 0, 57, 16, 12, 29, 96, 47, 80, 132, 3, 1, 167, 255, 230, 3, 62, 42, 182, 1, 108, 153, 0, 96]
abbrev dktX4_order_3 : List UInt8 := dkwX4_order_3 ++ dktX4_order_4
def dkwX4_order_2 : List UInt8 := [182, 1, 105, 61, 42, 182, 1, 37, 3, 62, 29, 42, 180, 0, 137, 162, 0, 24, 42, 180, 0, 113, 29, 42]
abbrev dktX4_order_2 : List UInt8 := dkwX4_order_2 ++ dktX4_order_3
def dkwX4_order_1 : List UInt8 := [28, 42, 180, 0, 137, 162, 0, 16, 42, 180, 0, 110, 28, 28, 79, 132, 2, 1, 167, 255, 238, 42, 27]
abbrev dktX4_order_1 : List UInt8 := dkwX4_order_1 ++ dktX4_order_2
def dkwX4_order_0 : List UInt8 := [42, 27, 182, 0, 172, 154, 0, 5, 2, 172, 42, 180, 0, 137, 16, 6, 164, 0, 6, 16, 254, 172, 3, 61]
abbrev dktX4_order_0 : List UInt8 := dkwX4_order_0 ++ dktX4_order_1
theorem dksX4_order_0 : cX4_order.data.toList.drop 0 = dktX4_order_0 := by decide +kernel
theorem dksX4_order_1 : cX4_order.data.toList.drop 24 = dktX4_order_1 := dk_seg dksX4_order_0 24 rfl rfl
theorem dksX4_order_2 : cX4_order.data.toList.drop 47 = dktX4_order_2 := dk_seg dksX4_order_1 23 rfl rfl
theorem dksX4_order_3 : cX4_order.data.toList.drop 71 = dktX4_order_3 := dk_seg dksX4_order_2 24 rfl rfl
theorem dksX4_order_4 : cX4_order.data.toList.drop 95 = dktX4_order_4 := dk_seg dksX4_order_3 24 rfl rfl
theorem dksX4_order_5 : cX4_order.data.toList.drop 119 = dktX4_order_5 := dk_seg dksX4_order_4 24 rfl rfl
theorem dksX4_order_6 : cX4_order.data.toList.drop 143 = dktX4_order_6 := dk_seg dksX4_order_5 24 rfl rfl
theorem dksX4_order_7 : cX4_order.data.toList.drop 166 = dktX4_order_7 := dk_seg dksX4_order_6 23 rfl rfl
theorem dksX4_order_8 : cX4_order.data.toList.drop 188 = dktX4_order_8 := dk_seg dksX4_order_7 22 rfl rfl
theorem dX4_order_0 : decode cX4_order 0 = .ok (.aload_n 0, 1) := dk_42 (dk_at dksX4_order_0 0 rfl rfl)
theorem dX4_order_1 : decode cX4_order 1 = .ok (.iload_n 1, 1) := dk_27 (dk_at dksX4_order_0 1 rfl rfl)
theorem dX4_order_2 : decode cX4_order 2 = .ok (.invokevirtual 172, 3) := dk_182 0 172 (dk_at dksX4_order_0 2 rfl rfl)
theorem dX4_order_5 : decode cX4_order 5 = .ok (.ifCond .ne 5, 3) := dk_154 0 5 (dk_at dksX4_order_0 5 rfl rfl)
theorem dX4_order_8 : decode cX4_order 8 = .ok (.iconst (-1), 1) := dk_2 (dk_at dksX4_order_0 8 rfl rfl)
theorem dX4_order_9 : decode cX4_order 9 = .ok (.ireturn, 1) := dk_172 (dk_at dksX4_order_0 9 rfl rfl)
theorem dX4_order_10 : decode cX4_order 10 = .ok (.aload_n 0, 1) := dk_42 (dk_at dksX4_order_0 10 rfl rfl)
theorem dX4_order_11 : decode cX4_order 11 = .ok (.getfield 137, 3) := dk_180 0 137 (dk_at dksX4_order_0 11 rfl rfl)
theorem dX4_order_14 : decode cX4_order 14 = .ok (.bipush 6, 2) := dk_16 6 (dk_at dksX4_order_0 14 rfl rfl)
theorem dX4_order_16 : decode cX4_order 16 = .ok (.if_icmp .le 6, 3) := dk_164 0 6 (dk_at dksX4_order_0 16 rfl rfl)
theorem dX4_order_19 : decode cX4_order 19 = .ok (.bipush (-2), 2) := dk_16 254 (dk_at dksX4_order_0 19 rfl rfl)
theorem dX4_order_21 : decode cX4_order 21 = .ok (.ireturn, 1) := dk_172 (dk_at dksX4_order_0 21 rfl rfl)
theorem dX4_order_22 : decode cX4_order 22 = .ok (.iconst 0, 1) := dk_3 (dk_at dksX4_order_0 22 rfl rfl)
theorem dX4_order_23 : decode cX4_order 23 = .ok (.istore_n 2, 1) := dk_61 (dk_at dksX4_order_0 23 rfl rfl)
theorem dX4_order_24 : decode cX4_order 24 = .ok (.iload_n 2, 1) := dk_28 (dk_at dksX4_order_1 0 rfl rfl)
theorem dX4_order_25 : decode cX4_order 25 = .ok (.aload_n 0, 1) := dk_42 (dk_at dksX4_order_1 1 rfl rfl)
theorem dX4_order_26 : decode cX4_order 26 = .ok (.getfield 137, 3) := dk_180 0 137 (dk_at dksX4_order_1 2 rfl rfl)
theorem dX4_order_29 : decode cX4_order 29 = .ok (.if_icmp .ge 16, 3) := dk_162 0 16 (dk_at dksX4_order_1 5 rfl rfl)
theorem dX4_order_32 : decode cX4_order 32 = .ok (.aload_n 0, 1) := dk_42 (dk_at dksX4_order_1 8 rfl rfl)
theorem dX4_order_33 : decode cX4_order 33 = .ok (.getfield 110, 3) := dk_180 0 110 (dk_at dksX4_order_1 9 rfl rfl)
theorem dX4_order_36 : decode cX4_order 36 = .ok (.iload_n 2, 1) := dk_28 (dk_at dksX4_order_1 12 rfl rfl)
theorem dX4_order_37 : decode cX4_order 37 = .ok (.iload_n 2, 1) := dk_28 (dk_at dksX4_order_1 13 rfl rfl)
theorem dX4_order_38 : decode cX4_order 38 = .ok (.iastore, 1) := dk_79 (dk_at dksX4_order_1 14 rfl rfl)
theorem dX4_order_39 : decode cX4_order 39 = .ok (.iinc 2 1, 3) := dk_132 2 1 (dk_at dksX4_order_1 15 rfl rfl)
theorem dX4_order_42 : decode cX4_order 42 = .ok (.goto (-18), 3) := dk_167 255 238 (dk_at dksX4_order_1 18 rfl rfl)
theorem dX4_order_45 : decode cX4_order 45 = .ok (.aload_n 0, 1) := dk_42 (dk_at dksX4_order_1 21 rfl rfl)
theorem dX4_order_46 : decode cX4_order 46 = .ok (.iload_n 1, 1) := dk_27 (dk_at dksX4_order_1 22 rfl rfl)
theorem dX4_order_47 : decode cX4_order 47 = .ok (.invokevirtual 361, 3) := dk_182 1 105 (dk_at dksX4_order_2 0 rfl rfl)
theorem dX4_order_50 : decode cX4_order 50 = .ok (.istore_n 2, 1) := dk_61 (dk_at dksX4_order_2 3 rfl rfl)
theorem dX4_order_51 : decode cX4_order 51 = .ok (.aload_n 0, 1) := dk_42 (dk_at dksX4_order_2 4 rfl rfl)
theorem dX4_order_52 : decode cX4_order 52 = .ok (.invokevirtual 293, 3) := dk_182 1 37 (dk_at dksX4_order_2 5 rfl rfl)
theorem dX4_order_55 : decode cX4_order 55 = .ok (.iconst 0, 1) := dk_3 (dk_at dksX4_order_2 8 rfl rfl)
theorem dX4_order_56 : decode cX4_order 56 = .ok (.istore_n 3, 1) := dk_62 (dk_at dksX4_order_2 9 rfl rfl)
theorem dX4_order_57 : decode cX4_order 57 = .ok (.iload_n 3, 1) := dk_29 (dk_at dksX4_order_2 10 rfl rfl)
theorem dX4_order_58 : decode cX4_order 58 = .ok (.aload_n 0, 1) := dk_42 (dk_at dksX4_order_2 11 rfl rfl)
theorem dX4_order_59 : decode cX4_order 59 = .ok (.getfield 137, 3) := dk_180 0 137 (dk_at dksX4_order_2 12 rfl rfl)
theorem dX4_order_62 : decode cX4_order 62 = .ok (.if_icmp .ge 24, 3) := dk_162 0 24 (dk_at dksX4_order_2 15 rfl rfl)
theorem dX4_order_65 : decode cX4_order 65 = .ok (.aload_n 0, 1) := dk_42 (dk_at dksX4_order_2 18 rfl rfl)
theorem dX4_order_66 : decode cX4_order 66 = .ok (.getfield 113, 3) := dk_180 0 113 (dk_at dksX4_order_2 19 rfl rfl)
theorem dX4_order_69 : decode cX4_order 69 = .ok (.iload_n 3, 1) := dk_29 (dk_at dksX4_order_2 22 rfl rfl)
theorem dX4_order_70 : decode cX4_order 70 = .ok (.aload_n 0, 1) := dk_42 (dk_at dksX4_order_2 23 rfl rfl)
theorem dX4_order_71 : decode cX4_order 71 = .ok (.getfield 57, 3) := dk_180 0 57 (dk_at dksX4_order_3 0 rfl rfl)
theorem dX4_order_74 : decode cX4_order 74 = .ok (.bipush 12, 2) := dk_16 12 (dk_at dksX4_order_3 3 rfl rfl)
theorem dX4_order_76 : decode cX4_order 76 = .ok (.iload_n 3, 1) := dk_29 (dk_at dksX4_order_3 5 rfl rfl)
theorem dX4_order_77 : decode cX4_order 77 = .ok (.iadd, 1) := dk_96 (dk_at dksX4_order_3 6 rfl rfl)
theorem dX4_order_78 : decode cX4_order 78 = .ok (.laload, 1) := dk_47 (dk_at dksX4_order_3 7 rfl rfl)
theorem dX4_order_79 : decode cX4_order 79 = .ok (.lastore, 1) := dk_80 (dk_at dksX4_order_3 8 rfl rfl)
theorem dX4_order_80 : decode cX4_order 80 = .ok (.iinc 3 1, 3) := dk_132 3 1 (dk_at dksX4_order_3 9 rfl rfl)
theorem dX4_order_83 : decode cX4_order 83 = .ok (.goto (-26), 3) := dk_167 255 230 (dk_at dksX4_order_3 12 rfl rfl)
theorem dX4_order_86 : decode cX4_order 86 = .ok (.iconst 0, 1) := dk_3 (dk_at dksX4_order_3 15 rfl rfl)
theorem dX4_order_87 : decode cX4_order 87 = .ok (.istore_n 3, 1) := dk_62 (dk_at dksX4_order_3 16 rfl rfl)
theorem dX4_order_88 : decode cX4_order 88 = .ok (.aload_n 0, 1) := dk_42 (dk_at dksX4_order_3 17 rfl rfl)
theorem dX4_order_89 : decode cX4_order 89 = .ok (.invokevirtual 364, 3) := dk_182 1 108 (dk_at dksX4_order_3 18 rfl rfl)
theorem dX4_order_92 : decode cX4_order 92 = .ok (.ifCond .eq 96, 3) := dk_153 0 96 (dk_at dksX4_order_3 21 rfl rfl)
theorem dX4_order_95 : decode cX4_order 95 = .ok (.iinc 3 1, 3) := dk_132 3 1 (dk_at dksX4_order_4 0 rfl rfl)
theorem dX4_order_98 : decode cX4_order 98 = .ok (.aload_n 0, 1) := dk_42 (dk_at dksX4_order_4 3 rfl rfl)
theorem dX4_order_99 : decode cX4_order 99 = .ok (.iload_n 1, 1) := dk_27 (dk_at dksX4_order_4 4 rfl rfl)
theorem dX4_order_100 : decode cX4_order 100 = .ok (.invokevirtual 361, 3) := dk_182 1 105 (dk_at dksX4_order_4 5 rfl rfl)
theorem dX4_order_103 : decode cX4_order 103 = .ok (.iload_n 2, 1) := dk_28 (dk_at dksX4_order_4 8 rfl rfl)
theorem dX4_order_104 : decode cX4_order 104 = .ok (.if_icmp .ne 11, 3) := dk_160 0 11 (dk_at dksX4_order_4 9 rfl rfl)
theorem dX4_order_107 : decode cX4_order 107 = .ok (.aload_n 0, 1) := dk_42 (dk_at dksX4_order_4 12 rfl rfl)
theorem dX4_order_108 : decode cX4_order 108 = .ok (.lconst 1, 1) := dk_10 (dk_at dksX4_order_4 13 rfl rfl)
theorem dX4_order_109 : decode cX4_order 109 = .ok (.invokevirtual 298, 3) := dk_182 1 42 (dk_at dksX4_order_4 14 rfl rfl)
theorem dX4_order_112 : decode cX4_order 112 = .ok (.ifCond .eq 7, 3) := dk_153 0 7 (dk_at dksX4_order_4 17 rfl rfl)
theorem dX4_order_115 : decode cX4_order 115 = .ok (.iconst 1, 1) := dk_4 (dk_at dksX4_order_4 20 rfl rfl)
theorem dX4_order_116 : decode cX4_order 116 = .ok (.goto 4, 3) := dk_167 0 4 (dk_at dksX4_order_4 21 rfl rfl)
theorem dX4_order_119 : decode cX4_order 119 = .ok (.iconst 0, 1) := dk_3 (dk_at dksX4_order_5 0 rfl rfl)
theorem dX4_order_120 : decode cX4_order 120 = .ok (.istore 4, 2) := dk_54 4 (dk_at dksX4_order_5 1 rfl rfl)
theorem dX4_order_122 : decode cX4_order 122 = .ok (.iconst 0, 1) := dk_3 (dk_at dksX4_order_5 3 rfl rfl)
theorem dX4_order_123 : decode cX4_order 123 = .ok (.istore 5, 2) := dk_54 5 (dk_at dksX4_order_5 4 rfl rfl)
theorem dX4_order_125 : decode cX4_order 125 = .ok (.iload 5, 2) := dk_21 5 (dk_at dksX4_order_5 6 rfl rfl)
theorem dX4_order_127 : decode cX4_order 127 = .ok (.aload_n 0, 1) := dk_42 (dk_at dksX4_order_5 8 rfl rfl)
theorem dX4_order_128 : decode cX4_order 128 = .ok (.getfield 137, 3) := dk_180 0 137 (dk_at dksX4_order_5 9 rfl rfl)
theorem dX4_order_131 : decode cX4_order 131 = .ok (.if_icmp .ge 47, 3) := dk_162 0 47 (dk_at dksX4_order_5 12 rfl rfl)
theorem dX4_order_134 : decode cX4_order 134 = .ok (.iload 4, 2) := dk_21 4 (dk_at dksX4_order_5 15 rfl rfl)
theorem dX4_order_136 : decode cX4_order 136 = .ok (.ifCond .ne 29, 3) := dk_154 0 29 (dk_at dksX4_order_5 17 rfl rfl)
theorem dX4_order_139 : decode cX4_order 139 = .ok (.aload_n 0, 1) := dk_42 (dk_at dksX4_order_5 20 rfl rfl)
theorem dX4_order_140 : decode cX4_order 140 = .ok (.getfield 57, 3) := dk_180 0 57 (dk_at dksX4_order_5 21 rfl rfl)
theorem dX4_order_143 : decode cX4_order 143 = .ok (.bipush 12, 2) := dk_16 12 (dk_at dksX4_order_6 0 rfl rfl)
theorem dX4_order_145 : decode cX4_order 145 = .ok (.iload 5, 2) := dk_21 5 (dk_at dksX4_order_6 2 rfl rfl)
theorem dX4_order_147 : decode cX4_order 147 = .ok (.iadd, 1) := dk_96 (dk_at dksX4_order_6 4 rfl rfl)
theorem dX4_order_148 : decode cX4_order 148 = .ok (.laload, 1) := dk_47 (dk_at dksX4_order_6 5 rfl rfl)
theorem dX4_order_149 : decode cX4_order 149 = .ok (.aload_n 0, 1) := dk_42 (dk_at dksX4_order_6 6 rfl rfl)
theorem dX4_order_150 : decode cX4_order 150 = .ok (.getfield 113, 3) := dk_180 0 113 (dk_at dksX4_order_6 7 rfl rfl)
theorem dX4_order_153 : decode cX4_order 153 = .ok (.aload_n 0, 1) := dk_42 (dk_at dksX4_order_6 10 rfl rfl)
theorem dX4_order_154 : decode cX4_order 154 = .ok (.getfield 110, 3) := dk_180 0 110 (dk_at dksX4_order_6 11 rfl rfl)
theorem dX4_order_157 : decode cX4_order 157 = .ok (.iload 5, 2) := dk_21 5 (dk_at dksX4_order_6 14 rfl rfl)
theorem dX4_order_159 : decode cX4_order 159 = .ok (.iaload, 1) := dk_46 (dk_at dksX4_order_6 16 rfl rfl)
theorem dX4_order_160 : decode cX4_order 160 = .ok (.laload, 1) := dk_47 (dk_at dksX4_order_6 17 rfl rfl)
theorem dX4_order_161 : decode cX4_order 161 = .ok (.lcmp, 1) := dk_148 (dk_at dksX4_order_6 18 rfl rfl)
theorem dX4_order_162 : decode cX4_order 162 = .ok (.ifCond .eq 7, 3) := dk_153 0 7 (dk_at dksX4_order_6 19 rfl rfl)
theorem dX4_order_165 : decode cX4_order 165 = .ok (.iconst 1, 1) := dk_4 (dk_at dksX4_order_6 22 rfl rfl)
theorem dX4_order_166 : decode cX4_order 166 = .ok (.goto 4, 3) := dk_167 0 4 (dk_at dksX4_order_7 0 rfl rfl)
theorem dX4_order_169 : decode cX4_order 169 = .ok (.iconst 0, 1) := dk_3 (dk_at dksX4_order_7 3 rfl rfl)
theorem dX4_order_170 : decode cX4_order 170 = .ok (.istore 4, 2) := dk_54 4 (dk_at dksX4_order_7 4 rfl rfl)
theorem dX4_order_172 : decode cX4_order 172 = .ok (.iinc 5 1, 3) := dk_132 5 1 (dk_at dksX4_order_7 6 rfl rfl)
theorem dX4_order_175 : decode cX4_order 175 = .ok (.goto (-50), 3) := dk_167 255 206 (dk_at dksX4_order_7 9 rfl rfl)
theorem dX4_order_178 : decode cX4_order 178 = .ok (.iload 4, 2) := dk_21 4 (dk_at dksX4_order_7 12 rfl rfl)
theorem dX4_order_180 : decode cX4_order 180 = .ok (.ifCond .eq 5, 3) := dk_153 0 5 (dk_at dksX4_order_7 14 rfl rfl)
theorem dX4_order_183 : decode cX4_order 183 = .ok (.iload_n 3, 1) := dk_29 (dk_at dksX4_order_7 17 rfl rfl)
theorem dX4_order_184 : decode cX4_order 184 = .ok (.ireturn, 1) := dk_172 (dk_at dksX4_order_7 18 rfl rfl)
theorem dX4_order_185 : decode cX4_order 185 = .ok (.goto (-97), 3) := dk_167 255 159 (dk_at dksX4_order_7 19 rfl rfl)
theorem dX4_order_188 : decode cX4_order 188 = .ok (.ldc_w 353, 3) := dk_19 1 97 (dk_at dksX4_order_8 0 rfl rfl)
theorem dX4_order_191 : decode cX4_order 191 = .ok (.ireturn, 1) := dk_172 (dk_at dksX4_order_8 3 rfl rfl)
abbrev cX4_triesOrder : ByteArray := prog_23_method_66_code
def yX4_triesOrder : MethodName := ⟨RX4, "triesOrder", "(I)Z"⟩
def dkwX4_triesOrder_1 : List UInt8 := [180, 0, 16, 42, 180, 0, 110, 28, 46, 46, 79, 132, 2, 1, 167, 255, 228, 42, 27, 182, 1, 31, 172]
abbrev dktX4_triesOrder_1 : List UInt8 := dkwX4_triesOrder_1 ++ []
def dkwX4_triesOrder_0 : List UInt8 := [42, 42, 180, 0, 137, 181, 0, 209, 3, 61, 28, 42, 180, 0, 137, 162, 0, 26, 42, 180, 0, 44, 28, 42]
abbrev dktX4_triesOrder_0 : List UInt8 := dkwX4_triesOrder_0 ++ dktX4_triesOrder_1
theorem dksX4_triesOrder_0 : cX4_triesOrder.data.toList.drop 0 = dktX4_triesOrder_0 := by decide +kernel
theorem dksX4_triesOrder_1 : cX4_triesOrder.data.toList.drop 24 = dktX4_triesOrder_1 := dk_seg dksX4_triesOrder_0 24 rfl rfl
theorem dX4_triesOrder_0 : decode cX4_triesOrder 0 = .ok (.aload_n 0, 1) := dk_42 (dk_at dksX4_triesOrder_0 0 rfl rfl)
theorem dX4_triesOrder_1 : decode cX4_triesOrder 1 = .ok (.aload_n 0, 1) := dk_42 (dk_at dksX4_triesOrder_0 1 rfl rfl)
theorem dX4_triesOrder_2 : decode cX4_triesOrder 2 = .ok (.getfield 137, 3) := dk_180 0 137 (dk_at dksX4_triesOrder_0 2 rfl rfl)
theorem dX4_triesOrder_5 : decode cX4_triesOrder 5 = .ok (.putfield 209, 3) := dk_181 0 209 (dk_at dksX4_triesOrder_0 5 rfl rfl)
theorem dX4_triesOrder_8 : decode cX4_triesOrder 8 = .ok (.iconst 0, 1) := dk_3 (dk_at dksX4_triesOrder_0 8 rfl rfl)
theorem dX4_triesOrder_9 : decode cX4_triesOrder 9 = .ok (.istore_n 2, 1) := dk_61 (dk_at dksX4_triesOrder_0 9 rfl rfl)
theorem dX4_triesOrder_10 : decode cX4_triesOrder 10 = .ok (.iload_n 2, 1) := dk_28 (dk_at dksX4_triesOrder_0 10 rfl rfl)
theorem dX4_triesOrder_11 : decode cX4_triesOrder 11 = .ok (.aload_n 0, 1) := dk_42 (dk_at dksX4_triesOrder_0 11 rfl rfl)
theorem dX4_triesOrder_12 : decode cX4_triesOrder 12 = .ok (.getfield 137, 3) := dk_180 0 137 (dk_at dksX4_triesOrder_0 12 rfl rfl)
theorem dX4_triesOrder_15 : decode cX4_triesOrder 15 = .ok (.if_icmp .ge 26, 3) := dk_162 0 26 (dk_at dksX4_triesOrder_0 15 rfl rfl)
theorem dX4_triesOrder_18 : decode cX4_triesOrder 18 = .ok (.aload_n 0, 1) := dk_42 (dk_at dksX4_triesOrder_0 18 rfl rfl)
theorem dX4_triesOrder_19 : decode cX4_triesOrder 19 = .ok (.getfield 44, 3) := dk_180 0 44 (dk_at dksX4_triesOrder_0 19 rfl rfl)
theorem dX4_triesOrder_22 : decode cX4_triesOrder 22 = .ok (.iload_n 2, 1) := dk_28 (dk_at dksX4_triesOrder_0 22 rfl rfl)
theorem dX4_triesOrder_23 : decode cX4_triesOrder 23 = .ok (.aload_n 0, 1) := dk_42 (dk_at dksX4_triesOrder_0 23 rfl rfl)
theorem dX4_triesOrder_24 : decode cX4_triesOrder 24 = .ok (.getfield 16, 3) := dk_180 0 16 (dk_at dksX4_triesOrder_1 0 rfl rfl)
theorem dX4_triesOrder_27 : decode cX4_triesOrder 27 = .ok (.aload_n 0, 1) := dk_42 (dk_at dksX4_triesOrder_1 3 rfl rfl)
theorem dX4_triesOrder_28 : decode cX4_triesOrder 28 = .ok (.getfield 110, 3) := dk_180 0 110 (dk_at dksX4_triesOrder_1 4 rfl rfl)
theorem dX4_triesOrder_31 : decode cX4_triesOrder 31 = .ok (.iload_n 2, 1) := dk_28 (dk_at dksX4_triesOrder_1 7 rfl rfl)
theorem dX4_triesOrder_32 : decode cX4_triesOrder 32 = .ok (.iaload, 1) := dk_46 (dk_at dksX4_triesOrder_1 8 rfl rfl)
theorem dX4_triesOrder_33 : decode cX4_triesOrder 33 = .ok (.iaload, 1) := dk_46 (dk_at dksX4_triesOrder_1 9 rfl rfl)
theorem dX4_triesOrder_34 : decode cX4_triesOrder 34 = .ok (.iastore, 1) := dk_79 (dk_at dksX4_triesOrder_1 10 rfl rfl)
theorem dX4_triesOrder_35 : decode cX4_triesOrder 35 = .ok (.iinc 2 1, 3) := dk_132 2 1 (dk_at dksX4_triesOrder_1 11 rfl rfl)
theorem dX4_triesOrder_38 : decode cX4_triesOrder 38 = .ok (.goto (-28), 3) := dk_167 255 228 (dk_at dksX4_triesOrder_1 14 rfl rfl)
theorem dX4_triesOrder_41 : decode cX4_triesOrder 41 = .ok (.aload_n 0, 1) := dk_42 (dk_at dksX4_triesOrder_1 17 rfl rfl)
theorem dX4_triesOrder_42 : decode cX4_triesOrder 42 = .ok (.iload_n 1, 1) := dk_27 (dk_at dksX4_triesOrder_1 18 rfl rfl)
theorem dX4_triesOrder_43 : decode cX4_triesOrder 43 = .ok (.invokevirtual 287, 3) := dk_182 1 31 (dk_at dksX4_triesOrder_1 19 rfl rfl)
theorem dX4_triesOrder_46 : decode cX4_triesOrder 46 = .ok (.ireturn, 1) := dk_172 (dk_at dksX4_triesOrder_1 22 rfl rfl)
abbrev cX4_steps : ByteArray := prog_23_method_65_code
def yX4_steps : MethodName := ⟨RX4, "steps", "()Z"⟩
def dkwX4_steps_6 : List UInt8 := [132, 4, 1, 132, 5, 255, 167, 255, 213, 4, 172]
abbrev dktX4_steps_6 : List UInt8 := dkwX4_steps_6 ++ []
def dkwX4_steps_5 : List UInt8 := [46, 62, 42, 180, 0, 110, 21, 4, 42, 180, 0, 110, 21, 5, 46, 79, 42, 180, 0, 110, 21, 5, 29, 79]
abbrev dktX4_steps_5 : List UInt8 := dkwX4_steps_5 ++ dktX4_steps_6
def dkwX4_steps_4 : List UInt8 := [96, 54, 4, 42, 180, 0, 137, 4, 100, 54, 5, 21, 4, 21, 5, 162, 0, 42, 42, 180, 0, 110, 21, 4]
abbrev dktX4_steps_4 : List UInt8 := dkwX4_steps_4 ++ dktX4_steps_5
def dkwX4_steps_3 : List UInt8 := [27, 46, 62, 42, 180, 0, 110, 27, 42, 180, 0, 110, 28, 46, 79, 42, 180, 0, 110, 28, 29, 79, 27, 4]
abbrev dktX4_steps_3 : List UInt8 := dkwX4_steps_3 ++ dktX4_steps_4
def dkwX4_steps_2 : List UInt8 := [180, 0, 110, 28, 46, 42, 180, 0, 110, 27, 46, 162, 0, 9, 132, 2, 255, 167, 255, 238, 42, 180, 0, 110]
abbrev dktX4_steps_2 : List UInt8 := dkwX4_steps_2 ++ dktX4_steps_3
def dkwX4_steps_1 : List UInt8 := [46, 164, 0, 9, 132, 1, 255, 167, 255, 232, 27, 156, 0, 5, 3, 172, 42, 180, 0, 137, 4, 100, 61, 42]
abbrev dktX4_steps_1 : List UInt8 := dkwX4_steps_1 ++ dktX4_steps_2
def dkwX4_steps_0 : List UInt8 := [42, 180, 0, 137, 5, 100, 60, 27, 155, 0, 26, 42, 180, 0, 110, 27, 46, 42, 180, 0, 110, 27, 4, 96]
abbrev dktX4_steps_0 : List UInt8 := dkwX4_steps_0 ++ dktX4_steps_1
theorem dksX4_steps_0 : cX4_steps.data.toList.drop 0 = dktX4_steps_0 := by decide +kernel
theorem dksX4_steps_1 : cX4_steps.data.toList.drop 24 = dktX4_steps_1 := dk_seg dksX4_steps_0 24 rfl rfl
theorem dksX4_steps_2 : cX4_steps.data.toList.drop 48 = dktX4_steps_2 := dk_seg dksX4_steps_1 24 rfl rfl
theorem dksX4_steps_3 : cX4_steps.data.toList.drop 72 = dktX4_steps_3 := dk_seg dksX4_steps_2 24 rfl rfl
theorem dksX4_steps_4 : cX4_steps.data.toList.drop 96 = dktX4_steps_4 := dk_seg dksX4_steps_3 24 rfl rfl
theorem dksX4_steps_5 : cX4_steps.data.toList.drop 120 = dktX4_steps_5 := dk_seg dksX4_steps_4 24 rfl rfl
theorem dksX4_steps_6 : cX4_steps.data.toList.drop 144 = dktX4_steps_6 := dk_seg dksX4_steps_5 24 rfl rfl
theorem dX4_steps_0 : decode cX4_steps 0 = .ok (.aload_n 0, 1) := dk_42 (dk_at dksX4_steps_0 0 rfl rfl)
theorem dX4_steps_1 : decode cX4_steps 1 = .ok (.getfield 137, 3) := dk_180 0 137 (dk_at dksX4_steps_0 1 rfl rfl)
theorem dX4_steps_4 : decode cX4_steps 4 = .ok (.iconst 2, 1) := dk_5 (dk_at dksX4_steps_0 4 rfl rfl)
theorem dX4_steps_5 : decode cX4_steps 5 = .ok (.isub, 1) := dk_100 (dk_at dksX4_steps_0 5 rfl rfl)
theorem dX4_steps_6 : decode cX4_steps 6 = .ok (.istore_n 1, 1) := dk_60 (dk_at dksX4_steps_0 6 rfl rfl)
theorem dX4_steps_7 : decode cX4_steps 7 = .ok (.iload_n 1, 1) := dk_27 (dk_at dksX4_steps_0 7 rfl rfl)
theorem dX4_steps_8 : decode cX4_steps 8 = .ok (.ifCond .lt 26, 3) := dk_155 0 26 (dk_at dksX4_steps_0 8 rfl rfl)
theorem dX4_steps_11 : decode cX4_steps 11 = .ok (.aload_n 0, 1) := dk_42 (dk_at dksX4_steps_0 11 rfl rfl)
theorem dX4_steps_12 : decode cX4_steps 12 = .ok (.getfield 110, 3) := dk_180 0 110 (dk_at dksX4_steps_0 12 rfl rfl)
theorem dX4_steps_15 : decode cX4_steps 15 = .ok (.iload_n 1, 1) := dk_27 (dk_at dksX4_steps_0 15 rfl rfl)
theorem dX4_steps_16 : decode cX4_steps 16 = .ok (.iaload, 1) := dk_46 (dk_at dksX4_steps_0 16 rfl rfl)
theorem dX4_steps_17 : decode cX4_steps 17 = .ok (.aload_n 0, 1) := dk_42 (dk_at dksX4_steps_0 17 rfl rfl)
theorem dX4_steps_18 : decode cX4_steps 18 = .ok (.getfield 110, 3) := dk_180 0 110 (dk_at dksX4_steps_0 18 rfl rfl)
theorem dX4_steps_21 : decode cX4_steps 21 = .ok (.iload_n 1, 1) := dk_27 (dk_at dksX4_steps_0 21 rfl rfl)
theorem dX4_steps_22 : decode cX4_steps 22 = .ok (.iconst 1, 1) := dk_4 (dk_at dksX4_steps_0 22 rfl rfl)
theorem dX4_steps_23 : decode cX4_steps 23 = .ok (.iadd, 1) := dk_96 (dk_at dksX4_steps_0 23 rfl rfl)
theorem dX4_steps_24 : decode cX4_steps 24 = .ok (.iaload, 1) := dk_46 (dk_at dksX4_steps_1 0 rfl rfl)
theorem dX4_steps_25 : decode cX4_steps 25 = .ok (.if_icmp .le 9, 3) := dk_164 0 9 (dk_at dksX4_steps_1 1 rfl rfl)
theorem dX4_steps_28 : decode cX4_steps 28 = .ok (.iinc 1 (-1), 3) := dk_132 1 255 (dk_at dksX4_steps_1 4 rfl rfl)
theorem dX4_steps_31 : decode cX4_steps 31 = .ok (.goto (-24), 3) := dk_167 255 232 (dk_at dksX4_steps_1 7 rfl rfl)
theorem dX4_steps_34 : decode cX4_steps 34 = .ok (.iload_n 1, 1) := dk_27 (dk_at dksX4_steps_1 10 rfl rfl)
theorem dX4_steps_35 : decode cX4_steps 35 = .ok (.ifCond .ge 5, 3) := dk_156 0 5 (dk_at dksX4_steps_1 11 rfl rfl)
theorem dX4_steps_38 : decode cX4_steps 38 = .ok (.iconst 0, 1) := dk_3 (dk_at dksX4_steps_1 14 rfl rfl)
theorem dX4_steps_39 : decode cX4_steps 39 = .ok (.ireturn, 1) := dk_172 (dk_at dksX4_steps_1 15 rfl rfl)
theorem dX4_steps_40 : decode cX4_steps 40 = .ok (.aload_n 0, 1) := dk_42 (dk_at dksX4_steps_1 16 rfl rfl)
theorem dX4_steps_41 : decode cX4_steps 41 = .ok (.getfield 137, 3) := dk_180 0 137 (dk_at dksX4_steps_1 17 rfl rfl)
theorem dX4_steps_44 : decode cX4_steps 44 = .ok (.iconst 1, 1) := dk_4 (dk_at dksX4_steps_1 20 rfl rfl)
theorem dX4_steps_45 : decode cX4_steps 45 = .ok (.isub, 1) := dk_100 (dk_at dksX4_steps_1 21 rfl rfl)
theorem dX4_steps_46 : decode cX4_steps 46 = .ok (.istore_n 2, 1) := dk_61 (dk_at dksX4_steps_1 22 rfl rfl)
theorem dX4_steps_47 : decode cX4_steps 47 = .ok (.aload_n 0, 1) := dk_42 (dk_at dksX4_steps_1 23 rfl rfl)
theorem dX4_steps_48 : decode cX4_steps 48 = .ok (.getfield 110, 3) := dk_180 0 110 (dk_at dksX4_steps_2 0 rfl rfl)
theorem dX4_steps_51 : decode cX4_steps 51 = .ok (.iload_n 2, 1) := dk_28 (dk_at dksX4_steps_2 3 rfl rfl)
theorem dX4_steps_52 : decode cX4_steps 52 = .ok (.iaload, 1) := dk_46 (dk_at dksX4_steps_2 4 rfl rfl)
theorem dX4_steps_53 : decode cX4_steps 53 = .ok (.aload_n 0, 1) := dk_42 (dk_at dksX4_steps_2 5 rfl rfl)
theorem dX4_steps_54 : decode cX4_steps 54 = .ok (.getfield 110, 3) := dk_180 0 110 (dk_at dksX4_steps_2 6 rfl rfl)
theorem dX4_steps_57 : decode cX4_steps 57 = .ok (.iload_n 1, 1) := dk_27 (dk_at dksX4_steps_2 9 rfl rfl)
theorem dX4_steps_58 : decode cX4_steps 58 = .ok (.iaload, 1) := dk_46 (dk_at dksX4_steps_2 10 rfl rfl)
theorem dX4_steps_59 : decode cX4_steps 59 = .ok (.if_icmp .ge 9, 3) := dk_162 0 9 (dk_at dksX4_steps_2 11 rfl rfl)
theorem dX4_steps_62 : decode cX4_steps 62 = .ok (.iinc 2 (-1), 3) := dk_132 2 255 (dk_at dksX4_steps_2 14 rfl rfl)
theorem dX4_steps_65 : decode cX4_steps 65 = .ok (.goto (-18), 3) := dk_167 255 238 (dk_at dksX4_steps_2 17 rfl rfl)
theorem dX4_steps_68 : decode cX4_steps 68 = .ok (.aload_n 0, 1) := dk_42 (dk_at dksX4_steps_2 20 rfl rfl)
theorem dX4_steps_69 : decode cX4_steps 69 = .ok (.getfield 110, 3) := dk_180 0 110 (dk_at dksX4_steps_2 21 rfl rfl)
theorem dX4_steps_72 : decode cX4_steps 72 = .ok (.iload_n 1, 1) := dk_27 (dk_at dksX4_steps_3 0 rfl rfl)
theorem dX4_steps_73 : decode cX4_steps 73 = .ok (.iaload, 1) := dk_46 (dk_at dksX4_steps_3 1 rfl rfl)
theorem dX4_steps_74 : decode cX4_steps 74 = .ok (.istore_n 3, 1) := dk_62 (dk_at dksX4_steps_3 2 rfl rfl)
theorem dX4_steps_75 : decode cX4_steps 75 = .ok (.aload_n 0, 1) := dk_42 (dk_at dksX4_steps_3 3 rfl rfl)
theorem dX4_steps_76 : decode cX4_steps 76 = .ok (.getfield 110, 3) := dk_180 0 110 (dk_at dksX4_steps_3 4 rfl rfl)
theorem dX4_steps_79 : decode cX4_steps 79 = .ok (.iload_n 1, 1) := dk_27 (dk_at dksX4_steps_3 7 rfl rfl)
theorem dX4_steps_80 : decode cX4_steps 80 = .ok (.aload_n 0, 1) := dk_42 (dk_at dksX4_steps_3 8 rfl rfl)
theorem dX4_steps_81 : decode cX4_steps 81 = .ok (.getfield 110, 3) := dk_180 0 110 (dk_at dksX4_steps_3 9 rfl rfl)
theorem dX4_steps_84 : decode cX4_steps 84 = .ok (.iload_n 2, 1) := dk_28 (dk_at dksX4_steps_3 12 rfl rfl)
theorem dX4_steps_85 : decode cX4_steps 85 = .ok (.iaload, 1) := dk_46 (dk_at dksX4_steps_3 13 rfl rfl)
theorem dX4_steps_86 : decode cX4_steps 86 = .ok (.iastore, 1) := dk_79 (dk_at dksX4_steps_3 14 rfl rfl)
theorem dX4_steps_87 : decode cX4_steps 87 = .ok (.aload_n 0, 1) := dk_42 (dk_at dksX4_steps_3 15 rfl rfl)
theorem dX4_steps_88 : decode cX4_steps 88 = .ok (.getfield 110, 3) := dk_180 0 110 (dk_at dksX4_steps_3 16 rfl rfl)
theorem dX4_steps_91 : decode cX4_steps 91 = .ok (.iload_n 2, 1) := dk_28 (dk_at dksX4_steps_3 19 rfl rfl)
theorem dX4_steps_92 : decode cX4_steps 92 = .ok (.iload_n 3, 1) := dk_29 (dk_at dksX4_steps_3 20 rfl rfl)
theorem dX4_steps_93 : decode cX4_steps 93 = .ok (.iastore, 1) := dk_79 (dk_at dksX4_steps_3 21 rfl rfl)
theorem dX4_steps_94 : decode cX4_steps 94 = .ok (.iload_n 1, 1) := dk_27 (dk_at dksX4_steps_3 22 rfl rfl)
theorem dX4_steps_95 : decode cX4_steps 95 = .ok (.iconst 1, 1) := dk_4 (dk_at dksX4_steps_3 23 rfl rfl)
theorem dX4_steps_96 : decode cX4_steps 96 = .ok (.iadd, 1) := dk_96 (dk_at dksX4_steps_4 0 rfl rfl)
theorem dX4_steps_97 : decode cX4_steps 97 = .ok (.istore 4, 2) := dk_54 4 (dk_at dksX4_steps_4 1 rfl rfl)
theorem dX4_steps_99 : decode cX4_steps 99 = .ok (.aload_n 0, 1) := dk_42 (dk_at dksX4_steps_4 3 rfl rfl)
theorem dX4_steps_100 : decode cX4_steps 100 = .ok (.getfield 137, 3) := dk_180 0 137 (dk_at dksX4_steps_4 4 rfl rfl)
theorem dX4_steps_103 : decode cX4_steps 103 = .ok (.iconst 1, 1) := dk_4 (dk_at dksX4_steps_4 7 rfl rfl)
theorem dX4_steps_104 : decode cX4_steps 104 = .ok (.isub, 1) := dk_100 (dk_at dksX4_steps_4 8 rfl rfl)
theorem dX4_steps_105 : decode cX4_steps 105 = .ok (.istore 5, 2) := dk_54 5 (dk_at dksX4_steps_4 9 rfl rfl)
theorem dX4_steps_107 : decode cX4_steps 107 = .ok (.iload 4, 2) := dk_21 4 (dk_at dksX4_steps_4 11 rfl rfl)
theorem dX4_steps_109 : decode cX4_steps 109 = .ok (.iload 5, 2) := dk_21 5 (dk_at dksX4_steps_4 13 rfl rfl)
theorem dX4_steps_111 : decode cX4_steps 111 = .ok (.if_icmp .ge 42, 3) := dk_162 0 42 (dk_at dksX4_steps_4 15 rfl rfl)
theorem dX4_steps_114 : decode cX4_steps 114 = .ok (.aload_n 0, 1) := dk_42 (dk_at dksX4_steps_4 18 rfl rfl)
theorem dX4_steps_115 : decode cX4_steps 115 = .ok (.getfield 110, 3) := dk_180 0 110 (dk_at dksX4_steps_4 19 rfl rfl)
theorem dX4_steps_118 : decode cX4_steps 118 = .ok (.iload 4, 2) := dk_21 4 (dk_at dksX4_steps_4 22 rfl rfl)
theorem dX4_steps_120 : decode cX4_steps 120 = .ok (.iaload, 1) := dk_46 (dk_at dksX4_steps_5 0 rfl rfl)
theorem dX4_steps_121 : decode cX4_steps 121 = .ok (.istore_n 3, 1) := dk_62 (dk_at dksX4_steps_5 1 rfl rfl)
theorem dX4_steps_122 : decode cX4_steps 122 = .ok (.aload_n 0, 1) := dk_42 (dk_at dksX4_steps_5 2 rfl rfl)
theorem dX4_steps_123 : decode cX4_steps 123 = .ok (.getfield 110, 3) := dk_180 0 110 (dk_at dksX4_steps_5 3 rfl rfl)
theorem dX4_steps_126 : decode cX4_steps 126 = .ok (.iload 4, 2) := dk_21 4 (dk_at dksX4_steps_5 6 rfl rfl)
theorem dX4_steps_128 : decode cX4_steps 128 = .ok (.aload_n 0, 1) := dk_42 (dk_at dksX4_steps_5 8 rfl rfl)
theorem dX4_steps_129 : decode cX4_steps 129 = .ok (.getfield 110, 3) := dk_180 0 110 (dk_at dksX4_steps_5 9 rfl rfl)
theorem dX4_steps_132 : decode cX4_steps 132 = .ok (.iload 5, 2) := dk_21 5 (dk_at dksX4_steps_5 12 rfl rfl)
theorem dX4_steps_134 : decode cX4_steps 134 = .ok (.iaload, 1) := dk_46 (dk_at dksX4_steps_5 14 rfl rfl)
theorem dX4_steps_135 : decode cX4_steps 135 = .ok (.iastore, 1) := dk_79 (dk_at dksX4_steps_5 15 rfl rfl)
theorem dX4_steps_136 : decode cX4_steps 136 = .ok (.aload_n 0, 1) := dk_42 (dk_at dksX4_steps_5 16 rfl rfl)
theorem dX4_steps_137 : decode cX4_steps 137 = .ok (.getfield 110, 3) := dk_180 0 110 (dk_at dksX4_steps_5 17 rfl rfl)
theorem dX4_steps_140 : decode cX4_steps 140 = .ok (.iload 5, 2) := dk_21 5 (dk_at dksX4_steps_5 20 rfl rfl)
theorem dX4_steps_142 : decode cX4_steps 142 = .ok (.iload_n 3, 1) := dk_29 (dk_at dksX4_steps_5 22 rfl rfl)
theorem dX4_steps_143 : decode cX4_steps 143 = .ok (.iastore, 1) := dk_79 (dk_at dksX4_steps_5 23 rfl rfl)
theorem dX4_steps_144 : decode cX4_steps 144 = .ok (.iinc 4 1, 3) := dk_132 4 1 (dk_at dksX4_steps_6 0 rfl rfl)
theorem dX4_steps_147 : decode cX4_steps 147 = .ok (.iinc 5 (-1), 3) := dk_132 5 255 (dk_at dksX4_steps_6 3 rfl rfl)
theorem dX4_steps_150 : decode cX4_steps 150 = .ok (.goto (-43), 3) := dk_167 255 213 (dk_at dksX4_steps_6 6 rfl rfl)
theorem dX4_steps_153 : decode cX4_steps 153 = .ok (.iconst 1, 1) := dk_4 (dk_at dksX4_steps_6 9 rfl rfl)
theorem dX4_steps_154 : decode cX4_steps 154 = .ok (.ireturn, 1) := dk_172 (dk_at dksX4_steps_6 10 rfl rfl)
abbrev cX4_drift : ByteArray := prog_23_method_68_code
def yX4_drift : MethodName := ⟨RX4, "drift", "(IIIII)I"⟩
def dkwX4_drift_20 : List UInt8 := [132, 14, 1, 167, 255, 184, 22, 10, 22, 12, 105, 21, 8, 133, 109, 136, 172]
abbrev dktX4_drift_20 : List UInt8 := dkwX4_drift_20 ++ []
def dkwX4_drift_19 : List UInt8 := [20, 0, 194, 148, 158, 0, 16, 22, 15, 22, 12, 148, 158, 0, 8, 22, 15, 167, 0, 5, 22, 12, 55, 12]
abbrev dktX4_drift_19 : List UInt8 := dkwX4_drift_19 ++ dktX4_drift_20
def dkwX4_drift_18 : List UInt8 := [133, 21, 8, 133, 28, 184, 0, 212, 105, 21, 14, 133, 101, 105, 101, 55, 15, 42, 180, 0, 116, 21, 14, 47]
abbrev dktX4_drift_18 : List UInt8 := dkwX4_drift_18 ++ dktX4_drift_19
def dkwX4_drift_17 : List UInt8 := [3, 54, 14, 21, 14, 21, 9, 162, 0, 71, 42, 180, 0, 116, 21, 14, 47, 22, 10, 21, 8, 133, 21, 14]
abbrev dktX4_drift_17 : List UInt8 := dkwX4_drift_17 ++ dktX4_drift_18
def dkwX4_drift_16 : List UInt8 := [180, 0, 119, 21, 13, 47, 80, 132, 13, 1, 167, 255, 232, 132, 12, 1, 167, 255, 62, 20, 0, 194, 55, 12]
abbrev dktX4_drift_16 : List UInt8 := dkwX4_drift_16 ++ dktX4_drift_17
def dkwX4_drift_15 : List UInt8 := [132, 13, 1, 167, 255, 133, 3, 54, 13, 21, 13, 21, 9, 162, 0, 23, 42, 180, 0, 116, 21, 13, 42]
abbrev dktX4_drift_15 : List UInt8 := dkwX4_drift_15 ++ dktX4_drift_16
def dkwX4_drift_14 : List UInt8 := [47, 148, 158, 0, 8, 22, 15, 167, 0, 10, 42, 180, 0, 119, 21, 17, 47, 80, 132, 14, 1, 167, 255, 149]
abbrev dktX4_drift_14 : List UInt8 := dkwX4_drift_14 ++ dktX4_drift_15
def dkwX4_drift_13 : List UInt8 := [42, 180, 0, 119, 21, 17, 42, 180, 0, 122, 21, 14, 51, 153, 0, 21, 22, 15, 42, 180, 0, 119, 21, 17]
abbrev dktX4_drift_13 : List UInt8 := dkwX4_drift_13 ++ dktX4_drift_14
def dkwX4_drift_12 : List UInt8 := [133, 28, 184, 0, 212, 105, 21, 14, 133, 101, 105, 97, 55, 15, 21, 13, 21, 14, 96, 21, 9, 112, 54, 17]
abbrev dktX4_drift_12 : List UInt8 := dkwX4_drift_12 ++ dktX4_drift_13
def dkwX4_drift_11 : List UInt8 := [20, 0, 194, 148, 158, 0, 92, 42, 180, 0, 116, 21, 13, 47, 22, 10, 21, 8, 133, 21, 14, 133, 21, 8]
abbrev dktX4_drift_11 : List UInt8 := dkwX4_drift_11 ++ dktX4_drift_12
def dkwX4_drift_10 : List UInt8 := [21, 9, 162, 0, 122, 3, 54, 14, 21, 14, 21, 9, 162, 0, 106, 42, 180, 0, 116, 21, 13, 47]
abbrev dktX4_drift_10 : List UInt8 := dkwX4_drift_10 ++ dktX4_drift_11
def dkwX4_drift_9 : List UInt8 := [162, 0, 19, 42, 180, 0, 119, 21, 13, 20, 0, 194, 80, 132, 13, 1, 167, 255, 236, 3, 54, 13, 21, 13]
abbrev dktX4_drift_9 : List UInt8 := dkwX4_drift_9 ++ dktX4_drift_10
def dkwX4_drift_8 : List UInt8 := [132, 12, 1, 167, 255, 228, 3, 54, 12, 21, 12, 29, 162, 0, 194, 3, 54, 13, 21, 13, 21, 9]
abbrev dktX4_drift_8 : List UInt8 := dkwX4_drift_8 ++ dktX4_drift_9
def dkwX4_drift_7 : List UInt8 := [21, 4, 163, 0, 27, 42, 180, 0, 122, 21, 12, 133, 21, 7, 133, 105, 21, 9, 133, 113, 136, 4, 84]
abbrev dktX4_drift_7 : List UInt8 := dkwX4_drift_7 ++ dktX4_drift_8
def dkwX4_drift_6 : List UInt8 := [21, 12, 154, 0, 7, 9, 167, 0, 6, 20, 0, 194, 80, 132, 12, 1, 167, 255, 219, 3, 54, 12, 21, 12]
abbrev dktX4_drift_6 : List UInt8 := dkwX4_drift_6 ++ dktX4_drift_7
def dkwX4_drift_5 : List UInt8 := [54, 12, 21, 12, 21, 9, 162, 0, 36, 42, 180, 0, 122, 21, 12, 3, 84, 42, 180, 0, 116, 21, 12]
abbrev dktX4_drift_5 : List UInt8 := dkwX4_drift_5 ++ dktX4_drift_6
def dkwX4_drift_4 : List UInt8 := [54, 8, 5, 21, 8, 104, 54, 9, 21, 5, 154, 0, 7, 10, 167, 0, 6, 20, 1, 40, 55, 10, 3]
abbrev dktX4_drift_4 : List UInt8 := dkwX4_drift_4 ++ dktX4_drift_5
def dkwX4_drift_3 : List UInt8 := [21, 6, 182, 1, 27, 153, 0, 5, 3, 172, 42, 180, 0, 7, 27, 46, 54, 7, 42, 180, 0, 13, 27, 46]
abbrev dktX4_drift_3 : List UInt8 := dkwX4_drift_3 ++ dktX4_drift_4
def dkwX4_drift_2 : List UInt8 := [184, 0, 159, 153, 0, 17, 21, 5, 3, 4, 184, 0, 159, 153, 0, 7, 4, 167, 0, 4, 3, 54, 6, 42]
abbrev dktX4_drift_2 : List UInt8 := dkwX4_drift_2 ++ dktX4_drift_3
def dkwX4_drift_1 : List UInt8 := [184, 0, 159, 153, 0, 39, 29, 4, 16, 12, 184, 0, 159, 153, 0, 29, 21, 4, 3, 17, 3, 232]
abbrev dktX4_drift_1 : List UInt8 := dkwX4_drift_1 ++ dktX4_drift_2
def dkwX4_drift_0 : List UInt8 := [27, 3, 16, 7, 184, 0, 159, 153, 0, 59, 42, 180, 0, 13, 27, 46, 16, 100, 163, 0, 48, 28, 3, 8]
abbrev dktX4_drift_0 : List UInt8 := dkwX4_drift_0 ++ dktX4_drift_1
theorem dksX4_drift_0 : cX4_drift.data.toList.drop 0 = dktX4_drift_0 := by decide +kernel
theorem dksX4_drift_1 : cX4_drift.data.toList.drop 24 = dktX4_drift_1 := dk_seg dksX4_drift_0 24 rfl rfl
theorem dksX4_drift_2 : cX4_drift.data.toList.drop 46 = dktX4_drift_2 := dk_seg dksX4_drift_1 22 rfl rfl
theorem dksX4_drift_3 : cX4_drift.data.toList.drop 70 = dktX4_drift_3 := dk_seg dksX4_drift_2 24 rfl rfl
theorem dksX4_drift_4 : cX4_drift.data.toList.drop 94 = dktX4_drift_4 := dk_seg dksX4_drift_3 24 rfl rfl
theorem dksX4_drift_5 : cX4_drift.data.toList.drop 117 = dktX4_drift_5 := dk_seg dksX4_drift_4 23 rfl rfl
theorem dksX4_drift_6 : cX4_drift.data.toList.drop 140 = dktX4_drift_6 := dk_seg dksX4_drift_5 23 rfl rfl
theorem dksX4_drift_7 : cX4_drift.data.toList.drop 164 = dktX4_drift_7 := dk_seg dksX4_drift_6 24 rfl rfl
theorem dksX4_drift_8 : cX4_drift.data.toList.drop 187 = dktX4_drift_8 := dk_seg dksX4_drift_7 23 rfl rfl
theorem dksX4_drift_9 : cX4_drift.data.toList.drop 209 = dktX4_drift_9 := dk_seg dksX4_drift_8 22 rfl rfl
theorem dksX4_drift_10 : cX4_drift.data.toList.drop 233 = dktX4_drift_10 := dk_seg dksX4_drift_9 24 rfl rfl
theorem dksX4_drift_11 : cX4_drift.data.toList.drop 255 = dktX4_drift_11 := dk_seg dksX4_drift_10 22 rfl rfl
theorem dksX4_drift_12 : cX4_drift.data.toList.drop 279 = dktX4_drift_12 := dk_seg dksX4_drift_11 24 rfl rfl
theorem dksX4_drift_13 : cX4_drift.data.toList.drop 303 = dktX4_drift_13 := dk_seg dksX4_drift_12 24 rfl rfl
theorem dksX4_drift_14 : cX4_drift.data.toList.drop 327 = dktX4_drift_14 := dk_seg dksX4_drift_13 24 rfl rfl
theorem dksX4_drift_15 : cX4_drift.data.toList.drop 351 = dktX4_drift_15 := dk_seg dksX4_drift_14 24 rfl rfl
theorem dksX4_drift_16 : cX4_drift.data.toList.drop 374 = dktX4_drift_16 := dk_seg dksX4_drift_15 23 rfl rfl
theorem dksX4_drift_17 : cX4_drift.data.toList.drop 398 = dktX4_drift_17 := dk_seg dksX4_drift_16 24 rfl rfl
theorem dksX4_drift_18 : cX4_drift.data.toList.drop 422 = dktX4_drift_18 := dk_seg dksX4_drift_17 24 rfl rfl
theorem dksX4_drift_19 : cX4_drift.data.toList.drop 446 = dktX4_drift_19 := dk_seg dksX4_drift_18 24 rfl rfl
theorem dksX4_drift_20 : cX4_drift.data.toList.drop 470 = dktX4_drift_20 := dk_seg dksX4_drift_19 24 rfl rfl
theorem dX4_drift_0 : decode cX4_drift 0 = .ok (.iload_n 1, 1) := dk_27 (dk_at dksX4_drift_0 0 rfl rfl)
theorem dX4_drift_1 : decode cX4_drift 1 = .ok (.iconst 0, 1) := dk_3 (dk_at dksX4_drift_0 1 rfl rfl)
theorem dX4_drift_2 : decode cX4_drift 2 = .ok (.bipush 7, 2) := dk_16 7 (dk_at dksX4_drift_0 2 rfl rfl)
theorem dX4_drift_4 : decode cX4_drift 4 = .ok (.invokestatic 159, 3) := dk_184 0 159 (dk_at dksX4_drift_0 4 rfl rfl)
theorem dX4_drift_7 : decode cX4_drift 7 = .ok (.ifCond .eq 59, 3) := dk_153 0 59 (dk_at dksX4_drift_0 7 rfl rfl)
theorem dX4_drift_10 : decode cX4_drift 10 = .ok (.aload_n 0, 1) := dk_42 (dk_at dksX4_drift_0 10 rfl rfl)
theorem dX4_drift_11 : decode cX4_drift 11 = .ok (.getfield 13, 3) := dk_180 0 13 (dk_at dksX4_drift_0 11 rfl rfl)
theorem dX4_drift_14 : decode cX4_drift 14 = .ok (.iload_n 1, 1) := dk_27 (dk_at dksX4_drift_0 14 rfl rfl)
theorem dX4_drift_15 : decode cX4_drift 15 = .ok (.iaload, 1) := dk_46 (dk_at dksX4_drift_0 15 rfl rfl)
theorem dX4_drift_16 : decode cX4_drift 16 = .ok (.bipush 100, 2) := dk_16 100 (dk_at dksX4_drift_0 16 rfl rfl)
theorem dX4_drift_18 : decode cX4_drift 18 = .ok (.if_icmp .gt 48, 3) := dk_163 0 48 (dk_at dksX4_drift_0 18 rfl rfl)
theorem dX4_drift_21 : decode cX4_drift 21 = .ok (.iload_n 2, 1) := dk_28 (dk_at dksX4_drift_0 21 rfl rfl)
theorem dX4_drift_22 : decode cX4_drift 22 = .ok (.iconst 0, 1) := dk_3 (dk_at dksX4_drift_0 22 rfl rfl)
theorem dX4_drift_23 : decode cX4_drift 23 = .ok (.iconst 5, 1) := dk_8 (dk_at dksX4_drift_0 23 rfl rfl)
theorem dX4_drift_24 : decode cX4_drift 24 = .ok (.invokestatic 159, 3) := dk_184 0 159 (dk_at dksX4_drift_1 0 rfl rfl)
theorem dX4_drift_27 : decode cX4_drift 27 = .ok (.ifCond .eq 39, 3) := dk_153 0 39 (dk_at dksX4_drift_1 3 rfl rfl)
theorem dX4_drift_30 : decode cX4_drift 30 = .ok (.iload_n 3, 1) := dk_29 (dk_at dksX4_drift_1 6 rfl rfl)
theorem dX4_drift_31 : decode cX4_drift 31 = .ok (.iconst 1, 1) := dk_4 (dk_at dksX4_drift_1 7 rfl rfl)
theorem dX4_drift_32 : decode cX4_drift 32 = .ok (.bipush 12, 2) := dk_16 12 (dk_at dksX4_drift_1 8 rfl rfl)
theorem dX4_drift_34 : decode cX4_drift 34 = .ok (.invokestatic 159, 3) := dk_184 0 159 (dk_at dksX4_drift_1 10 rfl rfl)
theorem dX4_drift_37 : decode cX4_drift 37 = .ok (.ifCond .eq 29, 3) := dk_153 0 29 (dk_at dksX4_drift_1 13 rfl rfl)
theorem dX4_drift_40 : decode cX4_drift 40 = .ok (.iload 4, 2) := dk_21 4 (dk_at dksX4_drift_1 16 rfl rfl)
theorem dX4_drift_42 : decode cX4_drift 42 = .ok (.iconst 0, 1) := dk_3 (dk_at dksX4_drift_1 18 rfl rfl)
theorem dX4_drift_43 : decode cX4_drift 43 = .ok (.sipush 1000, 3) := dk_17 3 232 (dk_at dksX4_drift_1 19 rfl rfl)
theorem dX4_drift_46 : decode cX4_drift 46 = .ok (.invokestatic 159, 3) := dk_184 0 159 (dk_at dksX4_drift_2 0 rfl rfl)
theorem dX4_drift_49 : decode cX4_drift 49 = .ok (.ifCond .eq 17, 3) := dk_153 0 17 (dk_at dksX4_drift_2 3 rfl rfl)
theorem dX4_drift_52 : decode cX4_drift 52 = .ok (.iload 5, 2) := dk_21 5 (dk_at dksX4_drift_2 6 rfl rfl)
theorem dX4_drift_54 : decode cX4_drift 54 = .ok (.iconst 0, 1) := dk_3 (dk_at dksX4_drift_2 8 rfl rfl)
theorem dX4_drift_55 : decode cX4_drift 55 = .ok (.iconst 1, 1) := dk_4 (dk_at dksX4_drift_2 9 rfl rfl)
theorem dX4_drift_56 : decode cX4_drift 56 = .ok (.invokestatic 159, 3) := dk_184 0 159 (dk_at dksX4_drift_2 10 rfl rfl)
theorem dX4_drift_59 : decode cX4_drift 59 = .ok (.ifCond .eq 7, 3) := dk_153 0 7 (dk_at dksX4_drift_2 13 rfl rfl)
theorem dX4_drift_62 : decode cX4_drift 62 = .ok (.iconst 1, 1) := dk_4 (dk_at dksX4_drift_2 16 rfl rfl)
theorem dX4_drift_63 : decode cX4_drift 63 = .ok (.goto 4, 3) := dk_167 0 4 (dk_at dksX4_drift_2 17 rfl rfl)
theorem dX4_drift_66 : decode cX4_drift 66 = .ok (.iconst 0, 1) := dk_3 (dk_at dksX4_drift_2 20 rfl rfl)
theorem dX4_drift_67 : decode cX4_drift 67 = .ok (.istore 6, 2) := dk_54 6 (dk_at dksX4_drift_2 21 rfl rfl)
theorem dX4_drift_69 : decode cX4_drift 69 = .ok (.aload_n 0, 1) := dk_42 (dk_at dksX4_drift_2 23 rfl rfl)
theorem dX4_drift_70 : decode cX4_drift 70 = .ok (.iload 6, 2) := dk_21 6 (dk_at dksX4_drift_3 0 rfl rfl)
theorem dX4_drift_72 : decode cX4_drift 72 = .ok (.invokevirtual 283, 3) := dk_182 1 27 (dk_at dksX4_drift_3 2 rfl rfl)
theorem dX4_drift_75 : decode cX4_drift 75 = .ok (.ifCond .eq 5, 3) := dk_153 0 5 (dk_at dksX4_drift_3 5 rfl rfl)
theorem dX4_drift_78 : decode cX4_drift 78 = .ok (.iconst 0, 1) := dk_3 (dk_at dksX4_drift_3 8 rfl rfl)
theorem dX4_drift_79 : decode cX4_drift 79 = .ok (.ireturn, 1) := dk_172 (dk_at dksX4_drift_3 9 rfl rfl)
theorem dX4_drift_80 : decode cX4_drift 80 = .ok (.aload_n 0, 1) := dk_42 (dk_at dksX4_drift_3 10 rfl rfl)
theorem dX4_drift_81 : decode cX4_drift 81 = .ok (.getfield 7, 3) := dk_180 0 7 (dk_at dksX4_drift_3 11 rfl rfl)
theorem dX4_drift_84 : decode cX4_drift 84 = .ok (.iload_n 1, 1) := dk_27 (dk_at dksX4_drift_3 14 rfl rfl)
theorem dX4_drift_85 : decode cX4_drift 85 = .ok (.iaload, 1) := dk_46 (dk_at dksX4_drift_3 15 rfl rfl)
theorem dX4_drift_86 : decode cX4_drift 86 = .ok (.istore 7, 2) := dk_54 7 (dk_at dksX4_drift_3 16 rfl rfl)
theorem dX4_drift_88 : decode cX4_drift 88 = .ok (.aload_n 0, 1) := dk_42 (dk_at dksX4_drift_3 18 rfl rfl)
theorem dX4_drift_89 : decode cX4_drift 89 = .ok (.getfield 13, 3) := dk_180 0 13 (dk_at dksX4_drift_3 19 rfl rfl)
theorem dX4_drift_92 : decode cX4_drift 92 = .ok (.iload_n 1, 1) := dk_27 (dk_at dksX4_drift_3 22 rfl rfl)
theorem dX4_drift_93 : decode cX4_drift 93 = .ok (.iaload, 1) := dk_46 (dk_at dksX4_drift_3 23 rfl rfl)
theorem dX4_drift_94 : decode cX4_drift 94 = .ok (.istore 8, 2) := dk_54 8 (dk_at dksX4_drift_4 0 rfl rfl)
theorem dX4_drift_96 : decode cX4_drift 96 = .ok (.iconst 2, 1) := dk_5 (dk_at dksX4_drift_4 2 rfl rfl)
theorem dX4_drift_97 : decode cX4_drift 97 = .ok (.iload 8, 2) := dk_21 8 (dk_at dksX4_drift_4 3 rfl rfl)
theorem dX4_drift_99 : decode cX4_drift 99 = .ok (.imul, 1) := dk_104 (dk_at dksX4_drift_4 5 rfl rfl)
theorem dX4_drift_100 : decode cX4_drift 100 = .ok (.istore 9, 2) := dk_54 9 (dk_at dksX4_drift_4 6 rfl rfl)
theorem dX4_drift_102 : decode cX4_drift 102 = .ok (.iload 5, 2) := dk_21 5 (dk_at dksX4_drift_4 8 rfl rfl)
theorem dX4_drift_104 : decode cX4_drift 104 = .ok (.ifCond .ne 7, 3) := dk_154 0 7 (dk_at dksX4_drift_4 10 rfl rfl)
theorem dX4_drift_107 : decode cX4_drift 107 = .ok (.lconst 1, 1) := dk_10 (dk_at dksX4_drift_4 13 rfl rfl)
theorem dX4_drift_108 : decode cX4_drift 108 = .ok (.goto 6, 3) := dk_167 0 6 (dk_at dksX4_drift_4 14 rfl rfl)
theorem dX4_drift_111 : decode cX4_drift 111 = .ok (.ldc2_w 296, 3) := dk_20 1 40 (dk_at dksX4_drift_4 17 rfl rfl)
theorem dX4_drift_114 : decode cX4_drift 114 = .ok (.lstore 10, 2) := dk_55 10 (dk_at dksX4_drift_4 20 rfl rfl)
theorem dX4_drift_116 : decode cX4_drift 116 = .ok (.iconst 0, 1) := dk_3 (dk_at dksX4_drift_4 22 rfl rfl)
theorem dX4_drift_117 : decode cX4_drift 117 = .ok (.istore 12, 2) := dk_54 12 (dk_at dksX4_drift_5 0 rfl rfl)
theorem dX4_drift_119 : decode cX4_drift 119 = .ok (.iload 12, 2) := dk_21 12 (dk_at dksX4_drift_5 2 rfl rfl)
theorem dX4_drift_121 : decode cX4_drift 121 = .ok (.iload 9, 2) := dk_21 9 (dk_at dksX4_drift_5 4 rfl rfl)
theorem dX4_drift_123 : decode cX4_drift 123 = .ok (.if_icmp .ge 36, 3) := dk_162 0 36 (dk_at dksX4_drift_5 6 rfl rfl)
theorem dX4_drift_126 : decode cX4_drift 126 = .ok (.aload_n 0, 1) := dk_42 (dk_at dksX4_drift_5 9 rfl rfl)
theorem dX4_drift_127 : decode cX4_drift 127 = .ok (.getfield 122, 3) := dk_180 0 122 (dk_at dksX4_drift_5 10 rfl rfl)
theorem dX4_drift_130 : decode cX4_drift 130 = .ok (.iload 12, 2) := dk_21 12 (dk_at dksX4_drift_5 13 rfl rfl)
theorem dX4_drift_132 : decode cX4_drift 132 = .ok (.iconst 0, 1) := dk_3 (dk_at dksX4_drift_5 15 rfl rfl)
theorem dX4_drift_133 : decode cX4_drift 133 = .ok (.bastore, 1) := dk_84 (dk_at dksX4_drift_5 16 rfl rfl)
theorem dX4_drift_134 : decode cX4_drift 134 = .ok (.aload_n 0, 1) := dk_42 (dk_at dksX4_drift_5 17 rfl rfl)
theorem dX4_drift_135 : decode cX4_drift 135 = .ok (.getfield 116, 3) := dk_180 0 116 (dk_at dksX4_drift_5 18 rfl rfl)
theorem dX4_drift_138 : decode cX4_drift 138 = .ok (.iload 12, 2) := dk_21 12 (dk_at dksX4_drift_5 21 rfl rfl)
theorem dX4_drift_140 : decode cX4_drift 140 = .ok (.iload 12, 2) := dk_21 12 (dk_at dksX4_drift_6 0 rfl rfl)
theorem dX4_drift_142 : decode cX4_drift 142 = .ok (.ifCond .ne 7, 3) := dk_154 0 7 (dk_at dksX4_drift_6 2 rfl rfl)
theorem dX4_drift_145 : decode cX4_drift 145 = .ok (.lconst 0, 1) := dk_9 (dk_at dksX4_drift_6 5 rfl rfl)
theorem dX4_drift_146 : decode cX4_drift 146 = .ok (.goto 6, 3) := dk_167 0 6 (dk_at dksX4_drift_6 6 rfl rfl)
theorem dX4_drift_149 : decode cX4_drift 149 = .ok (.ldc2_w 194, 3) := dk_20 0 194 (dk_at dksX4_drift_6 9 rfl rfl)
theorem dX4_drift_152 : decode cX4_drift 152 = .ok (.lastore, 1) := dk_80 (dk_at dksX4_drift_6 12 rfl rfl)
theorem dX4_drift_153 : decode cX4_drift 153 = .ok (.iinc 12 1, 3) := dk_132 12 1 (dk_at dksX4_drift_6 13 rfl rfl)
theorem dX4_drift_156 : decode cX4_drift 156 = .ok (.goto (-37), 3) := dk_167 255 219 (dk_at dksX4_drift_6 16 rfl rfl)
theorem dX4_drift_159 : decode cX4_drift 159 = .ok (.iconst 0, 1) := dk_3 (dk_at dksX4_drift_6 19 rfl rfl)
theorem dX4_drift_160 : decode cX4_drift 160 = .ok (.istore 12, 2) := dk_54 12 (dk_at dksX4_drift_6 20 rfl rfl)
theorem dX4_drift_162 : decode cX4_drift 162 = .ok (.iload 12, 2) := dk_21 12 (dk_at dksX4_drift_6 22 rfl rfl)
theorem dX4_drift_164 : decode cX4_drift 164 = .ok (.iload 4, 2) := dk_21 4 (dk_at dksX4_drift_7 0 rfl rfl)
theorem dX4_drift_166 : decode cX4_drift 166 = .ok (.if_icmp .gt 27, 3) := dk_163 0 27 (dk_at dksX4_drift_7 2 rfl rfl)
theorem dX4_drift_169 : decode cX4_drift 169 = .ok (.aload_n 0, 1) := dk_42 (dk_at dksX4_drift_7 5 rfl rfl)
theorem dX4_drift_170 : decode cX4_drift 170 = .ok (.getfield 122, 3) := dk_180 0 122 (dk_at dksX4_drift_7 6 rfl rfl)
theorem dX4_drift_173 : decode cX4_drift 173 = .ok (.iload 12, 2) := dk_21 12 (dk_at dksX4_drift_7 9 rfl rfl)
theorem dX4_drift_175 : decode cX4_drift 175 = .ok (.i2l, 1) := dk_133 (dk_at dksX4_drift_7 11 rfl rfl)
theorem dX4_drift_176 : decode cX4_drift 176 = .ok (.iload 7, 2) := dk_21 7 (dk_at dksX4_drift_7 12 rfl rfl)
theorem dX4_drift_178 : decode cX4_drift 178 = .ok (.i2l, 1) := dk_133 (dk_at dksX4_drift_7 14 rfl rfl)
theorem dX4_drift_179 : decode cX4_drift 179 = .ok (.lmul, 1) := dk_105 (dk_at dksX4_drift_7 15 rfl rfl)
theorem dX4_drift_180 : decode cX4_drift 180 = .ok (.iload 9, 2) := dk_21 9 (dk_at dksX4_drift_7 16 rfl rfl)
theorem dX4_drift_182 : decode cX4_drift 182 = .ok (.i2l, 1) := dk_133 (dk_at dksX4_drift_7 18 rfl rfl)
theorem dX4_drift_183 : decode cX4_drift 183 = .ok (.lrem, 1) := dk_113 (dk_at dksX4_drift_7 19 rfl rfl)
theorem dX4_drift_184 : decode cX4_drift 184 = .ok (.l2i, 1) := dk_136 (dk_at dksX4_drift_7 20 rfl rfl)
theorem dX4_drift_185 : decode cX4_drift 185 = .ok (.iconst 1, 1) := dk_4 (dk_at dksX4_drift_7 21 rfl rfl)
theorem dX4_drift_186 : decode cX4_drift 186 = .ok (.bastore, 1) := dk_84 (dk_at dksX4_drift_7 22 rfl rfl)
theorem dX4_drift_187 : decode cX4_drift 187 = .ok (.iinc 12 1, 3) := dk_132 12 1 (dk_at dksX4_drift_8 0 rfl rfl)
theorem dX4_drift_190 : decode cX4_drift 190 = .ok (.goto (-28), 3) := dk_167 255 228 (dk_at dksX4_drift_8 3 rfl rfl)
theorem dX4_drift_193 : decode cX4_drift 193 = .ok (.iconst 0, 1) := dk_3 (dk_at dksX4_drift_8 6 rfl rfl)
theorem dX4_drift_194 : decode cX4_drift 194 = .ok (.istore 12, 2) := dk_54 12 (dk_at dksX4_drift_8 7 rfl rfl)
theorem dX4_drift_196 : decode cX4_drift 196 = .ok (.iload 12, 2) := dk_21 12 (dk_at dksX4_drift_8 9 rfl rfl)
theorem dX4_drift_198 : decode cX4_drift 198 = .ok (.iload_n 3, 1) := dk_29 (dk_at dksX4_drift_8 11 rfl rfl)
theorem dX4_drift_199 : decode cX4_drift 199 = .ok (.if_icmp .ge 194, 3) := dk_162 0 194 (dk_at dksX4_drift_8 12 rfl rfl)
theorem dX4_drift_202 : decode cX4_drift 202 = .ok (.iconst 0, 1) := dk_3 (dk_at dksX4_drift_8 15 rfl rfl)
theorem dX4_drift_203 : decode cX4_drift 203 = .ok (.istore 13, 2) := dk_54 13 (dk_at dksX4_drift_8 16 rfl rfl)
theorem dX4_drift_205 : decode cX4_drift 205 = .ok (.iload 13, 2) := dk_21 13 (dk_at dksX4_drift_8 18 rfl rfl)
theorem dX4_drift_207 : decode cX4_drift 207 = .ok (.iload 9, 2) := dk_21 9 (dk_at dksX4_drift_8 20 rfl rfl)
theorem dX4_drift_209 : decode cX4_drift 209 = .ok (.if_icmp .ge 19, 3) := dk_162 0 19 (dk_at dksX4_drift_9 0 rfl rfl)
theorem dX4_drift_212 : decode cX4_drift 212 = .ok (.aload_n 0, 1) := dk_42 (dk_at dksX4_drift_9 3 rfl rfl)
theorem dX4_drift_213 : decode cX4_drift 213 = .ok (.getfield 119, 3) := dk_180 0 119 (dk_at dksX4_drift_9 4 rfl rfl)
theorem dX4_drift_216 : decode cX4_drift 216 = .ok (.iload 13, 2) := dk_21 13 (dk_at dksX4_drift_9 7 rfl rfl)
theorem dX4_drift_218 : decode cX4_drift 218 = .ok (.ldc2_w 194, 3) := dk_20 0 194 (dk_at dksX4_drift_9 9 rfl rfl)
theorem dX4_drift_221 : decode cX4_drift 221 = .ok (.lastore, 1) := dk_80 (dk_at dksX4_drift_9 12 rfl rfl)
theorem dX4_drift_222 : decode cX4_drift 222 = .ok (.iinc 13 1, 3) := dk_132 13 1 (dk_at dksX4_drift_9 13 rfl rfl)
theorem dX4_drift_225 : decode cX4_drift 225 = .ok (.goto (-20), 3) := dk_167 255 236 (dk_at dksX4_drift_9 16 rfl rfl)
theorem dX4_drift_228 : decode cX4_drift 228 = .ok (.iconst 0, 1) := dk_3 (dk_at dksX4_drift_9 19 rfl rfl)
theorem dX4_drift_229 : decode cX4_drift 229 = .ok (.istore 13, 2) := dk_54 13 (dk_at dksX4_drift_9 20 rfl rfl)
theorem dX4_drift_231 : decode cX4_drift 231 = .ok (.iload 13, 2) := dk_21 13 (dk_at dksX4_drift_9 22 rfl rfl)
theorem dX4_drift_233 : decode cX4_drift 233 = .ok (.iload 9, 2) := dk_21 9 (dk_at dksX4_drift_10 0 rfl rfl)
theorem dX4_drift_235 : decode cX4_drift 235 = .ok (.if_icmp .ge 122, 3) := dk_162 0 122 (dk_at dksX4_drift_10 2 rfl rfl)
theorem dX4_drift_238 : decode cX4_drift 238 = .ok (.iconst 0, 1) := dk_3 (dk_at dksX4_drift_10 5 rfl rfl)
theorem dX4_drift_239 : decode cX4_drift 239 = .ok (.istore 14, 2) := dk_54 14 (dk_at dksX4_drift_10 6 rfl rfl)
theorem dX4_drift_241 : decode cX4_drift 241 = .ok (.iload 14, 2) := dk_21 14 (dk_at dksX4_drift_10 8 rfl rfl)
theorem dX4_drift_243 : decode cX4_drift 243 = .ok (.iload 9, 2) := dk_21 9 (dk_at dksX4_drift_10 10 rfl rfl)
theorem dX4_drift_245 : decode cX4_drift 245 = .ok (.if_icmp .ge 106, 3) := dk_162 0 106 (dk_at dksX4_drift_10 12 rfl rfl)
theorem dX4_drift_248 : decode cX4_drift 248 = .ok (.aload_n 0, 1) := dk_42 (dk_at dksX4_drift_10 15 rfl rfl)
theorem dX4_drift_249 : decode cX4_drift 249 = .ok (.getfield 116, 3) := dk_180 0 116 (dk_at dksX4_drift_10 16 rfl rfl)
theorem dX4_drift_252 : decode cX4_drift 252 = .ok (.iload 13, 2) := dk_21 13 (dk_at dksX4_drift_10 19 rfl rfl)
theorem dX4_drift_254 : decode cX4_drift 254 = .ok (.laload, 1) := dk_47 (dk_at dksX4_drift_10 21 rfl rfl)
theorem dX4_drift_255 : decode cX4_drift 255 = .ok (.ldc2_w 194, 3) := dk_20 0 194 (dk_at dksX4_drift_11 0 rfl rfl)
theorem dX4_drift_258 : decode cX4_drift 258 = .ok (.lcmp, 1) := dk_148 (dk_at dksX4_drift_11 3 rfl rfl)
theorem dX4_drift_259 : decode cX4_drift 259 = .ok (.ifCond .le 92, 3) := dk_158 0 92 (dk_at dksX4_drift_11 4 rfl rfl)
theorem dX4_drift_262 : decode cX4_drift 262 = .ok (.aload_n 0, 1) := dk_42 (dk_at dksX4_drift_11 7 rfl rfl)
theorem dX4_drift_263 : decode cX4_drift 263 = .ok (.getfield 116, 3) := dk_180 0 116 (dk_at dksX4_drift_11 8 rfl rfl)
theorem dX4_drift_266 : decode cX4_drift 266 = .ok (.iload 13, 2) := dk_21 13 (dk_at dksX4_drift_11 11 rfl rfl)
theorem dX4_drift_268 : decode cX4_drift 268 = .ok (.laload, 1) := dk_47 (dk_at dksX4_drift_11 13 rfl rfl)
theorem dX4_drift_269 : decode cX4_drift 269 = .ok (.lload 10, 2) := dk_22 10 (dk_at dksX4_drift_11 14 rfl rfl)
theorem dX4_drift_271 : decode cX4_drift 271 = .ok (.iload 8, 2) := dk_21 8 (dk_at dksX4_drift_11 16 rfl rfl)
theorem dX4_drift_273 : decode cX4_drift 273 = .ok (.i2l, 1) := dk_133 (dk_at dksX4_drift_11 18 rfl rfl)
theorem dX4_drift_274 : decode cX4_drift 274 = .ok (.iload 14, 2) := dk_21 14 (dk_at dksX4_drift_11 19 rfl rfl)
theorem dX4_drift_276 : decode cX4_drift 276 = .ok (.i2l, 1) := dk_133 (dk_at dksX4_drift_11 21 rfl rfl)
theorem dX4_drift_277 : decode cX4_drift 277 = .ok (.iload 8, 2) := dk_21 8 (dk_at dksX4_drift_11 22 rfl rfl)
theorem dX4_drift_279 : decode cX4_drift 279 = .ok (.i2l, 1) := dk_133 (dk_at dksX4_drift_12 0 rfl rfl)
theorem dX4_drift_280 : decode cX4_drift 280 = .ok (.iload_n 2, 1) := dk_28 (dk_at dksX4_drift_12 1 rfl rfl)
theorem dX4_drift_281 : decode cX4_drift 281 = .ok (.invokestatic 212, 3) := dk_184 0 212 (dk_at dksX4_drift_12 2 rfl rfl)
theorem dX4_drift_284 : decode cX4_drift 284 = .ok (.lmul, 1) := dk_105 (dk_at dksX4_drift_12 5 rfl rfl)
theorem dX4_drift_285 : decode cX4_drift 285 = .ok (.iload 14, 2) := dk_21 14 (dk_at dksX4_drift_12 6 rfl rfl)
theorem dX4_drift_287 : decode cX4_drift 287 = .ok (.i2l, 1) := dk_133 (dk_at dksX4_drift_12 8 rfl rfl)
theorem dX4_drift_288 : decode cX4_drift 288 = .ok (.lsub, 1) := dk_101 (dk_at dksX4_drift_12 9 rfl rfl)
theorem dX4_drift_289 : decode cX4_drift 289 = .ok (.lmul, 1) := dk_105 (dk_at dksX4_drift_12 10 rfl rfl)
theorem dX4_drift_290 : decode cX4_drift 290 = .ok (.ladd, 1) := dk_97 (dk_at dksX4_drift_12 11 rfl rfl)
theorem dX4_drift_291 : decode cX4_drift 291 = .ok (.lstore 15, 2) := dk_55 15 (dk_at dksX4_drift_12 12 rfl rfl)
theorem dX4_drift_293 : decode cX4_drift 293 = .ok (.iload 13, 2) := dk_21 13 (dk_at dksX4_drift_12 14 rfl rfl)
theorem dX4_drift_295 : decode cX4_drift 295 = .ok (.iload 14, 2) := dk_21 14 (dk_at dksX4_drift_12 16 rfl rfl)
theorem dX4_drift_297 : decode cX4_drift 297 = .ok (.iadd, 1) := dk_96 (dk_at dksX4_drift_12 18 rfl rfl)
theorem dX4_drift_298 : decode cX4_drift 298 = .ok (.iload 9, 2) := dk_21 9 (dk_at dksX4_drift_12 19 rfl rfl)
theorem dX4_drift_300 : decode cX4_drift 300 = .ok (.irem, 1) := dk_112 (dk_at dksX4_drift_12 21 rfl rfl)
theorem dX4_drift_301 : decode cX4_drift 301 = .ok (.istore 17, 2) := dk_54 17 (dk_at dksX4_drift_12 22 rfl rfl)
theorem dX4_drift_303 : decode cX4_drift 303 = .ok (.aload_n 0, 1) := dk_42 (dk_at dksX4_drift_13 0 rfl rfl)
theorem dX4_drift_304 : decode cX4_drift 304 = .ok (.getfield 119, 3) := dk_180 0 119 (dk_at dksX4_drift_13 1 rfl rfl)
theorem dX4_drift_307 : decode cX4_drift 307 = .ok (.iload 17, 2) := dk_21 17 (dk_at dksX4_drift_13 4 rfl rfl)
theorem dX4_drift_309 : decode cX4_drift 309 = .ok (.aload_n 0, 1) := dk_42 (dk_at dksX4_drift_13 6 rfl rfl)
theorem dX4_drift_310 : decode cX4_drift 310 = .ok (.getfield 122, 3) := dk_180 0 122 (dk_at dksX4_drift_13 7 rfl rfl)
theorem dX4_drift_313 : decode cX4_drift 313 = .ok (.iload 14, 2) := dk_21 14 (dk_at dksX4_drift_13 10 rfl rfl)
theorem dX4_drift_315 : decode cX4_drift 315 = .ok (.baload, 1) := dk_51 (dk_at dksX4_drift_13 12 rfl rfl)
theorem dX4_drift_316 : decode cX4_drift 316 = .ok (.ifCond .eq 21, 3) := dk_153 0 21 (dk_at dksX4_drift_13 13 rfl rfl)
theorem dX4_drift_319 : decode cX4_drift 319 = .ok (.lload 15, 2) := dk_22 15 (dk_at dksX4_drift_13 16 rfl rfl)
theorem dX4_drift_321 : decode cX4_drift 321 = .ok (.aload_n 0, 1) := dk_42 (dk_at dksX4_drift_13 18 rfl rfl)
theorem dX4_drift_322 : decode cX4_drift 322 = .ok (.getfield 119, 3) := dk_180 0 119 (dk_at dksX4_drift_13 19 rfl rfl)
theorem dX4_drift_325 : decode cX4_drift 325 = .ok (.iload 17, 2) := dk_21 17 (dk_at dksX4_drift_13 22 rfl rfl)
theorem dX4_drift_327 : decode cX4_drift 327 = .ok (.laload, 1) := dk_47 (dk_at dksX4_drift_14 0 rfl rfl)
theorem dX4_drift_328 : decode cX4_drift 328 = .ok (.lcmp, 1) := dk_148 (dk_at dksX4_drift_14 1 rfl rfl)
theorem dX4_drift_329 : decode cX4_drift 329 = .ok (.ifCond .le 8, 3) := dk_158 0 8 (dk_at dksX4_drift_14 2 rfl rfl)
theorem dX4_drift_332 : decode cX4_drift 332 = .ok (.lload 15, 2) := dk_22 15 (dk_at dksX4_drift_14 5 rfl rfl)
theorem dX4_drift_334 : decode cX4_drift 334 = .ok (.goto 10, 3) := dk_167 0 10 (dk_at dksX4_drift_14 7 rfl rfl)
theorem dX4_drift_337 : decode cX4_drift 337 = .ok (.aload_n 0, 1) := dk_42 (dk_at dksX4_drift_14 10 rfl rfl)
theorem dX4_drift_338 : decode cX4_drift 338 = .ok (.getfield 119, 3) := dk_180 0 119 (dk_at dksX4_drift_14 11 rfl rfl)
theorem dX4_drift_341 : decode cX4_drift 341 = .ok (.iload 17, 2) := dk_21 17 (dk_at dksX4_drift_14 14 rfl rfl)
theorem dX4_drift_343 : decode cX4_drift 343 = .ok (.laload, 1) := dk_47 (dk_at dksX4_drift_14 16 rfl rfl)
theorem dX4_drift_344 : decode cX4_drift 344 = .ok (.lastore, 1) := dk_80 (dk_at dksX4_drift_14 17 rfl rfl)
theorem dX4_drift_345 : decode cX4_drift 345 = .ok (.iinc 14 1, 3) := dk_132 14 1 (dk_at dksX4_drift_14 18 rfl rfl)
theorem dX4_drift_348 : decode cX4_drift 348 = .ok (.goto (-107), 3) := dk_167 255 149 (dk_at dksX4_drift_14 21 rfl rfl)
theorem dX4_drift_351 : decode cX4_drift 351 = .ok (.iinc 13 1, 3) := dk_132 13 1 (dk_at dksX4_drift_15 0 rfl rfl)
theorem dX4_drift_354 : decode cX4_drift 354 = .ok (.goto (-123), 3) := dk_167 255 133 (dk_at dksX4_drift_15 3 rfl rfl)
theorem dX4_drift_357 : decode cX4_drift 357 = .ok (.iconst 0, 1) := dk_3 (dk_at dksX4_drift_15 6 rfl rfl)
theorem dX4_drift_358 : decode cX4_drift 358 = .ok (.istore 13, 2) := dk_54 13 (dk_at dksX4_drift_15 7 rfl rfl)
theorem dX4_drift_360 : decode cX4_drift 360 = .ok (.iload 13, 2) := dk_21 13 (dk_at dksX4_drift_15 9 rfl rfl)
theorem dX4_drift_362 : decode cX4_drift 362 = .ok (.iload 9, 2) := dk_21 9 (dk_at dksX4_drift_15 11 rfl rfl)
theorem dX4_drift_364 : decode cX4_drift 364 = .ok (.if_icmp .ge 23, 3) := dk_162 0 23 (dk_at dksX4_drift_15 13 rfl rfl)
theorem dX4_drift_367 : decode cX4_drift 367 = .ok (.aload_n 0, 1) := dk_42 (dk_at dksX4_drift_15 16 rfl rfl)
theorem dX4_drift_368 : decode cX4_drift 368 = .ok (.getfield 116, 3) := dk_180 0 116 (dk_at dksX4_drift_15 17 rfl rfl)
theorem dX4_drift_371 : decode cX4_drift 371 = .ok (.iload 13, 2) := dk_21 13 (dk_at dksX4_drift_15 20 rfl rfl)
theorem dX4_drift_373 : decode cX4_drift 373 = .ok (.aload_n 0, 1) := dk_42 (dk_at dksX4_drift_15 22 rfl rfl)
theorem dX4_drift_374 : decode cX4_drift 374 = .ok (.getfield 119, 3) := dk_180 0 119 (dk_at dksX4_drift_16 0 rfl rfl)
theorem dX4_drift_377 : decode cX4_drift 377 = .ok (.iload 13, 2) := dk_21 13 (dk_at dksX4_drift_16 3 rfl rfl)
theorem dX4_drift_379 : decode cX4_drift 379 = .ok (.laload, 1) := dk_47 (dk_at dksX4_drift_16 5 rfl rfl)
theorem dX4_drift_380 : decode cX4_drift 380 = .ok (.lastore, 1) := dk_80 (dk_at dksX4_drift_16 6 rfl rfl)
theorem dX4_drift_381 : decode cX4_drift 381 = .ok (.iinc 13 1, 3) := dk_132 13 1 (dk_at dksX4_drift_16 7 rfl rfl)
theorem dX4_drift_384 : decode cX4_drift 384 = .ok (.goto (-24), 3) := dk_167 255 232 (dk_at dksX4_drift_16 10 rfl rfl)
theorem dX4_drift_387 : decode cX4_drift 387 = .ok (.iinc 12 1, 3) := dk_132 12 1 (dk_at dksX4_drift_16 13 rfl rfl)
theorem dX4_drift_390 : decode cX4_drift 390 = .ok (.goto (-194), 3) := dk_167 255 62 (dk_at dksX4_drift_16 16 rfl rfl)
theorem dX4_drift_393 : decode cX4_drift 393 = .ok (.ldc2_w 194, 3) := dk_20 0 194 (dk_at dksX4_drift_16 19 rfl rfl)
theorem dX4_drift_396 : decode cX4_drift 396 = .ok (.lstore 12, 2) := dk_55 12 (dk_at dksX4_drift_16 22 rfl rfl)
theorem dX4_drift_398 : decode cX4_drift 398 = .ok (.iconst 0, 1) := dk_3 (dk_at dksX4_drift_17 0 rfl rfl)
theorem dX4_drift_399 : decode cX4_drift 399 = .ok (.istore 14, 2) := dk_54 14 (dk_at dksX4_drift_17 1 rfl rfl)
theorem dX4_drift_401 : decode cX4_drift 401 = .ok (.iload 14, 2) := dk_21 14 (dk_at dksX4_drift_17 3 rfl rfl)
theorem dX4_drift_403 : decode cX4_drift 403 = .ok (.iload 9, 2) := dk_21 9 (dk_at dksX4_drift_17 5 rfl rfl)
theorem dX4_drift_405 : decode cX4_drift 405 = .ok (.if_icmp .ge 71, 3) := dk_162 0 71 (dk_at dksX4_drift_17 7 rfl rfl)
theorem dX4_drift_408 : decode cX4_drift 408 = .ok (.aload_n 0, 1) := dk_42 (dk_at dksX4_drift_17 10 rfl rfl)
theorem dX4_drift_409 : decode cX4_drift 409 = .ok (.getfield 116, 3) := dk_180 0 116 (dk_at dksX4_drift_17 11 rfl rfl)
theorem dX4_drift_412 : decode cX4_drift 412 = .ok (.iload 14, 2) := dk_21 14 (dk_at dksX4_drift_17 14 rfl rfl)
theorem dX4_drift_414 : decode cX4_drift 414 = .ok (.laload, 1) := dk_47 (dk_at dksX4_drift_17 16 rfl rfl)
theorem dX4_drift_415 : decode cX4_drift 415 = .ok (.lload 10, 2) := dk_22 10 (dk_at dksX4_drift_17 17 rfl rfl)
theorem dX4_drift_417 : decode cX4_drift 417 = .ok (.iload 8, 2) := dk_21 8 (dk_at dksX4_drift_17 19 rfl rfl)
theorem dX4_drift_419 : decode cX4_drift 419 = .ok (.i2l, 1) := dk_133 (dk_at dksX4_drift_17 21 rfl rfl)
theorem dX4_drift_420 : decode cX4_drift 420 = .ok (.iload 14, 2) := dk_21 14 (dk_at dksX4_drift_17 22 rfl rfl)
theorem dX4_drift_422 : decode cX4_drift 422 = .ok (.i2l, 1) := dk_133 (dk_at dksX4_drift_18 0 rfl rfl)
theorem dX4_drift_423 : decode cX4_drift 423 = .ok (.iload 8, 2) := dk_21 8 (dk_at dksX4_drift_18 1 rfl rfl)
theorem dX4_drift_425 : decode cX4_drift 425 = .ok (.i2l, 1) := dk_133 (dk_at dksX4_drift_18 3 rfl rfl)
theorem dX4_drift_426 : decode cX4_drift 426 = .ok (.iload_n 2, 1) := dk_28 (dk_at dksX4_drift_18 4 rfl rfl)
theorem dX4_drift_427 : decode cX4_drift 427 = .ok (.invokestatic 212, 3) := dk_184 0 212 (dk_at dksX4_drift_18 5 rfl rfl)
theorem dX4_drift_430 : decode cX4_drift 430 = .ok (.lmul, 1) := dk_105 (dk_at dksX4_drift_18 8 rfl rfl)
theorem dX4_drift_431 : decode cX4_drift 431 = .ok (.iload 14, 2) := dk_21 14 (dk_at dksX4_drift_18 9 rfl rfl)
theorem dX4_drift_433 : decode cX4_drift 433 = .ok (.i2l, 1) := dk_133 (dk_at dksX4_drift_18 11 rfl rfl)
theorem dX4_drift_434 : decode cX4_drift 434 = .ok (.lsub, 1) := dk_101 (dk_at dksX4_drift_18 12 rfl rfl)
theorem dX4_drift_435 : decode cX4_drift 435 = .ok (.lmul, 1) := dk_105 (dk_at dksX4_drift_18 13 rfl rfl)
theorem dX4_drift_436 : decode cX4_drift 436 = .ok (.lsub, 1) := dk_101 (dk_at dksX4_drift_18 14 rfl rfl)
theorem dX4_drift_437 : decode cX4_drift 437 = .ok (.lstore 15, 2) := dk_55 15 (dk_at dksX4_drift_18 15 rfl rfl)
theorem dX4_drift_439 : decode cX4_drift 439 = .ok (.aload_n 0, 1) := dk_42 (dk_at dksX4_drift_18 17 rfl rfl)
theorem dX4_drift_440 : decode cX4_drift 440 = .ok (.getfield 116, 3) := dk_180 0 116 (dk_at dksX4_drift_18 18 rfl rfl)
theorem dX4_drift_443 : decode cX4_drift 443 = .ok (.iload 14, 2) := dk_21 14 (dk_at dksX4_drift_18 21 rfl rfl)
theorem dX4_drift_445 : decode cX4_drift 445 = .ok (.laload, 1) := dk_47 (dk_at dksX4_drift_18 23 rfl rfl)
theorem dX4_drift_446 : decode cX4_drift 446 = .ok (.ldc2_w 194, 3) := dk_20 0 194 (dk_at dksX4_drift_19 0 rfl rfl)
theorem dX4_drift_449 : decode cX4_drift 449 = .ok (.lcmp, 1) := dk_148 (dk_at dksX4_drift_19 3 rfl rfl)
theorem dX4_drift_450 : decode cX4_drift 450 = .ok (.ifCond .le 16, 3) := dk_158 0 16 (dk_at dksX4_drift_19 4 rfl rfl)
theorem dX4_drift_453 : decode cX4_drift 453 = .ok (.lload 15, 2) := dk_22 15 (dk_at dksX4_drift_19 7 rfl rfl)
theorem dX4_drift_455 : decode cX4_drift 455 = .ok (.lload 12, 2) := dk_22 12 (dk_at dksX4_drift_19 9 rfl rfl)
theorem dX4_drift_457 : decode cX4_drift 457 = .ok (.lcmp, 1) := dk_148 (dk_at dksX4_drift_19 11 rfl rfl)
theorem dX4_drift_458 : decode cX4_drift 458 = .ok (.ifCond .le 8, 3) := dk_158 0 8 (dk_at dksX4_drift_19 12 rfl rfl)
theorem dX4_drift_461 : decode cX4_drift 461 = .ok (.lload 15, 2) := dk_22 15 (dk_at dksX4_drift_19 15 rfl rfl)
theorem dX4_drift_463 : decode cX4_drift 463 = .ok (.goto 5, 3) := dk_167 0 5 (dk_at dksX4_drift_19 17 rfl rfl)
theorem dX4_drift_466 : decode cX4_drift 466 = .ok (.lload 12, 2) := dk_22 12 (dk_at dksX4_drift_19 20 rfl rfl)
theorem dX4_drift_468 : decode cX4_drift 468 = .ok (.lstore 12, 2) := dk_55 12 (dk_at dksX4_drift_19 22 rfl rfl)
theorem dX4_drift_470 : decode cX4_drift 470 = .ok (.iinc 14 1, 3) := dk_132 14 1 (dk_at dksX4_drift_20 0 rfl rfl)
theorem dX4_drift_473 : decode cX4_drift 473 = .ok (.goto (-72), 3) := dk_167 255 184 (dk_at dksX4_drift_20 3 rfl rfl)
theorem dX4_drift_476 : decode cX4_drift 476 = .ok (.lload 10, 2) := dk_22 10 (dk_at dksX4_drift_20 6 rfl rfl)
theorem dX4_drift_478 : decode cX4_drift 478 = .ok (.lload 12, 2) := dk_22 12 (dk_at dksX4_drift_20 8 rfl rfl)
theorem dX4_drift_480 : decode cX4_drift 480 = .ok (.lmul, 1) := dk_105 (dk_at dksX4_drift_20 10 rfl rfl)
theorem dX4_drift_481 : decode cX4_drift 481 = .ok (.iload 8, 2) := dk_21 8 (dk_at dksX4_drift_20 11 rfl rfl)
theorem dX4_drift_483 : decode cX4_drift 483 = .ok (.i2l, 1) := dk_133 (dk_at dksX4_drift_20 13 rfl rfl)
theorem dX4_drift_484 : decode cX4_drift 484 = .ok (.ldiv, 1) := dk_109 (dk_at dksX4_drift_20 14 rfl rfl)
theorem dX4_drift_485 : decode cX4_drift 485 = .ok (.l2i, 1) := dk_136 (dk_at dksX4_drift_20 15 rfl rfl)
theorem dX4_drift_486 : decode cX4_drift 486 = .ok (.ireturn, 1) := dk_172 (dk_at dksX4_drift_20 16 rfl rfl)
abbrev cX4_mend : ByteArray := prog_23_method_71_code
def yX4_mend : MethodName := ⟨RX4, "mend", "(IIII)I"⟩
def dkwX4_mend_9 : List UInt8 := [16, 10, 21, 5, 104, 21, 8, 96, 172, 132, 8, 1, 167, 255, 156, 132, 5, 1, 167, 255, 85, 16, 253, 172]
abbrev dktX4_mend_9 : List UInt8 := dkwX4_mend_9 ++ []
def dkwX4_mend_8 : List UInt8 := [160, 0, 7, 4, 167, 0, 4, 3, 54, 9, 42, 21, 6, 21, 7, 182, 1, 114, 21, 9, 153, 0, 12]
abbrev dktX4_mend_8 : List UInt8 := dkwX4_mend_8 ++ dktX4_mend_9
def dkwX4_mend_7 : List UInt8 := [182, 1, 114, 21, 8, 21, 7, 159, 0, 23, 42, 27, 28, 2, 29, 21, 4, 182, 1, 101, 19, 1, 97]
abbrev dktX4_mend_7 : List UInt8 := dkwX4_mend_7 ++ dktX4_mend_8
def dkwX4_mend_6 : List UInt8 := [16, 6, 162, 0, 83, 42, 42, 180, 0, 28, 21, 6, 46, 182, 1, 111, 153, 0, 69, 42, 21, 6, 21, 8]
abbrev dktX4_mend_6 : List UInt8 := dkwX4_mend_6 ++ dktX4_mend_7
def dkwX4_mend_5 : List UInt8 := [46, 54, 7, 3, 54, 8, 21, 8, 42, 180, 0, 28, 21, 6, 46, 16, 6, 160, 0, 7, 7, 167, 0, 5]
abbrev dktX4_mend_5 : List UInt8 := dkwX4_mend_5 ++ dktX4_mend_6
def dkwX4_mend_4 : List UInt8 := [21, 6, 46, 16, 6, 160, 0, 13, 42, 180, 0, 34, 21, 6, 46, 167, 0, 10, 42, 180, 0, 37, 21, 6]
abbrev dktX4_mend_4 : List UInt8 := dkwX4_mend_4 ++ dktX4_mend_5
def dkwX4_mend_3 : List UInt8 := [16, 20, 27, 104, 21, 5, 96, 54, 6, 42, 180, 0, 28, 21, 6, 46, 7, 159, 0, 15, 42, 180, 0, 28]
abbrev dktX4_mend_3 : List UInt8 := dkwX4_mend_3 ++ dktX4_mend_4
def dkwX4_mend_2 : List UInt8 := [19, 1, 97, 160, 0, 7, 19, 1, 97, 172, 3, 54, 5, 21, 5, 42, 180, 0, 25, 27, 46, 162, 0, 166]
abbrev dktX4_mend_2 : List UInt8 := dkwX4_mend_2 ++ dktX4_mend_3
def dkwX4_mend_1 : List UInt8 := [21, 4, 17, 1, 44, 184, 1, 98, 154, 0, 5, 2, 172, 42, 27, 28, 2, 29, 21, 4, 182, 1, 101]
abbrev dktX4_mend_1 : List UInt8 := dkwX4_mend_1 ++ dktX4_mend_2
def dkwX4_mend_0 : List UInt8 := [42, 27, 182, 0, 172, 153, 0, 30, 28, 3, 16, 6, 184, 0, 159, 153, 0, 20, 28, 5, 159, 0, 15, 29]
abbrev dktX4_mend_0 : List UInt8 := dkwX4_mend_0 ++ dktX4_mend_1
theorem dksX4_mend_0 : cX4_mend.data.toList.drop 0 = dktX4_mend_0 := by decide +kernel
theorem dksX4_mend_1 : cX4_mend.data.toList.drop 24 = dktX4_mend_1 := dk_seg dksX4_mend_0 24 rfl rfl
theorem dksX4_mend_2 : cX4_mend.data.toList.drop 47 = dktX4_mend_2 := dk_seg dksX4_mend_1 23 rfl rfl
theorem dksX4_mend_3 : cX4_mend.data.toList.drop 71 = dktX4_mend_3 := dk_seg dksX4_mend_2 24 rfl rfl
theorem dksX4_mend_4 : cX4_mend.data.toList.drop 95 = dktX4_mend_4 := dk_seg dksX4_mend_3 24 rfl rfl
theorem dksX4_mend_5 : cX4_mend.data.toList.drop 119 = dktX4_mend_5 := dk_seg dksX4_mend_4 24 rfl rfl
theorem dksX4_mend_6 : cX4_mend.data.toList.drop 143 = dktX4_mend_6 := dk_seg dksX4_mend_5 24 rfl rfl
theorem dksX4_mend_7 : cX4_mend.data.toList.drop 167 = dktX4_mend_7 := dk_seg dksX4_mend_6 24 rfl rfl
theorem dksX4_mend_8 : cX4_mend.data.toList.drop 190 = dktX4_mend_8 := dk_seg dksX4_mend_7 23 rfl rfl
theorem dksX4_mend_9 : cX4_mend.data.toList.drop 213 = dktX4_mend_9 := dk_seg dksX4_mend_8 23 rfl rfl
theorem dX4_mend_0 : decode cX4_mend 0 = .ok (.aload_n 0, 1) := dk_42 (dk_at dksX4_mend_0 0 rfl rfl)
theorem dX4_mend_1 : decode cX4_mend 1 = .ok (.iload_n 1, 1) := dk_27 (dk_at dksX4_mend_0 1 rfl rfl)
theorem dX4_mend_2 : decode cX4_mend 2 = .ok (.invokevirtual 172, 3) := dk_182 0 172 (dk_at dksX4_mend_0 2 rfl rfl)
theorem dX4_mend_5 : decode cX4_mend 5 = .ok (.ifCond .eq 30, 3) := dk_153 0 30 (dk_at dksX4_mend_0 5 rfl rfl)
theorem dX4_mend_8 : decode cX4_mend 8 = .ok (.iload_n 2, 1) := dk_28 (dk_at dksX4_mend_0 8 rfl rfl)
theorem dX4_mend_9 : decode cX4_mend 9 = .ok (.iconst 0, 1) := dk_3 (dk_at dksX4_mend_0 9 rfl rfl)
theorem dX4_mend_10 : decode cX4_mend 10 = .ok (.bipush 6, 2) := dk_16 6 (dk_at dksX4_mend_0 10 rfl rfl)
theorem dX4_mend_12 : decode cX4_mend 12 = .ok (.invokestatic 159, 3) := dk_184 0 159 (dk_at dksX4_mend_0 12 rfl rfl)
theorem dX4_mend_15 : decode cX4_mend 15 = .ok (.ifCond .eq 20, 3) := dk_153 0 20 (dk_at dksX4_mend_0 15 rfl rfl)
theorem dX4_mend_18 : decode cX4_mend 18 = .ok (.iload_n 2, 1) := dk_28 (dk_at dksX4_mend_0 18 rfl rfl)
theorem dX4_mend_19 : decode cX4_mend 19 = .ok (.iconst 2, 1) := dk_5 (dk_at dksX4_mend_0 19 rfl rfl)
theorem dX4_mend_20 : decode cX4_mend 20 = .ok (.if_icmp .eq 15, 3) := dk_159 0 15 (dk_at dksX4_mend_0 20 rfl rfl)
theorem dX4_mend_23 : decode cX4_mend 23 = .ok (.iload_n 3, 1) := dk_29 (dk_at dksX4_mend_0 23 rfl rfl)
theorem dX4_mend_24 : decode cX4_mend 24 = .ok (.iload 4, 2) := dk_21 4 (dk_at dksX4_mend_1 0 rfl rfl)
theorem dX4_mend_26 : decode cX4_mend 26 = .ok (.sipush 300, 3) := dk_17 1 44 (dk_at dksX4_mend_1 2 rfl rfl)
theorem dX4_mend_29 : decode cX4_mend 29 = .ok (.invokestatic 354, 3) := dk_184 1 98 (dk_at dksX4_mend_1 5 rfl rfl)
theorem dX4_mend_32 : decode cX4_mend 32 = .ok (.ifCond .ne 5, 3) := dk_154 0 5 (dk_at dksX4_mend_1 8 rfl rfl)
theorem dX4_mend_35 : decode cX4_mend 35 = .ok (.iconst (-1), 1) := dk_2 (dk_at dksX4_mend_1 11 rfl rfl)
theorem dX4_mend_36 : decode cX4_mend 36 = .ok (.ireturn, 1) := dk_172 (dk_at dksX4_mend_1 12 rfl rfl)
theorem dX4_mend_37 : decode cX4_mend 37 = .ok (.aload_n 0, 1) := dk_42 (dk_at dksX4_mend_1 13 rfl rfl)
theorem dX4_mend_38 : decode cX4_mend 38 = .ok (.iload_n 1, 1) := dk_27 (dk_at dksX4_mend_1 14 rfl rfl)
theorem dX4_mend_39 : decode cX4_mend 39 = .ok (.iload_n 2, 1) := dk_28 (dk_at dksX4_mend_1 15 rfl rfl)
theorem dX4_mend_40 : decode cX4_mend 40 = .ok (.iconst (-1), 1) := dk_2 (dk_at dksX4_mend_1 16 rfl rfl)
theorem dX4_mend_41 : decode cX4_mend 41 = .ok (.iload_n 3, 1) := dk_29 (dk_at dksX4_mend_1 17 rfl rfl)
theorem dX4_mend_42 : decode cX4_mend 42 = .ok (.iload 4, 2) := dk_21 4 (dk_at dksX4_mend_1 18 rfl rfl)
theorem dX4_mend_44 : decode cX4_mend 44 = .ok (.invokevirtual 357, 3) := dk_182 1 101 (dk_at dksX4_mend_1 20 rfl rfl)
theorem dX4_mend_47 : decode cX4_mend 47 = .ok (.ldc_w 353, 3) := dk_19 1 97 (dk_at dksX4_mend_2 0 rfl rfl)
theorem dX4_mend_50 : decode cX4_mend 50 = .ok (.if_icmp .ne 7, 3) := dk_160 0 7 (dk_at dksX4_mend_2 3 rfl rfl)
theorem dX4_mend_53 : decode cX4_mend 53 = .ok (.ldc_w 353, 3) := dk_19 1 97 (dk_at dksX4_mend_2 6 rfl rfl)
theorem dX4_mend_56 : decode cX4_mend 56 = .ok (.ireturn, 1) := dk_172 (dk_at dksX4_mend_2 9 rfl rfl)
theorem dX4_mend_57 : decode cX4_mend 57 = .ok (.iconst 0, 1) := dk_3 (dk_at dksX4_mend_2 10 rfl rfl)
theorem dX4_mend_58 : decode cX4_mend 58 = .ok (.istore 5, 2) := dk_54 5 (dk_at dksX4_mend_2 11 rfl rfl)
theorem dX4_mend_60 : decode cX4_mend 60 = .ok (.iload 5, 2) := dk_21 5 (dk_at dksX4_mend_2 13 rfl rfl)
theorem dX4_mend_62 : decode cX4_mend 62 = .ok (.aload_n 0, 1) := dk_42 (dk_at dksX4_mend_2 15 rfl rfl)
theorem dX4_mend_63 : decode cX4_mend 63 = .ok (.getfield 25, 3) := dk_180 0 25 (dk_at dksX4_mend_2 16 rfl rfl)
theorem dX4_mend_66 : decode cX4_mend 66 = .ok (.iload_n 1, 1) := dk_27 (dk_at dksX4_mend_2 19 rfl rfl)
theorem dX4_mend_67 : decode cX4_mend 67 = .ok (.iaload, 1) := dk_46 (dk_at dksX4_mend_2 20 rfl rfl)
theorem dX4_mend_68 : decode cX4_mend 68 = .ok (.if_icmp .ge 166, 3) := dk_162 0 166 (dk_at dksX4_mend_2 21 rfl rfl)
theorem dX4_mend_71 : decode cX4_mend 71 = .ok (.bipush 20, 2) := dk_16 20 (dk_at dksX4_mend_3 0 rfl rfl)
theorem dX4_mend_73 : decode cX4_mend 73 = .ok (.iload_n 1, 1) := dk_27 (dk_at dksX4_mend_3 2 rfl rfl)
theorem dX4_mend_74 : decode cX4_mend 74 = .ok (.imul, 1) := dk_104 (dk_at dksX4_mend_3 3 rfl rfl)
theorem dX4_mend_75 : decode cX4_mend 75 = .ok (.iload 5, 2) := dk_21 5 (dk_at dksX4_mend_3 4 rfl rfl)
theorem dX4_mend_77 : decode cX4_mend 77 = .ok (.iadd, 1) := dk_96 (dk_at dksX4_mend_3 6 rfl rfl)
theorem dX4_mend_78 : decode cX4_mend 78 = .ok (.istore 6, 2) := dk_54 6 (dk_at dksX4_mend_3 7 rfl rfl)
theorem dX4_mend_80 : decode cX4_mend 80 = .ok (.aload_n 0, 1) := dk_42 (dk_at dksX4_mend_3 9 rfl rfl)
theorem dX4_mend_81 : decode cX4_mend 81 = .ok (.getfield 28, 3) := dk_180 0 28 (dk_at dksX4_mend_3 10 rfl rfl)
theorem dX4_mend_84 : decode cX4_mend 84 = .ok (.iload 6, 2) := dk_21 6 (dk_at dksX4_mend_3 13 rfl rfl)
theorem dX4_mend_86 : decode cX4_mend 86 = .ok (.iaload, 1) := dk_46 (dk_at dksX4_mend_3 15 rfl rfl)
theorem dX4_mend_87 : decode cX4_mend 87 = .ok (.iconst 4, 1) := dk_7 (dk_at dksX4_mend_3 16 rfl rfl)
theorem dX4_mend_88 : decode cX4_mend 88 = .ok (.if_icmp .eq 15, 3) := dk_159 0 15 (dk_at dksX4_mend_3 17 rfl rfl)
theorem dX4_mend_91 : decode cX4_mend 91 = .ok (.aload_n 0, 1) := dk_42 (dk_at dksX4_mend_3 20 rfl rfl)
theorem dX4_mend_92 : decode cX4_mend 92 = .ok (.getfield 28, 3) := dk_180 0 28 (dk_at dksX4_mend_3 21 rfl rfl)
theorem dX4_mend_95 : decode cX4_mend 95 = .ok (.iload 6, 2) := dk_21 6 (dk_at dksX4_mend_4 0 rfl rfl)
theorem dX4_mend_97 : decode cX4_mend 97 = .ok (.iaload, 1) := dk_46 (dk_at dksX4_mend_4 2 rfl rfl)
theorem dX4_mend_98 : decode cX4_mend 98 = .ok (.bipush 6, 2) := dk_16 6 (dk_at dksX4_mend_4 3 rfl rfl)
theorem dX4_mend_100 : decode cX4_mend 100 = .ok (.if_icmp .ne 13, 3) := dk_160 0 13 (dk_at dksX4_mend_4 5 rfl rfl)
theorem dX4_mend_103 : decode cX4_mend 103 = .ok (.aload_n 0, 1) := dk_42 (dk_at dksX4_mend_4 8 rfl rfl)
theorem dX4_mend_104 : decode cX4_mend 104 = .ok (.getfield 34, 3) := dk_180 0 34 (dk_at dksX4_mend_4 9 rfl rfl)
theorem dX4_mend_107 : decode cX4_mend 107 = .ok (.iload 6, 2) := dk_21 6 (dk_at dksX4_mend_4 12 rfl rfl)
theorem dX4_mend_109 : decode cX4_mend 109 = .ok (.iaload, 1) := dk_46 (dk_at dksX4_mend_4 14 rfl rfl)
theorem dX4_mend_110 : decode cX4_mend 110 = .ok (.goto 10, 3) := dk_167 0 10 (dk_at dksX4_mend_4 15 rfl rfl)
theorem dX4_mend_113 : decode cX4_mend 113 = .ok (.aload_n 0, 1) := dk_42 (dk_at dksX4_mend_4 18 rfl rfl)
theorem dX4_mend_114 : decode cX4_mend 114 = .ok (.getfield 37, 3) := dk_180 0 37 (dk_at dksX4_mend_4 19 rfl rfl)
theorem dX4_mend_117 : decode cX4_mend 117 = .ok (.iload 6, 2) := dk_21 6 (dk_at dksX4_mend_4 22 rfl rfl)
theorem dX4_mend_119 : decode cX4_mend 119 = .ok (.iaload, 1) := dk_46 (dk_at dksX4_mend_5 0 rfl rfl)
theorem dX4_mend_120 : decode cX4_mend 120 = .ok (.istore 7, 2) := dk_54 7 (dk_at dksX4_mend_5 1 rfl rfl)
theorem dX4_mend_122 : decode cX4_mend 122 = .ok (.iconst 0, 1) := dk_3 (dk_at dksX4_mend_5 3 rfl rfl)
theorem dX4_mend_123 : decode cX4_mend 123 = .ok (.istore 8, 2) := dk_54 8 (dk_at dksX4_mend_5 4 rfl rfl)
theorem dX4_mend_125 : decode cX4_mend 125 = .ok (.iload 8, 2) := dk_21 8 (dk_at dksX4_mend_5 6 rfl rfl)
theorem dX4_mend_127 : decode cX4_mend 127 = .ok (.aload_n 0, 1) := dk_42 (dk_at dksX4_mend_5 8 rfl rfl)
theorem dX4_mend_128 : decode cX4_mend 128 = .ok (.getfield 28, 3) := dk_180 0 28 (dk_at dksX4_mend_5 9 rfl rfl)
theorem dX4_mend_131 : decode cX4_mend 131 = .ok (.iload 6, 2) := dk_21 6 (dk_at dksX4_mend_5 12 rfl rfl)
theorem dX4_mend_133 : decode cX4_mend 133 = .ok (.iaload, 1) := dk_46 (dk_at dksX4_mend_5 14 rfl rfl)
theorem dX4_mend_134 : decode cX4_mend 134 = .ok (.bipush 6, 2) := dk_16 6 (dk_at dksX4_mend_5 15 rfl rfl)
theorem dX4_mend_136 : decode cX4_mend 136 = .ok (.if_icmp .ne 7, 3) := dk_160 0 7 (dk_at dksX4_mend_5 17 rfl rfl)
theorem dX4_mend_139 : decode cX4_mend 139 = .ok (.iconst 4, 1) := dk_7 (dk_at dksX4_mend_5 20 rfl rfl)
theorem dX4_mend_140 : decode cX4_mend 140 = .ok (.goto 5, 3) := dk_167 0 5 (dk_at dksX4_mend_5 21 rfl rfl)
theorem dX4_mend_143 : decode cX4_mend 143 = .ok (.bipush 6, 2) := dk_16 6 (dk_at dksX4_mend_6 0 rfl rfl)
theorem dX4_mend_145 : decode cX4_mend 145 = .ok (.if_icmp .ge 83, 3) := dk_162 0 83 (dk_at dksX4_mend_6 2 rfl rfl)
theorem dX4_mend_148 : decode cX4_mend 148 = .ok (.aload_n 0, 1) := dk_42 (dk_at dksX4_mend_6 5 rfl rfl)
theorem dX4_mend_149 : decode cX4_mend 149 = .ok (.aload_n 0, 1) := dk_42 (dk_at dksX4_mend_6 6 rfl rfl)
theorem dX4_mend_150 : decode cX4_mend 150 = .ok (.getfield 28, 3) := dk_180 0 28 (dk_at dksX4_mend_6 7 rfl rfl)
theorem dX4_mend_153 : decode cX4_mend 153 = .ok (.iload 6, 2) := dk_21 6 (dk_at dksX4_mend_6 10 rfl rfl)
theorem dX4_mend_155 : decode cX4_mend 155 = .ok (.iaload, 1) := dk_46 (dk_at dksX4_mend_6 12 rfl rfl)
theorem dX4_mend_156 : decode cX4_mend 156 = .ok (.invokevirtual 367, 3) := dk_182 1 111 (dk_at dksX4_mend_6 13 rfl rfl)
theorem dX4_mend_159 : decode cX4_mend 159 = .ok (.ifCond .eq 69, 3) := dk_153 0 69 (dk_at dksX4_mend_6 16 rfl rfl)
theorem dX4_mend_162 : decode cX4_mend 162 = .ok (.aload_n 0, 1) := dk_42 (dk_at dksX4_mend_6 19 rfl rfl)
theorem dX4_mend_163 : decode cX4_mend 163 = .ok (.iload 6, 2) := dk_21 6 (dk_at dksX4_mend_6 20 rfl rfl)
theorem dX4_mend_165 : decode cX4_mend 165 = .ok (.iload 8, 2) := dk_21 8 (dk_at dksX4_mend_6 22 rfl rfl)
theorem dX4_mend_167 : decode cX4_mend 167 = .ok (.invokevirtual 370, 3) := dk_182 1 114 (dk_at dksX4_mend_7 0 rfl rfl)
theorem dX4_mend_170 : decode cX4_mend 170 = .ok (.iload 8, 2) := dk_21 8 (dk_at dksX4_mend_7 3 rfl rfl)
theorem dX4_mend_172 : decode cX4_mend 172 = .ok (.iload 7, 2) := dk_21 7 (dk_at dksX4_mend_7 5 rfl rfl)
theorem dX4_mend_174 : decode cX4_mend 174 = .ok (.if_icmp .eq 23, 3) := dk_159 0 23 (dk_at dksX4_mend_7 7 rfl rfl)
theorem dX4_mend_177 : decode cX4_mend 177 = .ok (.aload_n 0, 1) := dk_42 (dk_at dksX4_mend_7 10 rfl rfl)
theorem dX4_mend_178 : decode cX4_mend 178 = .ok (.iload_n 1, 1) := dk_27 (dk_at dksX4_mend_7 11 rfl rfl)
theorem dX4_mend_179 : decode cX4_mend 179 = .ok (.iload_n 2, 1) := dk_28 (dk_at dksX4_mend_7 12 rfl rfl)
theorem dX4_mend_180 : decode cX4_mend 180 = .ok (.iconst (-1), 1) := dk_2 (dk_at dksX4_mend_7 13 rfl rfl)
theorem dX4_mend_181 : decode cX4_mend 181 = .ok (.iload_n 3, 1) := dk_29 (dk_at dksX4_mend_7 14 rfl rfl)
theorem dX4_mend_182 : decode cX4_mend 182 = .ok (.iload 4, 2) := dk_21 4 (dk_at dksX4_mend_7 15 rfl rfl)
theorem dX4_mend_184 : decode cX4_mend 184 = .ok (.invokevirtual 357, 3) := dk_182 1 101 (dk_at dksX4_mend_7 17 rfl rfl)
theorem dX4_mend_187 : decode cX4_mend 187 = .ok (.ldc_w 353, 3) := dk_19 1 97 (dk_at dksX4_mend_7 20 rfl rfl)
theorem dX4_mend_190 : decode cX4_mend 190 = .ok (.if_icmp .ne 7, 3) := dk_160 0 7 (dk_at dksX4_mend_8 0 rfl rfl)
theorem dX4_mend_193 : decode cX4_mend 193 = .ok (.iconst 1, 1) := dk_4 (dk_at dksX4_mend_8 3 rfl rfl)
theorem dX4_mend_194 : decode cX4_mend 194 = .ok (.goto 4, 3) := dk_167 0 4 (dk_at dksX4_mend_8 4 rfl rfl)
theorem dX4_mend_197 : decode cX4_mend 197 = .ok (.iconst 0, 1) := dk_3 (dk_at dksX4_mend_8 7 rfl rfl)
theorem dX4_mend_198 : decode cX4_mend 198 = .ok (.istore 9, 2) := dk_54 9 (dk_at dksX4_mend_8 8 rfl rfl)
theorem dX4_mend_200 : decode cX4_mend 200 = .ok (.aload_n 0, 1) := dk_42 (dk_at dksX4_mend_8 10 rfl rfl)
theorem dX4_mend_201 : decode cX4_mend 201 = .ok (.iload 6, 2) := dk_21 6 (dk_at dksX4_mend_8 11 rfl rfl)
theorem dX4_mend_203 : decode cX4_mend 203 = .ok (.iload 7, 2) := dk_21 7 (dk_at dksX4_mend_8 13 rfl rfl)
theorem dX4_mend_205 : decode cX4_mend 205 = .ok (.invokevirtual 370, 3) := dk_182 1 114 (dk_at dksX4_mend_8 15 rfl rfl)
theorem dX4_mend_208 : decode cX4_mend 208 = .ok (.iload 9, 2) := dk_21 9 (dk_at dksX4_mend_8 18 rfl rfl)
theorem dX4_mend_210 : decode cX4_mend 210 = .ok (.ifCond .eq 12, 3) := dk_153 0 12 (dk_at dksX4_mend_8 20 rfl rfl)
theorem dX4_mend_213 : decode cX4_mend 213 = .ok (.bipush 10, 2) := dk_16 10 (dk_at dksX4_mend_9 0 rfl rfl)
theorem dX4_mend_215 : decode cX4_mend 215 = .ok (.iload 5, 2) := dk_21 5 (dk_at dksX4_mend_9 2 rfl rfl)
theorem dX4_mend_217 : decode cX4_mend 217 = .ok (.imul, 1) := dk_104 (dk_at dksX4_mend_9 4 rfl rfl)
theorem dX4_mend_218 : decode cX4_mend 218 = .ok (.iload 8, 2) := dk_21 8 (dk_at dksX4_mend_9 5 rfl rfl)
theorem dX4_mend_220 : decode cX4_mend 220 = .ok (.iadd, 1) := dk_96 (dk_at dksX4_mend_9 7 rfl rfl)
theorem dX4_mend_221 : decode cX4_mend 221 = .ok (.ireturn, 1) := dk_172 (dk_at dksX4_mend_9 8 rfl rfl)
theorem dX4_mend_222 : decode cX4_mend 222 = .ok (.iinc 8 1, 3) := dk_132 8 1 (dk_at dksX4_mend_9 9 rfl rfl)
theorem dX4_mend_225 : decode cX4_mend 225 = .ok (.goto (-100), 3) := dk_167 255 156 (dk_at dksX4_mend_9 12 rfl rfl)
theorem dX4_mend_228 : decode cX4_mend 228 = .ok (.iinc 5 1, 3) := dk_132 5 1 (dk_at dksX4_mend_9 15 rfl rfl)
theorem dX4_mend_231 : decode cX4_mend 231 = .ok (.goto (-171), 3) := dk_167 255 85 (dk_at dksX4_mend_9 18 rfl rfl)
theorem dX4_mend_234 : decode cX4_mend 234 = .ok (.bipush (-3), 2) := dk_16 253 (dk_at dksX4_mend_9 21 rfl rfl)
theorem dX4_mend_236 : decode cX4_mend 236 = .ok (.ireturn, 1) := dk_172 (dk_at dksX4_mend_9 23 rfl rfl)
abbrev cX4_hasChoice : ByteArray := prog_23_method_69_code
def yX4_hasChoice : MethodName := ⟨RX4, "hasChoice", "(I)Z"⟩
def dkwX4_hasChoice_1 : List UInt8 := [160, 0, 7, 4, 167, 0, 4, 3, 172]
abbrev dktX4_hasChoice_1 : List UInt8 := dkwX4_hasChoice_1 ++ []
def dkwX4_hasChoice_0 : List UInt8 := [27, 4, 159, 0, 25, 27, 5, 159, 0, 20, 27, 7, 159, 0, 15, 27, 16, 6, 159, 0, 9, 27, 16, 11]
abbrev dktX4_hasChoice_0 : List UInt8 := dkwX4_hasChoice_0 ++ dktX4_hasChoice_1
theorem dksX4_hasChoice_0 : cX4_hasChoice.data.toList.drop 0 = dktX4_hasChoice_0 := by decide +kernel
theorem dksX4_hasChoice_1 : cX4_hasChoice.data.toList.drop 24 = dktX4_hasChoice_1 := dk_seg dksX4_hasChoice_0 24 rfl rfl
theorem dX4_hasChoice_0 : decode cX4_hasChoice 0 = .ok (.iload_n 1, 1) := dk_27 (dk_at dksX4_hasChoice_0 0 rfl rfl)
theorem dX4_hasChoice_1 : decode cX4_hasChoice 1 = .ok (.iconst 1, 1) := dk_4 (dk_at dksX4_hasChoice_0 1 rfl rfl)
theorem dX4_hasChoice_2 : decode cX4_hasChoice 2 = .ok (.if_icmp .eq 25, 3) := dk_159 0 25 (dk_at dksX4_hasChoice_0 2 rfl rfl)
theorem dX4_hasChoice_5 : decode cX4_hasChoice 5 = .ok (.iload_n 1, 1) := dk_27 (dk_at dksX4_hasChoice_0 5 rfl rfl)
theorem dX4_hasChoice_6 : decode cX4_hasChoice 6 = .ok (.iconst 2, 1) := dk_5 (dk_at dksX4_hasChoice_0 6 rfl rfl)
theorem dX4_hasChoice_7 : decode cX4_hasChoice 7 = .ok (.if_icmp .eq 20, 3) := dk_159 0 20 (dk_at dksX4_hasChoice_0 7 rfl rfl)
theorem dX4_hasChoice_10 : decode cX4_hasChoice 10 = .ok (.iload_n 1, 1) := dk_27 (dk_at dksX4_hasChoice_0 10 rfl rfl)
theorem dX4_hasChoice_11 : decode cX4_hasChoice 11 = .ok (.iconst 4, 1) := dk_7 (dk_at dksX4_hasChoice_0 11 rfl rfl)
theorem dX4_hasChoice_12 : decode cX4_hasChoice 12 = .ok (.if_icmp .eq 15, 3) := dk_159 0 15 (dk_at dksX4_hasChoice_0 12 rfl rfl)
theorem dX4_hasChoice_15 : decode cX4_hasChoice 15 = .ok (.iload_n 1, 1) := dk_27 (dk_at dksX4_hasChoice_0 15 rfl rfl)
theorem dX4_hasChoice_16 : decode cX4_hasChoice 16 = .ok (.bipush 6, 2) := dk_16 6 (dk_at dksX4_hasChoice_0 16 rfl rfl)
theorem dX4_hasChoice_18 : decode cX4_hasChoice 18 = .ok (.if_icmp .eq 9, 3) := dk_159 0 9 (dk_at dksX4_hasChoice_0 18 rfl rfl)
theorem dX4_hasChoice_21 : decode cX4_hasChoice 21 = .ok (.iload_n 1, 1) := dk_27 (dk_at dksX4_hasChoice_0 21 rfl rfl)
theorem dX4_hasChoice_22 : decode cX4_hasChoice 22 = .ok (.bipush 11, 2) := dk_16 11 (dk_at dksX4_hasChoice_0 22 rfl rfl)
theorem dX4_hasChoice_24 : decode cX4_hasChoice 24 = .ok (.if_icmp .ne 7, 3) := dk_160 0 7 (dk_at dksX4_hasChoice_1 0 rfl rfl)
theorem dX4_hasChoice_27 : decode cX4_hasChoice 27 = .ok (.iconst 1, 1) := dk_4 (dk_at dksX4_hasChoice_1 3 rfl rfl)
theorem dX4_hasChoice_28 : decode cX4_hasChoice 28 = .ok (.goto 4, 3) := dk_167 0 4 (dk_at dksX4_hasChoice_1 4 rfl rfl)
theorem dX4_hasChoice_31 : decode cX4_hasChoice 31 = .ok (.iconst 0, 1) := dk_3 (dk_at dksX4_hasChoice_1 7 rfl rfl)
theorem dX4_hasChoice_32 : decode cX4_hasChoice 32 = .ok (.ireturn, 1) := dk_172 (dk_at dksX4_hasChoice_1 8 rfl rfl)
abbrev cX4_chooses : ByteArray := prog_23_method_70_code
def yX4_chooses : MethodName := ⟨RX4, "chooses", "(II)V"⟩
def dkwX4_chooses_1 : List UInt8 := [180, 0, 34, 27, 28, 79, 167, 0, 10, 42, 180, 0, 37, 27, 28, 79, 177]
abbrev dktX4_chooses_1 : List UInt8 := dkwX4_chooses_1 ++ []
def dkwX4_chooses_0 : List UInt8 := [42, 180, 0, 28, 27, 46, 7, 159, 0, 14, 42, 180, 0, 28, 27, 46, 16, 6, 160, 0, 13, 42]
abbrev dktX4_chooses_0 : List UInt8 := dkwX4_chooses_0 ++ dktX4_chooses_1
theorem dksX4_chooses_0 : cX4_chooses.data.toList.drop 0 = dktX4_chooses_0 := by decide +kernel
theorem dksX4_chooses_1 : cX4_chooses.data.toList.drop 22 = dktX4_chooses_1 := dk_seg dksX4_chooses_0 22 rfl rfl
theorem dX4_chooses_0 : decode cX4_chooses 0 = .ok (.aload_n 0, 1) := dk_42 (dk_at dksX4_chooses_0 0 rfl rfl)
theorem dX4_chooses_1 : decode cX4_chooses 1 = .ok (.getfield 28, 3) := dk_180 0 28 (dk_at dksX4_chooses_0 1 rfl rfl)
theorem dX4_chooses_4 : decode cX4_chooses 4 = .ok (.iload_n 1, 1) := dk_27 (dk_at dksX4_chooses_0 4 rfl rfl)
theorem dX4_chooses_5 : decode cX4_chooses 5 = .ok (.iaload, 1) := dk_46 (dk_at dksX4_chooses_0 5 rfl rfl)
theorem dX4_chooses_6 : decode cX4_chooses 6 = .ok (.iconst 4, 1) := dk_7 (dk_at dksX4_chooses_0 6 rfl rfl)
theorem dX4_chooses_7 : decode cX4_chooses 7 = .ok (.if_icmp .eq 14, 3) := dk_159 0 14 (dk_at dksX4_chooses_0 7 rfl rfl)
theorem dX4_chooses_10 : decode cX4_chooses 10 = .ok (.aload_n 0, 1) := dk_42 (dk_at dksX4_chooses_0 10 rfl rfl)
theorem dX4_chooses_11 : decode cX4_chooses 11 = .ok (.getfield 28, 3) := dk_180 0 28 (dk_at dksX4_chooses_0 11 rfl rfl)
theorem dX4_chooses_14 : decode cX4_chooses 14 = .ok (.iload_n 1, 1) := dk_27 (dk_at dksX4_chooses_0 14 rfl rfl)
theorem dX4_chooses_15 : decode cX4_chooses 15 = .ok (.iaload, 1) := dk_46 (dk_at dksX4_chooses_0 15 rfl rfl)
theorem dX4_chooses_16 : decode cX4_chooses 16 = .ok (.bipush 6, 2) := dk_16 6 (dk_at dksX4_chooses_0 16 rfl rfl)
theorem dX4_chooses_18 : decode cX4_chooses 18 = .ok (.if_icmp .ne 13, 3) := dk_160 0 13 (dk_at dksX4_chooses_0 18 rfl rfl)
theorem dX4_chooses_21 : decode cX4_chooses 21 = .ok (.aload_n 0, 1) := dk_42 (dk_at dksX4_chooses_0 21 rfl rfl)
theorem dX4_chooses_22 : decode cX4_chooses 22 = .ok (.getfield 34, 3) := dk_180 0 34 (dk_at dksX4_chooses_1 0 rfl rfl)
theorem dX4_chooses_25 : decode cX4_chooses 25 = .ok (.iload_n 1, 1) := dk_27 (dk_at dksX4_chooses_1 3 rfl rfl)
theorem dX4_chooses_26 : decode cX4_chooses 26 = .ok (.iload_n 2, 1) := dk_28 (dk_at dksX4_chooses_1 4 rfl rfl)
theorem dX4_chooses_27 : decode cX4_chooses 27 = .ok (.iastore, 1) := dk_79 (dk_at dksX4_chooses_1 5 rfl rfl)
theorem dX4_chooses_28 : decode cX4_chooses 28 = .ok (.goto 10, 3) := dk_167 0 10 (dk_at dksX4_chooses_1 6 rfl rfl)
theorem dX4_chooses_31 : decode cX4_chooses 31 = .ok (.aload_n 0, 1) := dk_42 (dk_at dksX4_chooses_1 9 rfl rfl)
theorem dX4_chooses_32 : decode cX4_chooses 32 = .ok (.getfield 37, 3) := dk_180 0 37 (dk_at dksX4_chooses_1 10 rfl rfl)
theorem dX4_chooses_35 : decode cX4_chooses 35 = .ok (.iload_n 1, 1) := dk_27 (dk_at dksX4_chooses_1 13 rfl rfl)
theorem dX4_chooses_36 : decode cX4_chooses 36 = .ok (.iload_n 2, 1) := dk_28 (dk_at dksX4_chooses_1 14 rfl rfl)
theorem dX4_chooses_37 : decode cX4_chooses 37 = .ok (.iastore, 1) := dk_79 (dk_at dksX4_chooses_1 15 rfl rfl)
theorem dX4_chooses_38 : decode cX4_chooses 38 = .ok (.return_, 1) := dk_177 (dk_at dksX4_chooses_1 16 rfl rfl)
abbrev cX4_same : ByteArray := prog_23_method_72_code
def yX4_same : MethodName := ⟨RX4, "same", "(II)I"⟩
def dkwX4_same_6 : List UInt8 := [167, 0, 4, 3, 62, 132, 4, 1, 167, 255, 146, 29, 153, 0, 7, 4, 167, 0, 4, 3, 172]
abbrev dktX4_same_6 : List UInt8 := dkwX4_same_6 ++ []
def dkwX4_same_5 : List UInt8 := [21, 6, 46, 160, 0, 24, 42, 180, 0, 37, 21, 5, 46, 42, 180, 0, 37, 21, 6, 46, 160, 0, 7, 4]
abbrev dktX4_same_5 : List UInt8 := dkwX4_same_5 ++ dktX4_same_6
def dkwX4_same_4 : List UInt8 := [21, 5, 46, 42, 180, 0, 31, 21, 6, 46, 160, 0, 41, 42, 180, 0, 34, 21, 5, 46, 42, 180, 0, 34]
abbrev dktX4_same_4 : List UInt8 := dkwX4_same_4 ++ dktX4_same_5
def dkwX4_same_3 : List UInt8 := [96, 54, 6, 42, 180, 0, 28, 21, 5, 46, 42, 180, 0, 28, 21, 6, 46, 160, 0, 58, 42, 180, 0, 31]
abbrev dktX4_same_3 : List UInt8 := dkwX4_same_3 ++ dktX4_same_4
def dkwX4_same_2 : List UInt8 := [27, 46, 162, 0, 105, 29, 153, 0, 101, 16, 20, 27, 104, 21, 4, 96, 54, 5, 16, 20, 28, 104, 21, 4]
abbrev dktX4_same_2 : List UInt8 := dkwX4_same_2 ++ dktX4_same_3
def dkwX4_same_1 : List UInt8 := [42, 180, 0, 25, 28, 46, 160, 0, 7, 4, 167, 0, 4, 3, 62, 3, 54, 4, 21, 4, 42, 180, 0, 25]
abbrev dktX4_same_1 : List UInt8 := dkwX4_same_1 ++ dktX4_same_2
def dkwX4_same_0 : List UInt8 := [42, 27, 182, 0, 172, 153, 0, 11, 42, 28, 182, 0, 172, 154, 0, 5, 2, 172, 42, 180, 0, 25, 27, 46]
abbrev dktX4_same_0 : List UInt8 := dkwX4_same_0 ++ dktX4_same_1
theorem dksX4_same_0 : cX4_same.data.toList.drop 0 = dktX4_same_0 := by decide +kernel
theorem dksX4_same_1 : cX4_same.data.toList.drop 24 = dktX4_same_1 := dk_seg dksX4_same_0 24 rfl rfl
theorem dksX4_same_2 : cX4_same.data.toList.drop 48 = dktX4_same_2 := dk_seg dksX4_same_1 24 rfl rfl
theorem dksX4_same_3 : cX4_same.data.toList.drop 72 = dktX4_same_3 := dk_seg dksX4_same_2 24 rfl rfl
theorem dksX4_same_4 : cX4_same.data.toList.drop 96 = dktX4_same_4 := dk_seg dksX4_same_3 24 rfl rfl
theorem dksX4_same_5 : cX4_same.data.toList.drop 120 = dktX4_same_5 := dk_seg dksX4_same_4 24 rfl rfl
theorem dksX4_same_6 : cX4_same.data.toList.drop 144 = dktX4_same_6 := dk_seg dksX4_same_5 24 rfl rfl
theorem dX4_same_0 : decode cX4_same 0 = .ok (.aload_n 0, 1) := dk_42 (dk_at dksX4_same_0 0 rfl rfl)
theorem dX4_same_1 : decode cX4_same 1 = .ok (.iload_n 1, 1) := dk_27 (dk_at dksX4_same_0 1 rfl rfl)
theorem dX4_same_2 : decode cX4_same 2 = .ok (.invokevirtual 172, 3) := dk_182 0 172 (dk_at dksX4_same_0 2 rfl rfl)
theorem dX4_same_5 : decode cX4_same 5 = .ok (.ifCond .eq 11, 3) := dk_153 0 11 (dk_at dksX4_same_0 5 rfl rfl)
theorem dX4_same_8 : decode cX4_same 8 = .ok (.aload_n 0, 1) := dk_42 (dk_at dksX4_same_0 8 rfl rfl)
theorem dX4_same_9 : decode cX4_same 9 = .ok (.iload_n 2, 1) := dk_28 (dk_at dksX4_same_0 9 rfl rfl)
theorem dX4_same_10 : decode cX4_same 10 = .ok (.invokevirtual 172, 3) := dk_182 0 172 (dk_at dksX4_same_0 10 rfl rfl)
theorem dX4_same_13 : decode cX4_same 13 = .ok (.ifCond .ne 5, 3) := dk_154 0 5 (dk_at dksX4_same_0 13 rfl rfl)
theorem dX4_same_16 : decode cX4_same 16 = .ok (.iconst (-1), 1) := dk_2 (dk_at dksX4_same_0 16 rfl rfl)
theorem dX4_same_17 : decode cX4_same 17 = .ok (.ireturn, 1) := dk_172 (dk_at dksX4_same_0 17 rfl rfl)
theorem dX4_same_18 : decode cX4_same 18 = .ok (.aload_n 0, 1) := dk_42 (dk_at dksX4_same_0 18 rfl rfl)
theorem dX4_same_19 : decode cX4_same 19 = .ok (.getfield 25, 3) := dk_180 0 25 (dk_at dksX4_same_0 19 rfl rfl)
theorem dX4_same_22 : decode cX4_same 22 = .ok (.iload_n 1, 1) := dk_27 (dk_at dksX4_same_0 22 rfl rfl)
theorem dX4_same_23 : decode cX4_same 23 = .ok (.iaload, 1) := dk_46 (dk_at dksX4_same_0 23 rfl rfl)
theorem dX4_same_24 : decode cX4_same 24 = .ok (.aload_n 0, 1) := dk_42 (dk_at dksX4_same_1 0 rfl rfl)
theorem dX4_same_25 : decode cX4_same 25 = .ok (.getfield 25, 3) := dk_180 0 25 (dk_at dksX4_same_1 1 rfl rfl)
theorem dX4_same_28 : decode cX4_same 28 = .ok (.iload_n 2, 1) := dk_28 (dk_at dksX4_same_1 4 rfl rfl)
theorem dX4_same_29 : decode cX4_same 29 = .ok (.iaload, 1) := dk_46 (dk_at dksX4_same_1 5 rfl rfl)
theorem dX4_same_30 : decode cX4_same 30 = .ok (.if_icmp .ne 7, 3) := dk_160 0 7 (dk_at dksX4_same_1 6 rfl rfl)
theorem dX4_same_33 : decode cX4_same 33 = .ok (.iconst 1, 1) := dk_4 (dk_at dksX4_same_1 9 rfl rfl)
theorem dX4_same_34 : decode cX4_same 34 = .ok (.goto 4, 3) := dk_167 0 4 (dk_at dksX4_same_1 10 rfl rfl)
theorem dX4_same_37 : decode cX4_same 37 = .ok (.iconst 0, 1) := dk_3 (dk_at dksX4_same_1 13 rfl rfl)
theorem dX4_same_38 : decode cX4_same 38 = .ok (.istore_n 3, 1) := dk_62 (dk_at dksX4_same_1 14 rfl rfl)
theorem dX4_same_39 : decode cX4_same 39 = .ok (.iconst 0, 1) := dk_3 (dk_at dksX4_same_1 15 rfl rfl)
theorem dX4_same_40 : decode cX4_same 40 = .ok (.istore 4, 2) := dk_54 4 (dk_at dksX4_same_1 16 rfl rfl)
theorem dX4_same_42 : decode cX4_same 42 = .ok (.iload 4, 2) := dk_21 4 (dk_at dksX4_same_1 18 rfl rfl)
theorem dX4_same_44 : decode cX4_same 44 = .ok (.aload_n 0, 1) := dk_42 (dk_at dksX4_same_1 20 rfl rfl)
theorem dX4_same_45 : decode cX4_same 45 = .ok (.getfield 25, 3) := dk_180 0 25 (dk_at dksX4_same_1 21 rfl rfl)
theorem dX4_same_48 : decode cX4_same 48 = .ok (.iload_n 1, 1) := dk_27 (dk_at dksX4_same_2 0 rfl rfl)
theorem dX4_same_49 : decode cX4_same 49 = .ok (.iaload, 1) := dk_46 (dk_at dksX4_same_2 1 rfl rfl)
theorem dX4_same_50 : decode cX4_same 50 = .ok (.if_icmp .ge 105, 3) := dk_162 0 105 (dk_at dksX4_same_2 2 rfl rfl)
theorem dX4_same_53 : decode cX4_same 53 = .ok (.iload_n 3, 1) := dk_29 (dk_at dksX4_same_2 5 rfl rfl)
theorem dX4_same_54 : decode cX4_same 54 = .ok (.ifCond .eq 101, 3) := dk_153 0 101 (dk_at dksX4_same_2 6 rfl rfl)
theorem dX4_same_57 : decode cX4_same 57 = .ok (.bipush 20, 2) := dk_16 20 (dk_at dksX4_same_2 9 rfl rfl)
theorem dX4_same_59 : decode cX4_same 59 = .ok (.iload_n 1, 1) := dk_27 (dk_at dksX4_same_2 11 rfl rfl)
theorem dX4_same_60 : decode cX4_same 60 = .ok (.imul, 1) := dk_104 (dk_at dksX4_same_2 12 rfl rfl)
theorem dX4_same_61 : decode cX4_same 61 = .ok (.iload 4, 2) := dk_21 4 (dk_at dksX4_same_2 13 rfl rfl)
theorem dX4_same_63 : decode cX4_same 63 = .ok (.iadd, 1) := dk_96 (dk_at dksX4_same_2 15 rfl rfl)
theorem dX4_same_64 : decode cX4_same 64 = .ok (.istore 5, 2) := dk_54 5 (dk_at dksX4_same_2 16 rfl rfl)
theorem dX4_same_66 : decode cX4_same 66 = .ok (.bipush 20, 2) := dk_16 20 (dk_at dksX4_same_2 18 rfl rfl)
theorem dX4_same_68 : decode cX4_same 68 = .ok (.iload_n 2, 1) := dk_28 (dk_at dksX4_same_2 20 rfl rfl)
theorem dX4_same_69 : decode cX4_same 69 = .ok (.imul, 1) := dk_104 (dk_at dksX4_same_2 21 rfl rfl)
theorem dX4_same_70 : decode cX4_same 70 = .ok (.iload 4, 2) := dk_21 4 (dk_at dksX4_same_2 22 rfl rfl)
theorem dX4_same_72 : decode cX4_same 72 = .ok (.iadd, 1) := dk_96 (dk_at dksX4_same_3 0 rfl rfl)
theorem dX4_same_73 : decode cX4_same 73 = .ok (.istore 6, 2) := dk_54 6 (dk_at dksX4_same_3 1 rfl rfl)
theorem dX4_same_75 : decode cX4_same 75 = .ok (.aload_n 0, 1) := dk_42 (dk_at dksX4_same_3 3 rfl rfl)
theorem dX4_same_76 : decode cX4_same 76 = .ok (.getfield 28, 3) := dk_180 0 28 (dk_at dksX4_same_3 4 rfl rfl)
theorem dX4_same_79 : decode cX4_same 79 = .ok (.iload 5, 2) := dk_21 5 (dk_at dksX4_same_3 7 rfl rfl)
theorem dX4_same_81 : decode cX4_same 81 = .ok (.iaload, 1) := dk_46 (dk_at dksX4_same_3 9 rfl rfl)
theorem dX4_same_82 : decode cX4_same 82 = .ok (.aload_n 0, 1) := dk_42 (dk_at dksX4_same_3 10 rfl rfl)
theorem dX4_same_83 : decode cX4_same 83 = .ok (.getfield 28, 3) := dk_180 0 28 (dk_at dksX4_same_3 11 rfl rfl)
theorem dX4_same_86 : decode cX4_same 86 = .ok (.iload 6, 2) := dk_21 6 (dk_at dksX4_same_3 14 rfl rfl)
theorem dX4_same_88 : decode cX4_same 88 = .ok (.iaload, 1) := dk_46 (dk_at dksX4_same_3 16 rfl rfl)
theorem dX4_same_89 : decode cX4_same 89 = .ok (.if_icmp .ne 58, 3) := dk_160 0 58 (dk_at dksX4_same_3 17 rfl rfl)
theorem dX4_same_92 : decode cX4_same 92 = .ok (.aload_n 0, 1) := dk_42 (dk_at dksX4_same_3 20 rfl rfl)
theorem dX4_same_93 : decode cX4_same 93 = .ok (.getfield 31, 3) := dk_180 0 31 (dk_at dksX4_same_3 21 rfl rfl)
theorem dX4_same_96 : decode cX4_same 96 = .ok (.iload 5, 2) := dk_21 5 (dk_at dksX4_same_4 0 rfl rfl)
theorem dX4_same_98 : decode cX4_same 98 = .ok (.iaload, 1) := dk_46 (dk_at dksX4_same_4 2 rfl rfl)
theorem dX4_same_99 : decode cX4_same 99 = .ok (.aload_n 0, 1) := dk_42 (dk_at dksX4_same_4 3 rfl rfl)
theorem dX4_same_100 : decode cX4_same 100 = .ok (.getfield 31, 3) := dk_180 0 31 (dk_at dksX4_same_4 4 rfl rfl)
theorem dX4_same_103 : decode cX4_same 103 = .ok (.iload 6, 2) := dk_21 6 (dk_at dksX4_same_4 7 rfl rfl)
theorem dX4_same_105 : decode cX4_same 105 = .ok (.iaload, 1) := dk_46 (dk_at dksX4_same_4 9 rfl rfl)
theorem dX4_same_106 : decode cX4_same 106 = .ok (.if_icmp .ne 41, 3) := dk_160 0 41 (dk_at dksX4_same_4 10 rfl rfl)
theorem dX4_same_109 : decode cX4_same 109 = .ok (.aload_n 0, 1) := dk_42 (dk_at dksX4_same_4 13 rfl rfl)
theorem dX4_same_110 : decode cX4_same 110 = .ok (.getfield 34, 3) := dk_180 0 34 (dk_at dksX4_same_4 14 rfl rfl)
theorem dX4_same_113 : decode cX4_same 113 = .ok (.iload 5, 2) := dk_21 5 (dk_at dksX4_same_4 17 rfl rfl)
theorem dX4_same_115 : decode cX4_same 115 = .ok (.iaload, 1) := dk_46 (dk_at dksX4_same_4 19 rfl rfl)
theorem dX4_same_116 : decode cX4_same 116 = .ok (.aload_n 0, 1) := dk_42 (dk_at dksX4_same_4 20 rfl rfl)
theorem dX4_same_117 : decode cX4_same 117 = .ok (.getfield 34, 3) := dk_180 0 34 (dk_at dksX4_same_4 21 rfl rfl)
theorem dX4_same_120 : decode cX4_same 120 = .ok (.iload 6, 2) := dk_21 6 (dk_at dksX4_same_5 0 rfl rfl)
theorem dX4_same_122 : decode cX4_same 122 = .ok (.iaload, 1) := dk_46 (dk_at dksX4_same_5 2 rfl rfl)
theorem dX4_same_123 : decode cX4_same 123 = .ok (.if_icmp .ne 24, 3) := dk_160 0 24 (dk_at dksX4_same_5 3 rfl rfl)
theorem dX4_same_126 : decode cX4_same 126 = .ok (.aload_n 0, 1) := dk_42 (dk_at dksX4_same_5 6 rfl rfl)
theorem dX4_same_127 : decode cX4_same 127 = .ok (.getfield 37, 3) := dk_180 0 37 (dk_at dksX4_same_5 7 rfl rfl)
theorem dX4_same_130 : decode cX4_same 130 = .ok (.iload 5, 2) := dk_21 5 (dk_at dksX4_same_5 10 rfl rfl)
theorem dX4_same_132 : decode cX4_same 132 = .ok (.iaload, 1) := dk_46 (dk_at dksX4_same_5 12 rfl rfl)
theorem dX4_same_133 : decode cX4_same 133 = .ok (.aload_n 0, 1) := dk_42 (dk_at dksX4_same_5 13 rfl rfl)
theorem dX4_same_134 : decode cX4_same 134 = .ok (.getfield 37, 3) := dk_180 0 37 (dk_at dksX4_same_5 14 rfl rfl)
theorem dX4_same_137 : decode cX4_same 137 = .ok (.iload 6, 2) := dk_21 6 (dk_at dksX4_same_5 17 rfl rfl)
theorem dX4_same_139 : decode cX4_same 139 = .ok (.iaload, 1) := dk_46 (dk_at dksX4_same_5 19 rfl rfl)
theorem dX4_same_140 : decode cX4_same 140 = .ok (.if_icmp .ne 7, 3) := dk_160 0 7 (dk_at dksX4_same_5 20 rfl rfl)
theorem dX4_same_143 : decode cX4_same 143 = .ok (.iconst 1, 1) := dk_4 (dk_at dksX4_same_5 23 rfl rfl)
theorem dX4_same_144 : decode cX4_same 144 = .ok (.goto 4, 3) := dk_167 0 4 (dk_at dksX4_same_6 0 rfl rfl)
theorem dX4_same_147 : decode cX4_same 147 = .ok (.iconst 0, 1) := dk_3 (dk_at dksX4_same_6 3 rfl rfl)
theorem dX4_same_148 : decode cX4_same 148 = .ok (.istore_n 3, 1) := dk_62 (dk_at dksX4_same_6 4 rfl rfl)
theorem dX4_same_149 : decode cX4_same 149 = .ok (.iinc 4 1, 3) := dk_132 4 1 (dk_at dksX4_same_6 5 rfl rfl)
theorem dX4_same_152 : decode cX4_same 152 = .ok (.goto (-110), 3) := dk_167 255 146 (dk_at dksX4_same_6 8 rfl rfl)
theorem dX4_same_155 : decode cX4_same 155 = .ok (.iload_n 3, 1) := dk_29 (dk_at dksX4_same_6 11 rfl rfl)
theorem dX4_same_156 : decode cX4_same 156 = .ok (.ifCond .eq 7, 3) := dk_153 0 7 (dk_at dksX4_same_6 12 rfl rfl)
theorem dX4_same_159 : decode cX4_same 159 = .ok (.iconst 1, 1) := dk_4 (dk_at dksX4_same_6 15 rfl rfl)
theorem dX4_same_160 : decode cX4_same 160 = .ok (.goto 4, 3) := dk_167 0 4 (dk_at dksX4_same_6 16 rfl rfl)
theorem dX4_same_163 : decode cX4_same 163 = .ok (.iconst 0, 1) := dk_3 (dk_at dksX4_same_6 19 rfl rfl)
theorem dX4_same_164 : decode cX4_same 164 = .ok (.ireturn, 1) := dk_172 (dk_at dksX4_same_6 20 rfl rfl)
abbrev cX4_rounded : ByteArray := prog_23_method_73_code
def yX4_rounded : MethodName := ⟨RX4, "rounded", "(JIII)J"⟩
def dkwX4_rounded_3 : List UInt8 := [21, 4, 133, 31, 29, 133, 21, 4, 133, 105, 21, 5, 184, 0, 212, 105, 173]
abbrev dktX4_rounded_3 : List UInt8 := dkwX4_rounded_3 ++ []
def dkwX4_rounded_2 : List UInt8 := [153, 0, 7, 4, 167, 0, 4, 3, 54, 6, 42, 21, 6, 182, 1, 27, 153, 0, 7, 9, 167, 0, 19]
abbrev dktX4_rounded_2 : List UInt8 := dkwX4_rounded_2 ++ dktX4_rounded_3
def dkwX4_rounded_1 : List UInt8 := [20, 1, 117, 148, 155, 0, 25, 31, 20, 1, 119, 148, 157, 0, 17, 21, 5, 3, 8, 184, 0, 159]
abbrev dktX4_rounded_1 : List UInt8 := dkwX4_rounded_1 ++ dktX4_rounded_2
def dkwX4_rounded_0 : List UInt8 := [29, 4, 18, 171, 184, 0, 159, 153, 0, 44, 21, 4, 4, 18, 171, 184, 0, 159, 153, 0, 33, 31]
abbrev dktX4_rounded_0 : List UInt8 := dkwX4_rounded_0 ++ dktX4_rounded_1
theorem dksX4_rounded_0 : cX4_rounded.data.toList.drop 0 = dktX4_rounded_0 := by decide +kernel
theorem dksX4_rounded_1 : cX4_rounded.data.toList.drop 22 = dktX4_rounded_1 := dk_seg dksX4_rounded_0 22 rfl rfl
theorem dksX4_rounded_2 : cX4_rounded.data.toList.drop 44 = dktX4_rounded_2 := dk_seg dksX4_rounded_1 22 rfl rfl
theorem dksX4_rounded_3 : cX4_rounded.data.toList.drop 67 = dktX4_rounded_3 := dk_seg dksX4_rounded_2 23 rfl rfl
theorem dX4_rounded_0 : decode cX4_rounded 0 = .ok (.iload_n 3, 1) := dk_29 (dk_at dksX4_rounded_0 0 rfl rfl)
theorem dX4_rounded_1 : decode cX4_rounded 1 = .ok (.iconst 1, 1) := dk_4 (dk_at dksX4_rounded_0 1 rfl rfl)
theorem dX4_rounded_2 : decode cX4_rounded 2 = .ok (.ldc 171, 2) := dk_18 171 (dk_at dksX4_rounded_0 2 rfl rfl)
theorem dX4_rounded_4 : decode cX4_rounded 4 = .ok (.invokestatic 159, 3) := dk_184 0 159 (dk_at dksX4_rounded_0 4 rfl rfl)
theorem dX4_rounded_7 : decode cX4_rounded 7 = .ok (.ifCond .eq 44, 3) := dk_153 0 44 (dk_at dksX4_rounded_0 7 rfl rfl)
theorem dX4_rounded_10 : decode cX4_rounded 10 = .ok (.iload 4, 2) := dk_21 4 (dk_at dksX4_rounded_0 10 rfl rfl)
theorem dX4_rounded_12 : decode cX4_rounded 12 = .ok (.iconst 1, 1) := dk_4 (dk_at dksX4_rounded_0 12 rfl rfl)
theorem dX4_rounded_13 : decode cX4_rounded 13 = .ok (.ldc 171, 2) := dk_18 171 (dk_at dksX4_rounded_0 13 rfl rfl)
theorem dX4_rounded_15 : decode cX4_rounded 15 = .ok (.invokestatic 159, 3) := dk_184 0 159 (dk_at dksX4_rounded_0 15 rfl rfl)
theorem dX4_rounded_18 : decode cX4_rounded 18 = .ok (.ifCond .eq 33, 3) := dk_153 0 33 (dk_at dksX4_rounded_0 18 rfl rfl)
theorem dX4_rounded_21 : decode cX4_rounded 21 = .ok (.lload_n 1, 1) := dk_31 (dk_at dksX4_rounded_0 21 rfl rfl)
theorem dX4_rounded_22 : decode cX4_rounded 22 = .ok (.ldc2_w 373, 3) := dk_20 1 117 (dk_at dksX4_rounded_1 0 rfl rfl)
theorem dX4_rounded_25 : decode cX4_rounded 25 = .ok (.lcmp, 1) := dk_148 (dk_at dksX4_rounded_1 3 rfl rfl)
theorem dX4_rounded_26 : decode cX4_rounded 26 = .ok (.ifCond .lt 25, 3) := dk_155 0 25 (dk_at dksX4_rounded_1 4 rfl rfl)
theorem dX4_rounded_29 : decode cX4_rounded 29 = .ok (.lload_n 1, 1) := dk_31 (dk_at dksX4_rounded_1 7 rfl rfl)
theorem dX4_rounded_30 : decode cX4_rounded 30 = .ok (.ldc2_w 375, 3) := dk_20 1 119 (dk_at dksX4_rounded_1 8 rfl rfl)
theorem dX4_rounded_33 : decode cX4_rounded 33 = .ok (.lcmp, 1) := dk_148 (dk_at dksX4_rounded_1 11 rfl rfl)
theorem dX4_rounded_34 : decode cX4_rounded 34 = .ok (.ifCond .gt 17, 3) := dk_157 0 17 (dk_at dksX4_rounded_1 12 rfl rfl)
theorem dX4_rounded_37 : decode cX4_rounded 37 = .ok (.iload 5, 2) := dk_21 5 (dk_at dksX4_rounded_1 15 rfl rfl)
theorem dX4_rounded_39 : decode cX4_rounded 39 = .ok (.iconst 0, 1) := dk_3 (dk_at dksX4_rounded_1 17 rfl rfl)
theorem dX4_rounded_40 : decode cX4_rounded 40 = .ok (.iconst 5, 1) := dk_8 (dk_at dksX4_rounded_1 18 rfl rfl)
theorem dX4_rounded_41 : decode cX4_rounded 41 = .ok (.invokestatic 159, 3) := dk_184 0 159 (dk_at dksX4_rounded_1 19 rfl rfl)
theorem dX4_rounded_44 : decode cX4_rounded 44 = .ok (.ifCond .eq 7, 3) := dk_153 0 7 (dk_at dksX4_rounded_2 0 rfl rfl)
theorem dX4_rounded_47 : decode cX4_rounded 47 = .ok (.iconst 1, 1) := dk_4 (dk_at dksX4_rounded_2 3 rfl rfl)
theorem dX4_rounded_48 : decode cX4_rounded 48 = .ok (.goto 4, 3) := dk_167 0 4 (dk_at dksX4_rounded_2 4 rfl rfl)
theorem dX4_rounded_51 : decode cX4_rounded 51 = .ok (.iconst 0, 1) := dk_3 (dk_at dksX4_rounded_2 7 rfl rfl)
theorem dX4_rounded_52 : decode cX4_rounded 52 = .ok (.istore 6, 2) := dk_54 6 (dk_at dksX4_rounded_2 8 rfl rfl)
theorem dX4_rounded_54 : decode cX4_rounded 54 = .ok (.aload_n 0, 1) := dk_42 (dk_at dksX4_rounded_2 10 rfl rfl)
theorem dX4_rounded_55 : decode cX4_rounded 55 = .ok (.iload 6, 2) := dk_21 6 (dk_at dksX4_rounded_2 11 rfl rfl)
theorem dX4_rounded_57 : decode cX4_rounded 57 = .ok (.invokevirtual 283, 3) := dk_182 1 27 (dk_at dksX4_rounded_2 13 rfl rfl)
theorem dX4_rounded_60 : decode cX4_rounded 60 = .ok (.ifCond .eq 7, 3) := dk_153 0 7 (dk_at dksX4_rounded_2 16 rfl rfl)
theorem dX4_rounded_63 : decode cX4_rounded 63 = .ok (.lconst 0, 1) := dk_9 (dk_at dksX4_rounded_2 19 rfl rfl)
theorem dX4_rounded_64 : decode cX4_rounded 64 = .ok (.goto 19, 3) := dk_167 0 19 (dk_at dksX4_rounded_2 20 rfl rfl)
theorem dX4_rounded_67 : decode cX4_rounded 67 = .ok (.iload 4, 2) := dk_21 4 (dk_at dksX4_rounded_3 0 rfl rfl)
theorem dX4_rounded_69 : decode cX4_rounded 69 = .ok (.i2l, 1) := dk_133 (dk_at dksX4_rounded_3 2 rfl rfl)
theorem dX4_rounded_70 : decode cX4_rounded 70 = .ok (.lload_n 1, 1) := dk_31 (dk_at dksX4_rounded_3 3 rfl rfl)
theorem dX4_rounded_71 : decode cX4_rounded 71 = .ok (.iload_n 3, 1) := dk_29 (dk_at dksX4_rounded_3 4 rfl rfl)
theorem dX4_rounded_72 : decode cX4_rounded 72 = .ok (.i2l, 1) := dk_133 (dk_at dksX4_rounded_3 5 rfl rfl)
theorem dX4_rounded_73 : decode cX4_rounded 73 = .ok (.iload 4, 2) := dk_21 4 (dk_at dksX4_rounded_3 6 rfl rfl)
theorem dX4_rounded_75 : decode cX4_rounded 75 = .ok (.i2l, 1) := dk_133 (dk_at dksX4_rounded_3 8 rfl rfl)
theorem dX4_rounded_76 : decode cX4_rounded 76 = .ok (.lmul, 1) := dk_105 (dk_at dksX4_rounded_3 9 rfl rfl)
theorem dX4_rounded_77 : decode cX4_rounded 77 = .ok (.iload 5, 2) := dk_21 5 (dk_at dksX4_rounded_3 10 rfl rfl)
theorem dX4_rounded_79 : decode cX4_rounded 79 = .ok (.invokestatic 212, 3) := dk_184 0 212 (dk_at dksX4_rounded_3 12 rfl rfl)
theorem dX4_rounded_82 : decode cX4_rounded 82 = .ok (.lmul, 1) := dk_105 (dk_at dksX4_rounded_3 15 rfl rfl)
theorem dX4_rounded_83 : decode cX4_rounded 83 = .ok (.lreturn, 1) := dk_173 (dk_at dksX4_rounded_3 16 rfl rfl)
abbrev cX4_tape : ByteArray := prog_23_method_75_code
def yX4_tape : MethodName := ⟨RX4, "tape", "(III)I"⟩
def dkwX4_tape_3 : List UInt8 := [132, 4, 1, 167, 255, 233, 29, 172]
abbrev dktX4_tape_3 : List UInt8 := dkwX4_tape_3 ++ []
def dkwX4_tape_2 : List UInt8 := [79, 3, 54, 4, 21, 4, 16, 64, 162, 0, 22, 42, 180, 0, 79, 16, 64, 27, 104, 21, 4, 96, 9, 80]
abbrev dktX4_tape_2 : List UInt8 := dkwX4_tape_2 ++ dktX4_tape_3
def dkwX4_tape_1 : List UInt8 := [29, 156, 0, 10, 42, 16, 242, 182, 1, 124, 172, 42, 180, 0, 73, 27, 28, 79, 42, 180, 0, 76, 27, 29]
abbrev dktX4_tape_1 : List UInt8 := dkwX4_tape_1 ++ dktX4_tape_2
def dkwX4_tape_0 : List UInt8 := [27, 184, 1, 121, 153, 0, 18, 28, 4, 7, 184, 0, 159, 153, 0, 9, 29, 16, 64, 164, 0, 5, 2, 172]
abbrev dktX4_tape_0 : List UInt8 := dkwX4_tape_0 ++ dktX4_tape_1
theorem dksX4_tape_0 : cX4_tape.data.toList.drop 0 = dktX4_tape_0 := by decide +kernel
theorem dksX4_tape_1 : cX4_tape.data.toList.drop 24 = dktX4_tape_1 := dk_seg dksX4_tape_0 24 rfl rfl
theorem dksX4_tape_2 : cX4_tape.data.toList.drop 48 = dktX4_tape_2 := dk_seg dksX4_tape_1 24 rfl rfl
theorem dksX4_tape_3 : cX4_tape.data.toList.drop 72 = dktX4_tape_3 := dk_seg dksX4_tape_2 24 rfl rfl
theorem dX4_tape_0 : decode cX4_tape 0 = .ok (.iload_n 1, 1) := dk_27 (dk_at dksX4_tape_0 0 rfl rfl)
theorem dX4_tape_1 : decode cX4_tape 1 = .ok (.invokestatic 377, 3) := dk_184 1 121 (dk_at dksX4_tape_0 1 rfl rfl)
theorem dX4_tape_4 : decode cX4_tape 4 = .ok (.ifCond .eq 18, 3) := dk_153 0 18 (dk_at dksX4_tape_0 4 rfl rfl)
theorem dX4_tape_7 : decode cX4_tape 7 = .ok (.iload_n 2, 1) := dk_28 (dk_at dksX4_tape_0 7 rfl rfl)
theorem dX4_tape_8 : decode cX4_tape 8 = .ok (.iconst 1, 1) := dk_4 (dk_at dksX4_tape_0 8 rfl rfl)
theorem dX4_tape_9 : decode cX4_tape 9 = .ok (.iconst 4, 1) := dk_7 (dk_at dksX4_tape_0 9 rfl rfl)
theorem dX4_tape_10 : decode cX4_tape 10 = .ok (.invokestatic 159, 3) := dk_184 0 159 (dk_at dksX4_tape_0 10 rfl rfl)
theorem dX4_tape_13 : decode cX4_tape 13 = .ok (.ifCond .eq 9, 3) := dk_153 0 9 (dk_at dksX4_tape_0 13 rfl rfl)
theorem dX4_tape_16 : decode cX4_tape 16 = .ok (.iload_n 3, 1) := dk_29 (dk_at dksX4_tape_0 16 rfl rfl)
theorem dX4_tape_17 : decode cX4_tape 17 = .ok (.bipush 64, 2) := dk_16 64 (dk_at dksX4_tape_0 17 rfl rfl)
theorem dX4_tape_19 : decode cX4_tape 19 = .ok (.if_icmp .le 5, 3) := dk_164 0 5 (dk_at dksX4_tape_0 19 rfl rfl)
theorem dX4_tape_22 : decode cX4_tape 22 = .ok (.iconst (-1), 1) := dk_2 (dk_at dksX4_tape_0 22 rfl rfl)
theorem dX4_tape_23 : decode cX4_tape 23 = .ok (.ireturn, 1) := dk_172 (dk_at dksX4_tape_0 23 rfl rfl)
theorem dX4_tape_24 : decode cX4_tape 24 = .ok (.iload_n 3, 1) := dk_29 (dk_at dksX4_tape_1 0 rfl rfl)
theorem dX4_tape_25 : decode cX4_tape 25 = .ok (.ifCond .ge 10, 3) := dk_156 0 10 (dk_at dksX4_tape_1 1 rfl rfl)
theorem dX4_tape_28 : decode cX4_tape 28 = .ok (.aload_n 0, 1) := dk_42 (dk_at dksX4_tape_1 4 rfl rfl)
theorem dX4_tape_29 : decode cX4_tape 29 = .ok (.bipush (-14), 2) := dk_16 242 (dk_at dksX4_tape_1 5 rfl rfl)
theorem dX4_tape_31 : decode cX4_tape 31 = .ok (.invokevirtual 380, 3) := dk_182 1 124 (dk_at dksX4_tape_1 7 rfl rfl)
theorem dX4_tape_34 : decode cX4_tape 34 = .ok (.ireturn, 1) := dk_172 (dk_at dksX4_tape_1 10 rfl rfl)
theorem dX4_tape_35 : decode cX4_tape 35 = .ok (.aload_n 0, 1) := dk_42 (dk_at dksX4_tape_1 11 rfl rfl)
theorem dX4_tape_36 : decode cX4_tape 36 = .ok (.getfield 73, 3) := dk_180 0 73 (dk_at dksX4_tape_1 12 rfl rfl)
theorem dX4_tape_39 : decode cX4_tape 39 = .ok (.iload_n 1, 1) := dk_27 (dk_at dksX4_tape_1 15 rfl rfl)
theorem dX4_tape_40 : decode cX4_tape 40 = .ok (.iload_n 2, 1) := dk_28 (dk_at dksX4_tape_1 16 rfl rfl)
theorem dX4_tape_41 : decode cX4_tape 41 = .ok (.iastore, 1) := dk_79 (dk_at dksX4_tape_1 17 rfl rfl)
theorem dX4_tape_42 : decode cX4_tape 42 = .ok (.aload_n 0, 1) := dk_42 (dk_at dksX4_tape_1 18 rfl rfl)
theorem dX4_tape_43 : decode cX4_tape 43 = .ok (.getfield 76, 3) := dk_180 0 76 (dk_at dksX4_tape_1 19 rfl rfl)
theorem dX4_tape_46 : decode cX4_tape 46 = .ok (.iload_n 1, 1) := dk_27 (dk_at dksX4_tape_1 22 rfl rfl)
theorem dX4_tape_47 : decode cX4_tape 47 = .ok (.iload_n 3, 1) := dk_29 (dk_at dksX4_tape_1 23 rfl rfl)
theorem dX4_tape_48 : decode cX4_tape 48 = .ok (.iastore, 1) := dk_79 (dk_at dksX4_tape_2 0 rfl rfl)
theorem dX4_tape_49 : decode cX4_tape 49 = .ok (.iconst 0, 1) := dk_3 (dk_at dksX4_tape_2 1 rfl rfl)
theorem dX4_tape_50 : decode cX4_tape 50 = .ok (.istore 4, 2) := dk_54 4 (dk_at dksX4_tape_2 2 rfl rfl)
theorem dX4_tape_52 : decode cX4_tape 52 = .ok (.iload 4, 2) := dk_21 4 (dk_at dksX4_tape_2 4 rfl rfl)
theorem dX4_tape_54 : decode cX4_tape 54 = .ok (.bipush 64, 2) := dk_16 64 (dk_at dksX4_tape_2 6 rfl rfl)
theorem dX4_tape_56 : decode cX4_tape 56 = .ok (.if_icmp .ge 22, 3) := dk_162 0 22 (dk_at dksX4_tape_2 8 rfl rfl)
theorem dX4_tape_59 : decode cX4_tape 59 = .ok (.aload_n 0, 1) := dk_42 (dk_at dksX4_tape_2 11 rfl rfl)
theorem dX4_tape_60 : decode cX4_tape 60 = .ok (.getfield 79, 3) := dk_180 0 79 (dk_at dksX4_tape_2 12 rfl rfl)
theorem dX4_tape_63 : decode cX4_tape 63 = .ok (.bipush 64, 2) := dk_16 64 (dk_at dksX4_tape_2 15 rfl rfl)
theorem dX4_tape_65 : decode cX4_tape 65 = .ok (.iload_n 1, 1) := dk_27 (dk_at dksX4_tape_2 17 rfl rfl)
theorem dX4_tape_66 : decode cX4_tape 66 = .ok (.imul, 1) := dk_104 (dk_at dksX4_tape_2 18 rfl rfl)
theorem dX4_tape_67 : decode cX4_tape 67 = .ok (.iload 4, 2) := dk_21 4 (dk_at dksX4_tape_2 19 rfl rfl)
theorem dX4_tape_69 : decode cX4_tape 69 = .ok (.iadd, 1) := dk_96 (dk_at dksX4_tape_2 21 rfl rfl)
theorem dX4_tape_70 : decode cX4_tape 70 = .ok (.lconst 0, 1) := dk_9 (dk_at dksX4_tape_2 22 rfl rfl)
theorem dX4_tape_71 : decode cX4_tape 71 = .ok (.lastore, 1) := dk_80 (dk_at dksX4_tape_2 23 rfl rfl)
theorem dX4_tape_72 : decode cX4_tape 72 = .ok (.iinc 4 1, 3) := dk_132 4 1 (dk_at dksX4_tape_3 0 rfl rfl)
theorem dX4_tape_75 : decode cX4_tape 75 = .ok (.goto (-23), 3) := dk_167 255 233 (dk_at dksX4_tape_3 3 rfl rfl)
theorem dX4_tape_78 : decode cX4_tape 78 = .ok (.iload_n 3, 1) := dk_29 (dk_at dksX4_tape_3 6 rfl rfl)
theorem dX4_tape_79 : decode cX4_tape 79 = .ok (.ireturn, 1) := dk_172 (dk_at dksX4_tape_3 7 rfl rfl)
abbrev cX4_isTape : ByteArray := prog_23_method_74_code
def yX4_isTape : MethodName := ⟨RX4, "isTape", "(I)Z"⟩
def dkwX4_isTape_0 : List UInt8 := [26, 3, 8, 184, 0, 159, 172]
abbrev dktX4_isTape_0 : List UInt8 := dkwX4_isTape_0 ++ []
theorem dksX4_isTape_0 : cX4_isTape.data.toList.drop 0 = dktX4_isTape_0 := by decide +kernel
theorem dX4_isTape_0 : decode cX4_isTape 0 = .ok (.iload_n 0, 1) := dk_26 (dk_at dksX4_isTape_0 0 rfl rfl)
theorem dX4_isTape_1 : decode cX4_isTape 1 = .ok (.iconst 0, 1) := dk_3 (dk_at dksX4_isTape_0 1 rfl rfl)
theorem dX4_isTape_2 : decode cX4_isTape 2 = .ok (.iconst 5, 1) := dk_8 (dk_at dksX4_isTape_0 2 rfl rfl)
theorem dX4_isTape_3 : decode cX4_isTape 3 = .ok (.invokestatic 159, 3) := dk_184 0 159 (dk_at dksX4_isTape_0 3 rfl rfl)
theorem dX4_isTape_6 : decode cX4_isTape 6 = .ok (.ireturn, 1) := dk_172 (dk_at dksX4_isTape_0 6 rfl rfl)
abbrev cX4_refuse : ByteArray := prog_23_method_4_code
def yX4_refuse : MethodName := ⟨RX4, "refuse", "(I)I"⟩
def dkwX4_refuse_0 : List UInt8 := [42, 89, 180, 0, 134, 4, 96, 181, 0, 134, 27, 172]
abbrev dktX4_refuse_0 : List UInt8 := dkwX4_refuse_0 ++ []
theorem dksX4_refuse_0 : cX4_refuse.data.toList.drop 0 = dktX4_refuse_0 := by decide +kernel
theorem dX4_refuse_0 : decode cX4_refuse 0 = .ok (.aload_n 0, 1) := dk_42 (dk_at dksX4_refuse_0 0 rfl rfl)
theorem dX4_refuse_1 : decode cX4_refuse 1 = .ok (.dup, 1) := dk_89 (dk_at dksX4_refuse_0 1 rfl rfl)
theorem dX4_refuse_2 : decode cX4_refuse 2 = .ok (.getfield 134, 3) := dk_180 0 134 (dk_at dksX4_refuse_0 2 rfl rfl)
theorem dX4_refuse_5 : decode cX4_refuse 5 = .ok (.iconst 1, 1) := dk_4 (dk_at dksX4_refuse_0 5 rfl rfl)
theorem dX4_refuse_6 : decode cX4_refuse 6 = .ok (.iadd, 1) := dk_96 (dk_at dksX4_refuse_0 6 rfl rfl)
theorem dX4_refuse_7 : decode cX4_refuse 7 = .ok (.putfield 134, 3) := dk_181 0 134 (dk_at dksX4_refuse_0 7 rfl rfl)
theorem dX4_refuse_10 : decode cX4_refuse 10 = .ok (.iload_n 1, 1) := dk_27 (dk_at dksX4_refuse_0 10 rfl rfl)
theorem dX4_refuse_11 : decode cX4_refuse 11 = .ok (.ireturn, 1) := dk_172 (dk_at dksX4_refuse_0 11 rfl rfl)
abbrev cX4_image : ByteArray := prog_23_method_76_code
def yX4_image : MethodName := ⟨RX4, "image", "(I)I"⟩
def dkwX4_image_5 : List UInt8 := [180, 0, 140, 172]
abbrev dktX4_image_5 : List UInt8 := dkwX4_image_5 ++ []
def dkwX4_image_4 : List UInt8 := [42, 180, 0, 94, 7, 27, 104, 28, 96, 42, 180, 0, 66, 28, 47, 80, 132, 2, 1, 167, 255, 213, 42]
abbrev dktX4_image_4 : List UInt8 := dkwX4_image_4 ++ dktX4_image_5
def dkwX4_image_3 : List UInt8 := [28, 42, 180, 0, 140, 162, 0, 41, 42, 180, 0, 91, 7, 27, 104, 28, 96, 42, 180, 0, 63, 28, 47, 80]
abbrev dktX4_image_3 : List UInt8 := dkwX4_image_3 ++ dktX4_image_4
def dkwX4_image_2 : List UInt8 := [180, 0, 88, 16, 8, 27, 104, 28, 96, 42, 180, 0, 60, 28, 47, 80, 132, 2, 1, 167, 255, 230, 3, 61]
abbrev dktX4_image_2 : List UInt8 := dkwX4_image_2 ++ dktX4_image_3
def dkwX4_image_1 : List UInt8 := [180, 0, 140, 79, 42, 180, 0, 85, 27, 42, 180, 0, 143, 79, 3, 61, 28, 16, 8, 162, 0, 26, 42]
abbrev dktX4_image_1 : List UInt8 := dkwX4_image_1 ++ dktX4_image_2
def dkwX4_image_0 : List UInt8 := [27, 184, 1, 121, 154, 0, 5, 2, 172, 42, 180, 0, 73, 27, 8, 79, 42, 180, 0, 82, 27, 42]
abbrev dktX4_image_0 : List UInt8 := dkwX4_image_0 ++ dktX4_image_1
theorem dksX4_image_0 : cX4_image.data.toList.drop 0 = dktX4_image_0 := by decide +kernel
theorem dksX4_image_1 : cX4_image.data.toList.drop 22 = dktX4_image_1 := dk_seg dksX4_image_0 22 rfl rfl
theorem dksX4_image_2 : cX4_image.data.toList.drop 45 = dktX4_image_2 := dk_seg dksX4_image_1 23 rfl rfl
theorem dksX4_image_3 : cX4_image.data.toList.drop 69 = dktX4_image_3 := dk_seg dksX4_image_2 24 rfl rfl
theorem dksX4_image_4 : cX4_image.data.toList.drop 93 = dktX4_image_4 := dk_seg dksX4_image_3 24 rfl rfl
theorem dksX4_image_5 : cX4_image.data.toList.drop 116 = dktX4_image_5 := dk_seg dksX4_image_4 23 rfl rfl
theorem dX4_image_0 : decode cX4_image 0 = .ok (.iload_n 1, 1) := dk_27 (dk_at dksX4_image_0 0 rfl rfl)
theorem dX4_image_1 : decode cX4_image 1 = .ok (.invokestatic 377, 3) := dk_184 1 121 (dk_at dksX4_image_0 1 rfl rfl)
theorem dX4_image_4 : decode cX4_image 4 = .ok (.ifCond .ne 5, 3) := dk_154 0 5 (dk_at dksX4_image_0 4 rfl rfl)
theorem dX4_image_7 : decode cX4_image 7 = .ok (.iconst (-1), 1) := dk_2 (dk_at dksX4_image_0 7 rfl rfl)
theorem dX4_image_8 : decode cX4_image 8 = .ok (.ireturn, 1) := dk_172 (dk_at dksX4_image_0 8 rfl rfl)
theorem dX4_image_9 : decode cX4_image 9 = .ok (.aload_n 0, 1) := dk_42 (dk_at dksX4_image_0 9 rfl rfl)
theorem dX4_image_10 : decode cX4_image 10 = .ok (.getfield 73, 3) := dk_180 0 73 (dk_at dksX4_image_0 10 rfl rfl)
theorem dX4_image_13 : decode cX4_image 13 = .ok (.iload_n 1, 1) := dk_27 (dk_at dksX4_image_0 13 rfl rfl)
theorem dX4_image_14 : decode cX4_image 14 = .ok (.iconst 5, 1) := dk_8 (dk_at dksX4_image_0 14 rfl rfl)
theorem dX4_image_15 : decode cX4_image 15 = .ok (.iastore, 1) := dk_79 (dk_at dksX4_image_0 15 rfl rfl)
theorem dX4_image_16 : decode cX4_image 16 = .ok (.aload_n 0, 1) := dk_42 (dk_at dksX4_image_0 16 rfl rfl)
theorem dX4_image_17 : decode cX4_image 17 = .ok (.getfield 82, 3) := dk_180 0 82 (dk_at dksX4_image_0 17 rfl rfl)
theorem dX4_image_20 : decode cX4_image 20 = .ok (.iload_n 1, 1) := dk_27 (dk_at dksX4_image_0 20 rfl rfl)
theorem dX4_image_21 : decode cX4_image 21 = .ok (.aload_n 0, 1) := dk_42 (dk_at dksX4_image_0 21 rfl rfl)
theorem dX4_image_22 : decode cX4_image 22 = .ok (.getfield 140, 3) := dk_180 0 140 (dk_at dksX4_image_1 0 rfl rfl)
theorem dX4_image_25 : decode cX4_image 25 = .ok (.iastore, 1) := dk_79 (dk_at dksX4_image_1 3 rfl rfl)
theorem dX4_image_26 : decode cX4_image 26 = .ok (.aload_n 0, 1) := dk_42 (dk_at dksX4_image_1 4 rfl rfl)
theorem dX4_image_27 : decode cX4_image 27 = .ok (.getfield 85, 3) := dk_180 0 85 (dk_at dksX4_image_1 5 rfl rfl)
theorem dX4_image_30 : decode cX4_image 30 = .ok (.iload_n 1, 1) := dk_27 (dk_at dksX4_image_1 8 rfl rfl)
theorem dX4_image_31 : decode cX4_image 31 = .ok (.aload_n 0, 1) := dk_42 (dk_at dksX4_image_1 9 rfl rfl)
theorem dX4_image_32 : decode cX4_image 32 = .ok (.getfield 143, 3) := dk_180 0 143 (dk_at dksX4_image_1 10 rfl rfl)
theorem dX4_image_35 : decode cX4_image 35 = .ok (.iastore, 1) := dk_79 (dk_at dksX4_image_1 13 rfl rfl)
theorem dX4_image_36 : decode cX4_image 36 = .ok (.iconst 0, 1) := dk_3 (dk_at dksX4_image_1 14 rfl rfl)
theorem dX4_image_37 : decode cX4_image 37 = .ok (.istore_n 2, 1) := dk_61 (dk_at dksX4_image_1 15 rfl rfl)
theorem dX4_image_38 : decode cX4_image 38 = .ok (.iload_n 2, 1) := dk_28 (dk_at dksX4_image_1 16 rfl rfl)
theorem dX4_image_39 : decode cX4_image 39 = .ok (.bipush 8, 2) := dk_16 8 (dk_at dksX4_image_1 17 rfl rfl)
theorem dX4_image_41 : decode cX4_image 41 = .ok (.if_icmp .ge 26, 3) := dk_162 0 26 (dk_at dksX4_image_1 19 rfl rfl)
theorem dX4_image_44 : decode cX4_image 44 = .ok (.aload_n 0, 1) := dk_42 (dk_at dksX4_image_1 22 rfl rfl)
theorem dX4_image_45 : decode cX4_image 45 = .ok (.getfield 88, 3) := dk_180 0 88 (dk_at dksX4_image_2 0 rfl rfl)
theorem dX4_image_48 : decode cX4_image 48 = .ok (.bipush 8, 2) := dk_16 8 (dk_at dksX4_image_2 3 rfl rfl)
theorem dX4_image_50 : decode cX4_image 50 = .ok (.iload_n 1, 1) := dk_27 (dk_at dksX4_image_2 5 rfl rfl)
theorem dX4_image_51 : decode cX4_image 51 = .ok (.imul, 1) := dk_104 (dk_at dksX4_image_2 6 rfl rfl)
theorem dX4_image_52 : decode cX4_image 52 = .ok (.iload_n 2, 1) := dk_28 (dk_at dksX4_image_2 7 rfl rfl)
theorem dX4_image_53 : decode cX4_image 53 = .ok (.iadd, 1) := dk_96 (dk_at dksX4_image_2 8 rfl rfl)
theorem dX4_image_54 : decode cX4_image 54 = .ok (.aload_n 0, 1) := dk_42 (dk_at dksX4_image_2 9 rfl rfl)
theorem dX4_image_55 : decode cX4_image 55 = .ok (.getfield 60, 3) := dk_180 0 60 (dk_at dksX4_image_2 10 rfl rfl)
theorem dX4_image_58 : decode cX4_image 58 = .ok (.iload_n 2, 1) := dk_28 (dk_at dksX4_image_2 13 rfl rfl)
theorem dX4_image_59 : decode cX4_image 59 = .ok (.laload, 1) := dk_47 (dk_at dksX4_image_2 14 rfl rfl)
theorem dX4_image_60 : decode cX4_image 60 = .ok (.lastore, 1) := dk_80 (dk_at dksX4_image_2 15 rfl rfl)
theorem dX4_image_61 : decode cX4_image 61 = .ok (.iinc 2 1, 3) := dk_132 2 1 (dk_at dksX4_image_2 16 rfl rfl)
theorem dX4_image_64 : decode cX4_image 64 = .ok (.goto (-26), 3) := dk_167 255 230 (dk_at dksX4_image_2 19 rfl rfl)
theorem dX4_image_67 : decode cX4_image 67 = .ok (.iconst 0, 1) := dk_3 (dk_at dksX4_image_2 22 rfl rfl)
theorem dX4_image_68 : decode cX4_image 68 = .ok (.istore_n 2, 1) := dk_61 (dk_at dksX4_image_2 23 rfl rfl)
theorem dX4_image_69 : decode cX4_image 69 = .ok (.iload_n 2, 1) := dk_28 (dk_at dksX4_image_3 0 rfl rfl)
theorem dX4_image_70 : decode cX4_image 70 = .ok (.aload_n 0, 1) := dk_42 (dk_at dksX4_image_3 1 rfl rfl)
theorem dX4_image_71 : decode cX4_image 71 = .ok (.getfield 140, 3) := dk_180 0 140 (dk_at dksX4_image_3 2 rfl rfl)
theorem dX4_image_74 : decode cX4_image 74 = .ok (.if_icmp .ge 41, 3) := dk_162 0 41 (dk_at dksX4_image_3 5 rfl rfl)
theorem dX4_image_77 : decode cX4_image 77 = .ok (.aload_n 0, 1) := dk_42 (dk_at dksX4_image_3 8 rfl rfl)
theorem dX4_image_78 : decode cX4_image 78 = .ok (.getfield 91, 3) := dk_180 0 91 (dk_at dksX4_image_3 9 rfl rfl)
theorem dX4_image_81 : decode cX4_image 81 = .ok (.iconst 4, 1) := dk_7 (dk_at dksX4_image_3 12 rfl rfl)
theorem dX4_image_82 : decode cX4_image 82 = .ok (.iload_n 1, 1) := dk_27 (dk_at dksX4_image_3 13 rfl rfl)
theorem dX4_image_83 : decode cX4_image 83 = .ok (.imul, 1) := dk_104 (dk_at dksX4_image_3 14 rfl rfl)
theorem dX4_image_84 : decode cX4_image 84 = .ok (.iload_n 2, 1) := dk_28 (dk_at dksX4_image_3 15 rfl rfl)
theorem dX4_image_85 : decode cX4_image 85 = .ok (.iadd, 1) := dk_96 (dk_at dksX4_image_3 16 rfl rfl)
theorem dX4_image_86 : decode cX4_image 86 = .ok (.aload_n 0, 1) := dk_42 (dk_at dksX4_image_3 17 rfl rfl)
theorem dX4_image_87 : decode cX4_image 87 = .ok (.getfield 63, 3) := dk_180 0 63 (dk_at dksX4_image_3 18 rfl rfl)
theorem dX4_image_90 : decode cX4_image 90 = .ok (.iload_n 2, 1) := dk_28 (dk_at dksX4_image_3 21 rfl rfl)
theorem dX4_image_91 : decode cX4_image 91 = .ok (.laload, 1) := dk_47 (dk_at dksX4_image_3 22 rfl rfl)
theorem dX4_image_92 : decode cX4_image 92 = .ok (.lastore, 1) := dk_80 (dk_at dksX4_image_3 23 rfl rfl)
theorem dX4_image_93 : decode cX4_image 93 = .ok (.aload_n 0, 1) := dk_42 (dk_at dksX4_image_4 0 rfl rfl)
theorem dX4_image_94 : decode cX4_image 94 = .ok (.getfield 94, 3) := dk_180 0 94 (dk_at dksX4_image_4 1 rfl rfl)
theorem dX4_image_97 : decode cX4_image 97 = .ok (.iconst 4, 1) := dk_7 (dk_at dksX4_image_4 4 rfl rfl)
theorem dX4_image_98 : decode cX4_image 98 = .ok (.iload_n 1, 1) := dk_27 (dk_at dksX4_image_4 5 rfl rfl)
theorem dX4_image_99 : decode cX4_image 99 = .ok (.imul, 1) := dk_104 (dk_at dksX4_image_4 6 rfl rfl)
theorem dX4_image_100 : decode cX4_image 100 = .ok (.iload_n 2, 1) := dk_28 (dk_at dksX4_image_4 7 rfl rfl)
theorem dX4_image_101 : decode cX4_image 101 = .ok (.iadd, 1) := dk_96 (dk_at dksX4_image_4 8 rfl rfl)
theorem dX4_image_102 : decode cX4_image 102 = .ok (.aload_n 0, 1) := dk_42 (dk_at dksX4_image_4 9 rfl rfl)
theorem dX4_image_103 : decode cX4_image 103 = .ok (.getfield 66, 3) := dk_180 0 66 (dk_at dksX4_image_4 10 rfl rfl)
theorem dX4_image_106 : decode cX4_image 106 = .ok (.iload_n 2, 1) := dk_28 (dk_at dksX4_image_4 13 rfl rfl)
theorem dX4_image_107 : decode cX4_image 107 = .ok (.laload, 1) := dk_47 (dk_at dksX4_image_4 14 rfl rfl)
theorem dX4_image_108 : decode cX4_image 108 = .ok (.lastore, 1) := dk_80 (dk_at dksX4_image_4 15 rfl rfl)
theorem dX4_image_109 : decode cX4_image 109 = .ok (.iinc 2 1, 3) := dk_132 2 1 (dk_at dksX4_image_4 16 rfl rfl)
theorem dX4_image_112 : decode cX4_image 112 = .ok (.goto (-43), 3) := dk_167 255 213 (dk_at dksX4_image_4 19 rfl rfl)
theorem dX4_image_115 : decode cX4_image 115 = .ok (.aload_n 0, 1) := dk_42 (dk_at dksX4_image_4 22 rfl rfl)
theorem dX4_image_116 : decode cX4_image 116 = .ok (.getfield 140, 3) := dk_180 0 140 (dk_at dksX4_image_5 0 rfl rfl)
theorem dX4_image_119 : decode cX4_image 119 = .ok (.ireturn, 1) := dk_172 (dk_at dksX4_image_5 3 rfl rfl)
abbrev cX4_back : ByteArray := prog_23_method_78_code
def yX4_back : MethodName := ⟨RX4, "back", "(I)I"⟩
def dkwX4_back_6 : List UInt8 := [132, 3, 1, 167, 255, 185, 42, 180, 0, 143, 172]
abbrev dktX4_back_6 : List UInt8 := dkwX4_back_6 ++ []
def dkwX4_back_5 : List UInt8 := [180, 0, 82, 27, 46, 162, 0, 16, 42, 180, 0, 94, 7, 27, 104, 29, 96, 47, 167, 0, 4, 10, 80]
abbrev dktX4_back_5 : List UInt8 := dkwX4_back_5 ++ dktX4_back_6
def dkwX4_back_4 : List UInt8 := [42, 180, 0, 91, 7, 27, 104, 29, 96, 47, 167, 0, 4, 9, 80, 42, 180, 0, 66, 29, 29, 42]
abbrev dktX4_back_4 : List UInt8 := dkwX4_back_4 ++ dktX4_back_5
def dkwX4_back_3 : List UInt8 := [62, 29, 42, 180, 0, 140, 162, 0, 69, 42, 180, 0, 63, 29, 29, 42, 180, 0, 82, 27, 46, 162, 0, 16]
abbrev dktX4_back_3 : List UInt8 := dkwX4_back_3 ++ dktX4_back_4
def dkwX4_back_2 : List UInt8 := [42, 180, 0, 60, 29, 42, 180, 0, 88, 16, 8, 27, 104, 29, 96, 47, 80, 132, 3, 1, 167, 255, 230, 3]
abbrev dktX4_back_2 : List UInt8 := dkwX4_back_2 ++ dktX4_back_3
def dkwX4_back_1 : List UInt8 := [164, 0, 6, 16, 253, 172, 42, 42, 180, 0, 85, 27, 46, 181, 0, 143, 3, 62, 29, 16, 8, 162, 0, 26]
abbrev dktX4_back_1 : List UInt8 := dkwX4_back_1 ++ dktX4_back_2
def dkwX4_back_0 : List UInt8 := [42, 27, 182, 1, 127, 61, 28, 153, 0, 5, 28, 172, 42, 180, 0, 82, 27, 46, 42, 180, 0, 140]
abbrev dktX4_back_0 : List UInt8 := dkwX4_back_0 ++ dktX4_back_1
theorem dksX4_back_0 : cX4_back.data.toList.drop 0 = dktX4_back_0 := by decide +kernel
theorem dksX4_back_1 : cX4_back.data.toList.drop 22 = dktX4_back_1 := dk_seg dksX4_back_0 22 rfl rfl
theorem dksX4_back_2 : cX4_back.data.toList.drop 46 = dktX4_back_2 := dk_seg dksX4_back_1 24 rfl rfl
theorem dksX4_back_3 : cX4_back.data.toList.drop 70 = dktX4_back_3 := dk_seg dksX4_back_2 24 rfl rfl
theorem dksX4_back_4 : cX4_back.data.toList.drop 94 = dktX4_back_4 := dk_seg dksX4_back_3 24 rfl rfl
theorem dksX4_back_5 : cX4_back.data.toList.drop 116 = dktX4_back_5 := dk_seg dksX4_back_4 22 rfl rfl
theorem dksX4_back_6 : cX4_back.data.toList.drop 139 = dktX4_back_6 := dk_seg dksX4_back_5 23 rfl rfl
theorem dX4_back_0 : decode cX4_back 0 = .ok (.aload_n 0, 1) := dk_42 (dk_at dksX4_back_0 0 rfl rfl)
theorem dX4_back_1 : decode cX4_back 1 = .ok (.iload_n 1, 1) := dk_27 (dk_at dksX4_back_0 1 rfl rfl)
theorem dX4_back_2 : decode cX4_back 2 = .ok (.invokevirtual 383, 3) := dk_182 1 127 (dk_at dksX4_back_0 2 rfl rfl)
theorem dX4_back_5 : decode cX4_back 5 = .ok (.istore_n 2, 1) := dk_61 (dk_at dksX4_back_0 5 rfl rfl)
theorem dX4_back_6 : decode cX4_back 6 = .ok (.iload_n 2, 1) := dk_28 (dk_at dksX4_back_0 6 rfl rfl)
theorem dX4_back_7 : decode cX4_back 7 = .ok (.ifCond .eq 5, 3) := dk_153 0 5 (dk_at dksX4_back_0 7 rfl rfl)
theorem dX4_back_10 : decode cX4_back 10 = .ok (.iload_n 2, 1) := dk_28 (dk_at dksX4_back_0 10 rfl rfl)
theorem dX4_back_11 : decode cX4_back 11 = .ok (.ireturn, 1) := dk_172 (dk_at dksX4_back_0 11 rfl rfl)
theorem dX4_back_12 : decode cX4_back 12 = .ok (.aload_n 0, 1) := dk_42 (dk_at dksX4_back_0 12 rfl rfl)
theorem dX4_back_13 : decode cX4_back 13 = .ok (.getfield 82, 3) := dk_180 0 82 (dk_at dksX4_back_0 13 rfl rfl)
theorem dX4_back_16 : decode cX4_back 16 = .ok (.iload_n 1, 1) := dk_27 (dk_at dksX4_back_0 16 rfl rfl)
theorem dX4_back_17 : decode cX4_back 17 = .ok (.iaload, 1) := dk_46 (dk_at dksX4_back_0 17 rfl rfl)
theorem dX4_back_18 : decode cX4_back 18 = .ok (.aload_n 0, 1) := dk_42 (dk_at dksX4_back_0 18 rfl rfl)
theorem dX4_back_19 : decode cX4_back 19 = .ok (.getfield 140, 3) := dk_180 0 140 (dk_at dksX4_back_0 19 rfl rfl)
theorem dX4_back_22 : decode cX4_back 22 = .ok (.if_icmp .le 6, 3) := dk_164 0 6 (dk_at dksX4_back_1 0 rfl rfl)
theorem dX4_back_25 : decode cX4_back 25 = .ok (.bipush (-3), 2) := dk_16 253 (dk_at dksX4_back_1 3 rfl rfl)
theorem dX4_back_27 : decode cX4_back 27 = .ok (.ireturn, 1) := dk_172 (dk_at dksX4_back_1 5 rfl rfl)
theorem dX4_back_28 : decode cX4_back 28 = .ok (.aload_n 0, 1) := dk_42 (dk_at dksX4_back_1 6 rfl rfl)
theorem dX4_back_29 : decode cX4_back 29 = .ok (.aload_n 0, 1) := dk_42 (dk_at dksX4_back_1 7 rfl rfl)
theorem dX4_back_30 : decode cX4_back 30 = .ok (.getfield 85, 3) := dk_180 0 85 (dk_at dksX4_back_1 8 rfl rfl)
theorem dX4_back_33 : decode cX4_back 33 = .ok (.iload_n 1, 1) := dk_27 (dk_at dksX4_back_1 11 rfl rfl)
theorem dX4_back_34 : decode cX4_back 34 = .ok (.iaload, 1) := dk_46 (dk_at dksX4_back_1 12 rfl rfl)
theorem dX4_back_35 : decode cX4_back 35 = .ok (.putfield 143, 3) := dk_181 0 143 (dk_at dksX4_back_1 13 rfl rfl)
theorem dX4_back_38 : decode cX4_back 38 = .ok (.iconst 0, 1) := dk_3 (dk_at dksX4_back_1 16 rfl rfl)
theorem dX4_back_39 : decode cX4_back 39 = .ok (.istore_n 3, 1) := dk_62 (dk_at dksX4_back_1 17 rfl rfl)
theorem dX4_back_40 : decode cX4_back 40 = .ok (.iload_n 3, 1) := dk_29 (dk_at dksX4_back_1 18 rfl rfl)
theorem dX4_back_41 : decode cX4_back 41 = .ok (.bipush 8, 2) := dk_16 8 (dk_at dksX4_back_1 19 rfl rfl)
theorem dX4_back_43 : decode cX4_back 43 = .ok (.if_icmp .ge 26, 3) := dk_162 0 26 (dk_at dksX4_back_1 21 rfl rfl)
theorem dX4_back_46 : decode cX4_back 46 = .ok (.aload_n 0, 1) := dk_42 (dk_at dksX4_back_2 0 rfl rfl)
theorem dX4_back_47 : decode cX4_back 47 = .ok (.getfield 60, 3) := dk_180 0 60 (dk_at dksX4_back_2 1 rfl rfl)
theorem dX4_back_50 : decode cX4_back 50 = .ok (.iload_n 3, 1) := dk_29 (dk_at dksX4_back_2 4 rfl rfl)
theorem dX4_back_51 : decode cX4_back 51 = .ok (.aload_n 0, 1) := dk_42 (dk_at dksX4_back_2 5 rfl rfl)
theorem dX4_back_52 : decode cX4_back 52 = .ok (.getfield 88, 3) := dk_180 0 88 (dk_at dksX4_back_2 6 rfl rfl)
theorem dX4_back_55 : decode cX4_back 55 = .ok (.bipush 8, 2) := dk_16 8 (dk_at dksX4_back_2 9 rfl rfl)
theorem dX4_back_57 : decode cX4_back 57 = .ok (.iload_n 1, 1) := dk_27 (dk_at dksX4_back_2 11 rfl rfl)
theorem dX4_back_58 : decode cX4_back 58 = .ok (.imul, 1) := dk_104 (dk_at dksX4_back_2 12 rfl rfl)
theorem dX4_back_59 : decode cX4_back 59 = .ok (.iload_n 3, 1) := dk_29 (dk_at dksX4_back_2 13 rfl rfl)
theorem dX4_back_60 : decode cX4_back 60 = .ok (.iadd, 1) := dk_96 (dk_at dksX4_back_2 14 rfl rfl)
theorem dX4_back_61 : decode cX4_back 61 = .ok (.laload, 1) := dk_47 (dk_at dksX4_back_2 15 rfl rfl)
theorem dX4_back_62 : decode cX4_back 62 = .ok (.lastore, 1) := dk_80 (dk_at dksX4_back_2 16 rfl rfl)
theorem dX4_back_63 : decode cX4_back 63 = .ok (.iinc 3 1, 3) := dk_132 3 1 (dk_at dksX4_back_2 17 rfl rfl)
theorem dX4_back_66 : decode cX4_back 66 = .ok (.goto (-26), 3) := dk_167 255 230 (dk_at dksX4_back_2 20 rfl rfl)
theorem dX4_back_69 : decode cX4_back 69 = .ok (.iconst 0, 1) := dk_3 (dk_at dksX4_back_2 23 rfl rfl)
theorem dX4_back_70 : decode cX4_back 70 = .ok (.istore_n 3, 1) := dk_62 (dk_at dksX4_back_3 0 rfl rfl)
theorem dX4_back_71 : decode cX4_back 71 = .ok (.iload_n 3, 1) := dk_29 (dk_at dksX4_back_3 1 rfl rfl)
theorem dX4_back_72 : decode cX4_back 72 = .ok (.aload_n 0, 1) := dk_42 (dk_at dksX4_back_3 2 rfl rfl)
theorem dX4_back_73 : decode cX4_back 73 = .ok (.getfield 140, 3) := dk_180 0 140 (dk_at dksX4_back_3 3 rfl rfl)
theorem dX4_back_76 : decode cX4_back 76 = .ok (.if_icmp .ge 69, 3) := dk_162 0 69 (dk_at dksX4_back_3 6 rfl rfl)
theorem dX4_back_79 : decode cX4_back 79 = .ok (.aload_n 0, 1) := dk_42 (dk_at dksX4_back_3 9 rfl rfl)
theorem dX4_back_80 : decode cX4_back 80 = .ok (.getfield 63, 3) := dk_180 0 63 (dk_at dksX4_back_3 10 rfl rfl)
theorem dX4_back_83 : decode cX4_back 83 = .ok (.iload_n 3, 1) := dk_29 (dk_at dksX4_back_3 13 rfl rfl)
theorem dX4_back_84 : decode cX4_back 84 = .ok (.iload_n 3, 1) := dk_29 (dk_at dksX4_back_3 14 rfl rfl)
theorem dX4_back_85 : decode cX4_back 85 = .ok (.aload_n 0, 1) := dk_42 (dk_at dksX4_back_3 15 rfl rfl)
theorem dX4_back_86 : decode cX4_back 86 = .ok (.getfield 82, 3) := dk_180 0 82 (dk_at dksX4_back_3 16 rfl rfl)
theorem dX4_back_89 : decode cX4_back 89 = .ok (.iload_n 1, 1) := dk_27 (dk_at dksX4_back_3 19 rfl rfl)
theorem dX4_back_90 : decode cX4_back 90 = .ok (.iaload, 1) := dk_46 (dk_at dksX4_back_3 20 rfl rfl)
theorem dX4_back_91 : decode cX4_back 91 = .ok (.if_icmp .ge 16, 3) := dk_162 0 16 (dk_at dksX4_back_3 21 rfl rfl)
theorem dX4_back_94 : decode cX4_back 94 = .ok (.aload_n 0, 1) := dk_42 (dk_at dksX4_back_4 0 rfl rfl)
theorem dX4_back_95 : decode cX4_back 95 = .ok (.getfield 91, 3) := dk_180 0 91 (dk_at dksX4_back_4 1 rfl rfl)
theorem dX4_back_98 : decode cX4_back 98 = .ok (.iconst 4, 1) := dk_7 (dk_at dksX4_back_4 4 rfl rfl)
theorem dX4_back_99 : decode cX4_back 99 = .ok (.iload_n 1, 1) := dk_27 (dk_at dksX4_back_4 5 rfl rfl)
theorem dX4_back_100 : decode cX4_back 100 = .ok (.imul, 1) := dk_104 (dk_at dksX4_back_4 6 rfl rfl)
theorem dX4_back_101 : decode cX4_back 101 = .ok (.iload_n 3, 1) := dk_29 (dk_at dksX4_back_4 7 rfl rfl)
theorem dX4_back_102 : decode cX4_back 102 = .ok (.iadd, 1) := dk_96 (dk_at dksX4_back_4 8 rfl rfl)
theorem dX4_back_103 : decode cX4_back 103 = .ok (.laload, 1) := dk_47 (dk_at dksX4_back_4 9 rfl rfl)
theorem dX4_back_104 : decode cX4_back 104 = .ok (.goto 4, 3) := dk_167 0 4 (dk_at dksX4_back_4 10 rfl rfl)
theorem dX4_back_107 : decode cX4_back 107 = .ok (.lconst 0, 1) := dk_9 (dk_at dksX4_back_4 13 rfl rfl)
theorem dX4_back_108 : decode cX4_back 108 = .ok (.lastore, 1) := dk_80 (dk_at dksX4_back_4 14 rfl rfl)
theorem dX4_back_109 : decode cX4_back 109 = .ok (.aload_n 0, 1) := dk_42 (dk_at dksX4_back_4 15 rfl rfl)
theorem dX4_back_110 : decode cX4_back 110 = .ok (.getfield 66, 3) := dk_180 0 66 (dk_at dksX4_back_4 16 rfl rfl)
theorem dX4_back_113 : decode cX4_back 113 = .ok (.iload_n 3, 1) := dk_29 (dk_at dksX4_back_4 19 rfl rfl)
theorem dX4_back_114 : decode cX4_back 114 = .ok (.iload_n 3, 1) := dk_29 (dk_at dksX4_back_4 20 rfl rfl)
theorem dX4_back_115 : decode cX4_back 115 = .ok (.aload_n 0, 1) := dk_42 (dk_at dksX4_back_4 21 rfl rfl)
theorem dX4_back_116 : decode cX4_back 116 = .ok (.getfield 82, 3) := dk_180 0 82 (dk_at dksX4_back_5 0 rfl rfl)
theorem dX4_back_119 : decode cX4_back 119 = .ok (.iload_n 1, 1) := dk_27 (dk_at dksX4_back_5 3 rfl rfl)
theorem dX4_back_120 : decode cX4_back 120 = .ok (.iaload, 1) := dk_46 (dk_at dksX4_back_5 4 rfl rfl)
theorem dX4_back_121 : decode cX4_back 121 = .ok (.if_icmp .ge 16, 3) := dk_162 0 16 (dk_at dksX4_back_5 5 rfl rfl)
theorem dX4_back_124 : decode cX4_back 124 = .ok (.aload_n 0, 1) := dk_42 (dk_at dksX4_back_5 8 rfl rfl)
theorem dX4_back_125 : decode cX4_back 125 = .ok (.getfield 94, 3) := dk_180 0 94 (dk_at dksX4_back_5 9 rfl rfl)
theorem dX4_back_128 : decode cX4_back 128 = .ok (.iconst 4, 1) := dk_7 (dk_at dksX4_back_5 12 rfl rfl)
theorem dX4_back_129 : decode cX4_back 129 = .ok (.iload_n 1, 1) := dk_27 (dk_at dksX4_back_5 13 rfl rfl)
theorem dX4_back_130 : decode cX4_back 130 = .ok (.imul, 1) := dk_104 (dk_at dksX4_back_5 14 rfl rfl)
theorem dX4_back_131 : decode cX4_back 131 = .ok (.iload_n 3, 1) := dk_29 (dk_at dksX4_back_5 15 rfl rfl)
theorem dX4_back_132 : decode cX4_back 132 = .ok (.iadd, 1) := dk_96 (dk_at dksX4_back_5 16 rfl rfl)
theorem dX4_back_133 : decode cX4_back 133 = .ok (.laload, 1) := dk_47 (dk_at dksX4_back_5 17 rfl rfl)
theorem dX4_back_134 : decode cX4_back 134 = .ok (.goto 4, 3) := dk_167 0 4 (dk_at dksX4_back_5 18 rfl rfl)
theorem dX4_back_137 : decode cX4_back 137 = .ok (.lconst 1, 1) := dk_10 (dk_at dksX4_back_5 21 rfl rfl)
theorem dX4_back_138 : decode cX4_back 138 = .ok (.lastore, 1) := dk_80 (dk_at dksX4_back_5 22 rfl rfl)
theorem dX4_back_139 : decode cX4_back 139 = .ok (.iinc 3 1, 3) := dk_132 3 1 (dk_at dksX4_back_6 0 rfl rfl)
theorem dX4_back_142 : decode cX4_back 142 = .ok (.goto (-71), 3) := dk_167 255 185 (dk_at dksX4_back_6 3 rfl rfl)
theorem dX4_back_145 : decode cX4_back 145 = .ok (.aload_n 0, 1) := dk_42 (dk_at dksX4_back_6 6 rfl rfl)
theorem dX4_back_146 : decode cX4_back 146 = .ok (.getfield 143, 3) := dk_180 0 143 (dk_at dksX4_back_6 7 rfl rfl)
theorem dX4_back_149 : decode cX4_back 149 = .ok (.ireturn, 1) := dk_172 (dk_at dksX4_back_6 10 rfl rfl)
abbrev cX4_lacks : ByteArray := prog_23_method_77_code
def yX4_lacks : MethodName := ⟨RX4, "lacks", "(I)I"⟩
def dkwX4_lacks_2 : List UInt8 := [167, 0, 4, 3, 172]
abbrev dktX4_lacks_2 : List UInt8 := dkwX4_lacks_2 ++ []
def dkwX4_lacks_1 : List UInt8 := [182, 1, 124, 167, 0, 23, 42, 180, 0, 73, 27, 46, 8, 159, 0, 12, 42, 16, 244, 182, 1, 124]
abbrev dktX4_lacks_1 : List UInt8 := dkwX4_lacks_1 ++ dktX4_lacks_2
def dkwX4_lacks_0 : List UInt8 := [27, 184, 1, 121, 154, 0, 7, 2, 167, 0, 41, 42, 180, 0, 73, 27, 46, 154, 0, 12, 42, 16, 245]
abbrev dktX4_lacks_0 : List UInt8 := dkwX4_lacks_0 ++ dktX4_lacks_1
theorem dksX4_lacks_0 : cX4_lacks.data.toList.drop 0 = dktX4_lacks_0 := by decide +kernel
theorem dksX4_lacks_1 : cX4_lacks.data.toList.drop 23 = dktX4_lacks_1 := dk_seg dksX4_lacks_0 23 rfl rfl
theorem dksX4_lacks_2 : cX4_lacks.data.toList.drop 45 = dktX4_lacks_2 := dk_seg dksX4_lacks_1 22 rfl rfl
theorem dX4_lacks_0 : decode cX4_lacks 0 = .ok (.iload_n 1, 1) := dk_27 (dk_at dksX4_lacks_0 0 rfl rfl)
theorem dX4_lacks_1 : decode cX4_lacks 1 = .ok (.invokestatic 377, 3) := dk_184 1 121 (dk_at dksX4_lacks_0 1 rfl rfl)
theorem dX4_lacks_4 : decode cX4_lacks 4 = .ok (.ifCond .ne 7, 3) := dk_154 0 7 (dk_at dksX4_lacks_0 4 rfl rfl)
theorem dX4_lacks_7 : decode cX4_lacks 7 = .ok (.iconst (-1), 1) := dk_2 (dk_at dksX4_lacks_0 7 rfl rfl)
theorem dX4_lacks_8 : decode cX4_lacks 8 = .ok (.goto 41, 3) := dk_167 0 41 (dk_at dksX4_lacks_0 8 rfl rfl)
theorem dX4_lacks_11 : decode cX4_lacks 11 = .ok (.aload_n 0, 1) := dk_42 (dk_at dksX4_lacks_0 11 rfl rfl)
theorem dX4_lacks_12 : decode cX4_lacks 12 = .ok (.getfield 73, 3) := dk_180 0 73 (dk_at dksX4_lacks_0 12 rfl rfl)
theorem dX4_lacks_15 : decode cX4_lacks 15 = .ok (.iload_n 1, 1) := dk_27 (dk_at dksX4_lacks_0 15 rfl rfl)
theorem dX4_lacks_16 : decode cX4_lacks 16 = .ok (.iaload, 1) := dk_46 (dk_at dksX4_lacks_0 16 rfl rfl)
theorem dX4_lacks_17 : decode cX4_lacks 17 = .ok (.ifCond .ne 12, 3) := dk_154 0 12 (dk_at dksX4_lacks_0 17 rfl rfl)
theorem dX4_lacks_20 : decode cX4_lacks 20 = .ok (.aload_n 0, 1) := dk_42 (dk_at dksX4_lacks_0 20 rfl rfl)
theorem dX4_lacks_21 : decode cX4_lacks 21 = .ok (.bipush (-11), 2) := dk_16 245 (dk_at dksX4_lacks_0 21 rfl rfl)
theorem dX4_lacks_23 : decode cX4_lacks 23 = .ok (.invokevirtual 380, 3) := dk_182 1 124 (dk_at dksX4_lacks_1 0 rfl rfl)
theorem dX4_lacks_26 : decode cX4_lacks 26 = .ok (.goto 23, 3) := dk_167 0 23 (dk_at dksX4_lacks_1 3 rfl rfl)
theorem dX4_lacks_29 : decode cX4_lacks 29 = .ok (.aload_n 0, 1) := dk_42 (dk_at dksX4_lacks_1 6 rfl rfl)
theorem dX4_lacks_30 : decode cX4_lacks 30 = .ok (.getfield 73, 3) := dk_180 0 73 (dk_at dksX4_lacks_1 7 rfl rfl)
theorem dX4_lacks_33 : decode cX4_lacks 33 = .ok (.iload_n 1, 1) := dk_27 (dk_at dksX4_lacks_1 10 rfl rfl)
theorem dX4_lacks_34 : decode cX4_lacks 34 = .ok (.iaload, 1) := dk_46 (dk_at dksX4_lacks_1 11 rfl rfl)
theorem dX4_lacks_35 : decode cX4_lacks 35 = .ok (.iconst 5, 1) := dk_8 (dk_at dksX4_lacks_1 12 rfl rfl)
theorem dX4_lacks_36 : decode cX4_lacks 36 = .ok (.if_icmp .eq 12, 3) := dk_159 0 12 (dk_at dksX4_lacks_1 13 rfl rfl)
theorem dX4_lacks_39 : decode cX4_lacks 39 = .ok (.aload_n 0, 1) := dk_42 (dk_at dksX4_lacks_1 16 rfl rfl)
theorem dX4_lacks_40 : decode cX4_lacks 40 = .ok (.bipush (-12), 2) := dk_16 244 (dk_at dksX4_lacks_1 17 rfl rfl)
theorem dX4_lacks_42 : decode cX4_lacks 42 = .ok (.invokevirtual 380, 3) := dk_182 1 124 (dk_at dksX4_lacks_1 19 rfl rfl)
theorem dX4_lacks_45 : decode cX4_lacks 45 = .ok (.goto 4, 3) := dk_167 0 4 (dk_at dksX4_lacks_2 0 rfl rfl)
theorem dX4_lacks_48 : decode cX4_lacks 48 = .ok (.iconst 0, 1) := dk_3 (dk_at dksX4_lacks_2 3 rfl rfl)
theorem dX4_lacks_49 : decode cX4_lacks 49 = .ok (.ireturn, 1) := dk_172 (dk_at dksX4_lacks_2 4 rfl rfl)
abbrev cX4_toss : ByteArray := prog_23_method_79_code
def yX4_toss : MethodName := ⟨RX4, "toss", "(I)I"⟩
def dkwX4_toss_1 : List UInt8 := [182, 1, 124, 167, 0, 9, 42, 180, 0, 85, 27, 46, 172]
abbrev dktX4_toss_1 : List UInt8 := dkwX4_toss_1 ++ []
def dkwX4_toss_0 : List UInt8 := [42, 27, 182, 1, 127, 61, 28, 153, 0, 5, 28, 172, 42, 180, 0, 85, 27, 46, 154, 0, 12, 42, 16, 241]
abbrev dktX4_toss_0 : List UInt8 := dkwX4_toss_0 ++ dktX4_toss_1
theorem dksX4_toss_0 : cX4_toss.data.toList.drop 0 = dktX4_toss_0 := by decide +kernel
theorem dksX4_toss_1 : cX4_toss.data.toList.drop 24 = dktX4_toss_1 := dk_seg dksX4_toss_0 24 rfl rfl
theorem dX4_toss_0 : decode cX4_toss 0 = .ok (.aload_n 0, 1) := dk_42 (dk_at dksX4_toss_0 0 rfl rfl)
theorem dX4_toss_1 : decode cX4_toss 1 = .ok (.iload_n 1, 1) := dk_27 (dk_at dksX4_toss_0 1 rfl rfl)
theorem dX4_toss_2 : decode cX4_toss 2 = .ok (.invokevirtual 383, 3) := dk_182 1 127 (dk_at dksX4_toss_0 2 rfl rfl)
theorem dX4_toss_5 : decode cX4_toss 5 = .ok (.istore_n 2, 1) := dk_61 (dk_at dksX4_toss_0 5 rfl rfl)
theorem dX4_toss_6 : decode cX4_toss 6 = .ok (.iload_n 2, 1) := dk_28 (dk_at dksX4_toss_0 6 rfl rfl)
theorem dX4_toss_7 : decode cX4_toss 7 = .ok (.ifCond .eq 5, 3) := dk_153 0 5 (dk_at dksX4_toss_0 7 rfl rfl)
theorem dX4_toss_10 : decode cX4_toss 10 = .ok (.iload_n 2, 1) := dk_28 (dk_at dksX4_toss_0 10 rfl rfl)
theorem dX4_toss_11 : decode cX4_toss 11 = .ok (.ireturn, 1) := dk_172 (dk_at dksX4_toss_0 11 rfl rfl)
theorem dX4_toss_12 : decode cX4_toss 12 = .ok (.aload_n 0, 1) := dk_42 (dk_at dksX4_toss_0 12 rfl rfl)
theorem dX4_toss_13 : decode cX4_toss 13 = .ok (.getfield 85, 3) := dk_180 0 85 (dk_at dksX4_toss_0 13 rfl rfl)
theorem dX4_toss_16 : decode cX4_toss 16 = .ok (.iload_n 1, 1) := dk_27 (dk_at dksX4_toss_0 16 rfl rfl)
theorem dX4_toss_17 : decode cX4_toss 17 = .ok (.iaload, 1) := dk_46 (dk_at dksX4_toss_0 17 rfl rfl)
theorem dX4_toss_18 : decode cX4_toss 18 = .ok (.ifCond .ne 12, 3) := dk_154 0 12 (dk_at dksX4_toss_0 18 rfl rfl)
theorem dX4_toss_21 : decode cX4_toss 21 = .ok (.aload_n 0, 1) := dk_42 (dk_at dksX4_toss_0 21 rfl rfl)
theorem dX4_toss_22 : decode cX4_toss 22 = .ok (.bipush (-15), 2) := dk_16 241 (dk_at dksX4_toss_0 22 rfl rfl)
theorem dX4_toss_24 : decode cX4_toss 24 = .ok (.invokevirtual 380, 3) := dk_182 1 124 (dk_at dksX4_toss_1 0 rfl rfl)
theorem dX4_toss_27 : decode cX4_toss 27 = .ok (.goto 9, 3) := dk_167 0 9 (dk_at dksX4_toss_1 3 rfl rfl)
theorem dX4_toss_30 : decode cX4_toss 30 = .ok (.aload_n 0, 1) := dk_42 (dk_at dksX4_toss_1 6 rfl rfl)
theorem dX4_toss_31 : decode cX4_toss 31 = .ok (.getfield 85, 3) := dk_180 0 85 (dk_at dksX4_toss_1 7 rfl rfl)
theorem dX4_toss_34 : decode cX4_toss 34 = .ok (.iload_n 1, 1) := dk_27 (dk_at dksX4_toss_1 10 rfl rfl)
theorem dX4_toss_35 : decode cX4_toss 35 = .ok (.iaload, 1) := dk_46 (dk_at dksX4_toss_1 11 rfl rfl)
theorem dX4_toss_36 : decode cX4_toss 36 = .ok (.ireturn, 1) := dk_172 (dk_at dksX4_toss_1 12 rfl rfl)
abbrev cX4_load : ByteArray := prog_23_method_80_code
def yX4_load : MethodName := ⟨RX4, "load", "(III)I"⟩
def dkwX4_load_7 : List UInt8 := [181, 0, 137, 29, 172]
abbrev dktX4_load_7 : List UInt8 := dkwX4_load_7 ++ []
def dkwX4_load_6 : List UInt8 := [42, 180, 0, 79, 16, 64, 27, 104, 28, 96, 21, 4, 96, 47, 136, 79, 132, 4, 1, 167, 255, 225, 42, 29]
abbrev dktX4_load_6 : List UInt8 := dkwX4_load_6 ++ dktX4_load_7
def dkwX4_load_5 : List UInt8 := [16, 253, 172, 132, 4, 1, 167, 255, 224, 3, 54, 4, 21, 4, 29, 162, 0, 31, 42, 180, 0, 16, 21, 4]
abbrev dktX4_load_5 : List UInt8 := dkwX4_load_5 ++ dktX4_load_6
def dkwX4_load_4 : List UInt8 := [162, 0, 32, 42, 180, 0, 79, 16, 64, 27, 104, 28, 96, 21, 4, 96, 47, 184, 0, 167, 154, 0, 6]
abbrev dktX4_load_4 : List UInt8 := dkwX4_load_4 ++ dktX4_load_5
def dkwX4_load_3 : List UInt8 := [180, 0, 76, 27, 46, 28, 100, 164, 0, 10, 42, 16, 243, 182, 1, 124, 172, 3, 54, 4, 21, 4, 29]
abbrev dktX4_load_3 : List UInt8 := dkwX4_load_3 ++ dktX4_load_4
def dkwX4_load_2 : List UInt8 := [180, 0, 73, 27, 46, 8, 160, 0, 10, 42, 16, 244, 182, 1, 124, 172, 28, 155, 0, 15, 29, 42]
abbrev dktX4_load_2 : List UInt8 := dkwX4_load_2 ++ dktX4_load_3
def dkwX4_load_1 : List UInt8 := [46, 154, 0, 10, 42, 16, 245, 182, 1, 124, 172, 42, 180, 0, 73, 27, 46, 4, 159, 0, 13, 42]
abbrev dktX4_load_1 : List UInt8 := dkwX4_load_1 ++ dktX4_load_2
def dkwX4_load_0 : List UInt8 := [27, 184, 1, 121, 153, 0, 13, 29, 3, 16, 12, 184, 0, 159, 154, 0, 5, 2, 172, 42, 180, 0, 73, 27]
abbrev dktX4_load_0 : List UInt8 := dkwX4_load_0 ++ dktX4_load_1
theorem dksX4_load_0 : cX4_load.data.toList.drop 0 = dktX4_load_0 := by decide +kernel
theorem dksX4_load_1 : cX4_load.data.toList.drop 24 = dktX4_load_1 := dk_seg dksX4_load_0 24 rfl rfl
theorem dksX4_load_2 : cX4_load.data.toList.drop 46 = dktX4_load_2 := dk_seg dksX4_load_1 22 rfl rfl
theorem dksX4_load_3 : cX4_load.data.toList.drop 68 = dktX4_load_3 := dk_seg dksX4_load_2 22 rfl rfl
theorem dksX4_load_4 : cX4_load.data.toList.drop 91 = dktX4_load_4 := dk_seg dksX4_load_3 23 rfl rfl
theorem dksX4_load_5 : cX4_load.data.toList.drop 114 = dktX4_load_5 := dk_seg dksX4_load_4 23 rfl rfl
theorem dksX4_load_6 : cX4_load.data.toList.drop 138 = dktX4_load_6 := dk_seg dksX4_load_5 24 rfl rfl
theorem dksX4_load_7 : cX4_load.data.toList.drop 162 = dktX4_load_7 := dk_seg dksX4_load_6 24 rfl rfl
theorem dX4_load_0 : decode cX4_load 0 = .ok (.iload_n 1, 1) := dk_27 (dk_at dksX4_load_0 0 rfl rfl)
theorem dX4_load_1 : decode cX4_load 1 = .ok (.invokestatic 377, 3) := dk_184 1 121 (dk_at dksX4_load_0 1 rfl rfl)
theorem dX4_load_4 : decode cX4_load 4 = .ok (.ifCond .eq 13, 3) := dk_153 0 13 (dk_at dksX4_load_0 4 rfl rfl)
theorem dX4_load_7 : decode cX4_load 7 = .ok (.iload_n 3, 1) := dk_29 (dk_at dksX4_load_0 7 rfl rfl)
theorem dX4_load_8 : decode cX4_load 8 = .ok (.iconst 0, 1) := dk_3 (dk_at dksX4_load_0 8 rfl rfl)
theorem dX4_load_9 : decode cX4_load 9 = .ok (.bipush 12, 2) := dk_16 12 (dk_at dksX4_load_0 9 rfl rfl)
theorem dX4_load_11 : decode cX4_load 11 = .ok (.invokestatic 159, 3) := dk_184 0 159 (dk_at dksX4_load_0 11 rfl rfl)
theorem dX4_load_14 : decode cX4_load 14 = .ok (.ifCond .ne 5, 3) := dk_154 0 5 (dk_at dksX4_load_0 14 rfl rfl)
theorem dX4_load_17 : decode cX4_load 17 = .ok (.iconst (-1), 1) := dk_2 (dk_at dksX4_load_0 17 rfl rfl)
theorem dX4_load_18 : decode cX4_load 18 = .ok (.ireturn, 1) := dk_172 (dk_at dksX4_load_0 18 rfl rfl)
theorem dX4_load_19 : decode cX4_load 19 = .ok (.aload_n 0, 1) := dk_42 (dk_at dksX4_load_0 19 rfl rfl)
theorem dX4_load_20 : decode cX4_load 20 = .ok (.getfield 73, 3) := dk_180 0 73 (dk_at dksX4_load_0 20 rfl rfl)
theorem dX4_load_23 : decode cX4_load 23 = .ok (.iload_n 1, 1) := dk_27 (dk_at dksX4_load_0 23 rfl rfl)
theorem dX4_load_24 : decode cX4_load 24 = .ok (.iaload, 1) := dk_46 (dk_at dksX4_load_1 0 rfl rfl)
theorem dX4_load_25 : decode cX4_load 25 = .ok (.ifCond .ne 10, 3) := dk_154 0 10 (dk_at dksX4_load_1 1 rfl rfl)
theorem dX4_load_28 : decode cX4_load 28 = .ok (.aload_n 0, 1) := dk_42 (dk_at dksX4_load_1 4 rfl rfl)
theorem dX4_load_29 : decode cX4_load 29 = .ok (.bipush (-11), 2) := dk_16 245 (dk_at dksX4_load_1 5 rfl rfl)
theorem dX4_load_31 : decode cX4_load 31 = .ok (.invokevirtual 380, 3) := dk_182 1 124 (dk_at dksX4_load_1 7 rfl rfl)
theorem dX4_load_34 : decode cX4_load 34 = .ok (.ireturn, 1) := dk_172 (dk_at dksX4_load_1 10 rfl rfl)
theorem dX4_load_35 : decode cX4_load 35 = .ok (.aload_n 0, 1) := dk_42 (dk_at dksX4_load_1 11 rfl rfl)
theorem dX4_load_36 : decode cX4_load 36 = .ok (.getfield 73, 3) := dk_180 0 73 (dk_at dksX4_load_1 12 rfl rfl)
theorem dX4_load_39 : decode cX4_load 39 = .ok (.iload_n 1, 1) := dk_27 (dk_at dksX4_load_1 15 rfl rfl)
theorem dX4_load_40 : decode cX4_load 40 = .ok (.iaload, 1) := dk_46 (dk_at dksX4_load_1 16 rfl rfl)
theorem dX4_load_41 : decode cX4_load 41 = .ok (.iconst 1, 1) := dk_4 (dk_at dksX4_load_1 17 rfl rfl)
theorem dX4_load_42 : decode cX4_load 42 = .ok (.if_icmp .eq 13, 3) := dk_159 0 13 (dk_at dksX4_load_1 18 rfl rfl)
theorem dX4_load_45 : decode cX4_load 45 = .ok (.aload_n 0, 1) := dk_42 (dk_at dksX4_load_1 21 rfl rfl)
theorem dX4_load_46 : decode cX4_load 46 = .ok (.getfield 73, 3) := dk_180 0 73 (dk_at dksX4_load_2 0 rfl rfl)
theorem dX4_load_49 : decode cX4_load 49 = .ok (.iload_n 1, 1) := dk_27 (dk_at dksX4_load_2 3 rfl rfl)
theorem dX4_load_50 : decode cX4_load 50 = .ok (.iaload, 1) := dk_46 (dk_at dksX4_load_2 4 rfl rfl)
theorem dX4_load_51 : decode cX4_load 51 = .ok (.iconst 5, 1) := dk_8 (dk_at dksX4_load_2 5 rfl rfl)
theorem dX4_load_52 : decode cX4_load 52 = .ok (.if_icmp .ne 10, 3) := dk_160 0 10 (dk_at dksX4_load_2 6 rfl rfl)
theorem dX4_load_55 : decode cX4_load 55 = .ok (.aload_n 0, 1) := dk_42 (dk_at dksX4_load_2 9 rfl rfl)
theorem dX4_load_56 : decode cX4_load 56 = .ok (.bipush (-12), 2) := dk_16 244 (dk_at dksX4_load_2 10 rfl rfl)
theorem dX4_load_58 : decode cX4_load 58 = .ok (.invokevirtual 380, 3) := dk_182 1 124 (dk_at dksX4_load_2 12 rfl rfl)
theorem dX4_load_61 : decode cX4_load 61 = .ok (.ireturn, 1) := dk_172 (dk_at dksX4_load_2 15 rfl rfl)
theorem dX4_load_62 : decode cX4_load 62 = .ok (.iload_n 2, 1) := dk_28 (dk_at dksX4_load_2 16 rfl rfl)
theorem dX4_load_63 : decode cX4_load 63 = .ok (.ifCond .lt 15, 3) := dk_155 0 15 (dk_at dksX4_load_2 17 rfl rfl)
theorem dX4_load_66 : decode cX4_load 66 = .ok (.iload_n 3, 1) := dk_29 (dk_at dksX4_load_2 20 rfl rfl)
theorem dX4_load_67 : decode cX4_load 67 = .ok (.aload_n 0, 1) := dk_42 (dk_at dksX4_load_2 21 rfl rfl)
theorem dX4_load_68 : decode cX4_load 68 = .ok (.getfield 76, 3) := dk_180 0 76 (dk_at dksX4_load_3 0 rfl rfl)
theorem dX4_load_71 : decode cX4_load 71 = .ok (.iload_n 1, 1) := dk_27 (dk_at dksX4_load_3 3 rfl rfl)
theorem dX4_load_72 : decode cX4_load 72 = .ok (.iaload, 1) := dk_46 (dk_at dksX4_load_3 4 rfl rfl)
theorem dX4_load_73 : decode cX4_load 73 = .ok (.iload_n 2, 1) := dk_28 (dk_at dksX4_load_3 5 rfl rfl)
theorem dX4_load_74 : decode cX4_load 74 = .ok (.isub, 1) := dk_100 (dk_at dksX4_load_3 6 rfl rfl)
theorem dX4_load_75 : decode cX4_load 75 = .ok (.if_icmp .le 10, 3) := dk_164 0 10 (dk_at dksX4_load_3 7 rfl rfl)
theorem dX4_load_78 : decode cX4_load 78 = .ok (.aload_n 0, 1) := dk_42 (dk_at dksX4_load_3 10 rfl rfl)
theorem dX4_load_79 : decode cX4_load 79 = .ok (.bipush (-13), 2) := dk_16 243 (dk_at dksX4_load_3 11 rfl rfl)
theorem dX4_load_81 : decode cX4_load 81 = .ok (.invokevirtual 380, 3) := dk_182 1 124 (dk_at dksX4_load_3 13 rfl rfl)
theorem dX4_load_84 : decode cX4_load 84 = .ok (.ireturn, 1) := dk_172 (dk_at dksX4_load_3 16 rfl rfl)
theorem dX4_load_85 : decode cX4_load 85 = .ok (.iconst 0, 1) := dk_3 (dk_at dksX4_load_3 17 rfl rfl)
theorem dX4_load_86 : decode cX4_load 86 = .ok (.istore 4, 2) := dk_54 4 (dk_at dksX4_load_3 18 rfl rfl)
theorem dX4_load_88 : decode cX4_load 88 = .ok (.iload 4, 2) := dk_21 4 (dk_at dksX4_load_3 20 rfl rfl)
theorem dX4_load_90 : decode cX4_load 90 = .ok (.iload_n 3, 1) := dk_29 (dk_at dksX4_load_3 22 rfl rfl)
theorem dX4_load_91 : decode cX4_load 91 = .ok (.if_icmp .ge 32, 3) := dk_162 0 32 (dk_at dksX4_load_4 0 rfl rfl)
theorem dX4_load_94 : decode cX4_load 94 = .ok (.aload_n 0, 1) := dk_42 (dk_at dksX4_load_4 3 rfl rfl)
theorem dX4_load_95 : decode cX4_load 95 = .ok (.getfield 79, 3) := dk_180 0 79 (dk_at dksX4_load_4 4 rfl rfl)
theorem dX4_load_98 : decode cX4_load 98 = .ok (.bipush 64, 2) := dk_16 64 (dk_at dksX4_load_4 7 rfl rfl)
theorem dX4_load_100 : decode cX4_load 100 = .ok (.iload_n 1, 1) := dk_27 (dk_at dksX4_load_4 9 rfl rfl)
theorem dX4_load_101 : decode cX4_load 101 = .ok (.imul, 1) := dk_104 (dk_at dksX4_load_4 10 rfl rfl)
theorem dX4_load_102 : decode cX4_load 102 = .ok (.iload_n 2, 1) := dk_28 (dk_at dksX4_load_4 11 rfl rfl)
theorem dX4_load_103 : decode cX4_load 103 = .ok (.iadd, 1) := dk_96 (dk_at dksX4_load_4 12 rfl rfl)
theorem dX4_load_104 : decode cX4_load 104 = .ok (.iload 4, 2) := dk_21 4 (dk_at dksX4_load_4 13 rfl rfl)
theorem dX4_load_106 : decode cX4_load 106 = .ok (.iadd, 1) := dk_96 (dk_at dksX4_load_4 15 rfl rfl)
theorem dX4_load_107 : decode cX4_load 107 = .ok (.laload, 1) := dk_47 (dk_at dksX4_load_4 16 rfl rfl)
theorem dX4_load_108 : decode cX4_load 108 = .ok (.invokestatic 167, 3) := dk_184 0 167 (dk_at dksX4_load_4 17 rfl rfl)
theorem dX4_load_111 : decode cX4_load 111 = .ok (.ifCond .ne 6, 3) := dk_154 0 6 (dk_at dksX4_load_4 20 rfl rfl)
theorem dX4_load_114 : decode cX4_load 114 = .ok (.bipush (-3), 2) := dk_16 253 (dk_at dksX4_load_5 0 rfl rfl)
theorem dX4_load_116 : decode cX4_load 116 = .ok (.ireturn, 1) := dk_172 (dk_at dksX4_load_5 2 rfl rfl)
theorem dX4_load_117 : decode cX4_load 117 = .ok (.iinc 4 1, 3) := dk_132 4 1 (dk_at dksX4_load_5 3 rfl rfl)
theorem dX4_load_120 : decode cX4_load 120 = .ok (.goto (-32), 3) := dk_167 255 224 (dk_at dksX4_load_5 6 rfl rfl)
theorem dX4_load_123 : decode cX4_load 123 = .ok (.iconst 0, 1) := dk_3 (dk_at dksX4_load_5 9 rfl rfl)
theorem dX4_load_124 : decode cX4_load 124 = .ok (.istore 4, 2) := dk_54 4 (dk_at dksX4_load_5 10 rfl rfl)
theorem dX4_load_126 : decode cX4_load 126 = .ok (.iload 4, 2) := dk_21 4 (dk_at dksX4_load_5 12 rfl rfl)
theorem dX4_load_128 : decode cX4_load 128 = .ok (.iload_n 3, 1) := dk_29 (dk_at dksX4_load_5 14 rfl rfl)
theorem dX4_load_129 : decode cX4_load 129 = .ok (.if_icmp .ge 31, 3) := dk_162 0 31 (dk_at dksX4_load_5 15 rfl rfl)
theorem dX4_load_132 : decode cX4_load 132 = .ok (.aload_n 0, 1) := dk_42 (dk_at dksX4_load_5 18 rfl rfl)
theorem dX4_load_133 : decode cX4_load 133 = .ok (.getfield 16, 3) := dk_180 0 16 (dk_at dksX4_load_5 19 rfl rfl)
theorem dX4_load_136 : decode cX4_load 136 = .ok (.iload 4, 2) := dk_21 4 (dk_at dksX4_load_5 22 rfl rfl)
theorem dX4_load_138 : decode cX4_load 138 = .ok (.aload_n 0, 1) := dk_42 (dk_at dksX4_load_6 0 rfl rfl)
theorem dX4_load_139 : decode cX4_load 139 = .ok (.getfield 79, 3) := dk_180 0 79 (dk_at dksX4_load_6 1 rfl rfl)
theorem dX4_load_142 : decode cX4_load 142 = .ok (.bipush 64, 2) := dk_16 64 (dk_at dksX4_load_6 4 rfl rfl)
theorem dX4_load_144 : decode cX4_load 144 = .ok (.iload_n 1, 1) := dk_27 (dk_at dksX4_load_6 6 rfl rfl)
theorem dX4_load_145 : decode cX4_load 145 = .ok (.imul, 1) := dk_104 (dk_at dksX4_load_6 7 rfl rfl)
theorem dX4_load_146 : decode cX4_load 146 = .ok (.iload_n 2, 1) := dk_28 (dk_at dksX4_load_6 8 rfl rfl)
theorem dX4_load_147 : decode cX4_load 147 = .ok (.iadd, 1) := dk_96 (dk_at dksX4_load_6 9 rfl rfl)
theorem dX4_load_148 : decode cX4_load 148 = .ok (.iload 4, 2) := dk_21 4 (dk_at dksX4_load_6 10 rfl rfl)
theorem dX4_load_150 : decode cX4_load 150 = .ok (.iadd, 1) := dk_96 (dk_at dksX4_load_6 12 rfl rfl)
theorem dX4_load_151 : decode cX4_load 151 = .ok (.laload, 1) := dk_47 (dk_at dksX4_load_6 13 rfl rfl)
theorem dX4_load_152 : decode cX4_load 152 = .ok (.l2i, 1) := dk_136 (dk_at dksX4_load_6 14 rfl rfl)
theorem dX4_load_153 : decode cX4_load 153 = .ok (.iastore, 1) := dk_79 (dk_at dksX4_load_6 15 rfl rfl)
theorem dX4_load_154 : decode cX4_load 154 = .ok (.iinc 4 1, 3) := dk_132 4 1 (dk_at dksX4_load_6 16 rfl rfl)
theorem dX4_load_157 : decode cX4_load 157 = .ok (.goto (-31), 3) := dk_167 255 225 (dk_at dksX4_load_6 19 rfl rfl)
theorem dX4_load_160 : decode cX4_load 160 = .ok (.aload_n 0, 1) := dk_42 (dk_at dksX4_load_6 22 rfl rfl)
theorem dX4_load_161 : decode cX4_load 161 = .ok (.iload_n 3, 1) := dk_29 (dk_at dksX4_load_6 23 rfl rfl)
theorem dX4_load_162 : decode cX4_load 162 = .ok (.putfield 137, 3) := dk_181 0 137 (dk_at dksX4_load_7 0 rfl rfl)
theorem dX4_load_165 : decode cX4_load 165 = .ok (.iload_n 3, 1) := dk_29 (dk_at dksX4_load_7 3 rfl rfl)
theorem dX4_load_166 : decode cX4_load 166 = .ok (.ireturn, 1) := dk_172 (dk_at dksX4_load_7 4 rfl rfl)
abbrev cX4_clear : ByteArray := prog_23_method_81_code
def yX4_clear : MethodName := ⟨RX4, "clear", "(I)I"⟩
def dkwX4_clear_1 : List UInt8 := [172]
abbrev dktX4_clear_1 : List UInt8 := dkwX4_clear_1 ++ []
def dkwX4_clear_0 : List UInt8 := [27, 184, 1, 121, 154, 0, 5, 2, 172, 42, 180, 0, 73, 27, 46, 61, 42, 180, 0, 73, 27, 3, 79, 28]
abbrev dktX4_clear_0 : List UInt8 := dkwX4_clear_0 ++ dktX4_clear_1
theorem dksX4_clear_0 : cX4_clear.data.toList.drop 0 = dktX4_clear_0 := by decide +kernel
theorem dksX4_clear_1 : cX4_clear.data.toList.drop 24 = dktX4_clear_1 := dk_seg dksX4_clear_0 24 rfl rfl
theorem dX4_clear_0 : decode cX4_clear 0 = .ok (.iload_n 1, 1) := dk_27 (dk_at dksX4_clear_0 0 rfl rfl)
theorem dX4_clear_1 : decode cX4_clear 1 = .ok (.invokestatic 377, 3) := dk_184 1 121 (dk_at dksX4_clear_0 1 rfl rfl)
theorem dX4_clear_4 : decode cX4_clear 4 = .ok (.ifCond .ne 5, 3) := dk_154 0 5 (dk_at dksX4_clear_0 4 rfl rfl)
theorem dX4_clear_7 : decode cX4_clear 7 = .ok (.iconst (-1), 1) := dk_2 (dk_at dksX4_clear_0 7 rfl rfl)
theorem dX4_clear_8 : decode cX4_clear 8 = .ok (.ireturn, 1) := dk_172 (dk_at dksX4_clear_0 8 rfl rfl)
theorem dX4_clear_9 : decode cX4_clear 9 = .ok (.aload_n 0, 1) := dk_42 (dk_at dksX4_clear_0 9 rfl rfl)
theorem dX4_clear_10 : decode cX4_clear 10 = .ok (.getfield 73, 3) := dk_180 0 73 (dk_at dksX4_clear_0 10 rfl rfl)
theorem dX4_clear_13 : decode cX4_clear 13 = .ok (.iload_n 1, 1) := dk_27 (dk_at dksX4_clear_0 13 rfl rfl)
theorem dX4_clear_14 : decode cX4_clear 14 = .ok (.iaload, 1) := dk_46 (dk_at dksX4_clear_0 14 rfl rfl)
theorem dX4_clear_15 : decode cX4_clear 15 = .ok (.istore_n 2, 1) := dk_61 (dk_at dksX4_clear_0 15 rfl rfl)
theorem dX4_clear_16 : decode cX4_clear 16 = .ok (.aload_n 0, 1) := dk_42 (dk_at dksX4_clear_0 16 rfl rfl)
theorem dX4_clear_17 : decode cX4_clear 17 = .ok (.getfield 73, 3) := dk_180 0 73 (dk_at dksX4_clear_0 17 rfl rfl)
theorem dX4_clear_20 : decode cX4_clear 20 = .ok (.iload_n 1, 1) := dk_27 (dk_at dksX4_clear_0 20 rfl rfl)
theorem dX4_clear_21 : decode cX4_clear 21 = .ok (.iconst 0, 1) := dk_3 (dk_at dksX4_clear_0 21 rfl rfl)
theorem dX4_clear_22 : decode cX4_clear 22 = .ok (.iastore, 1) := dk_79 (dk_at dksX4_clear_0 22 rfl rfl)
theorem dX4_clear_23 : decode cX4_clear 23 = .ok (.iload_n 2, 1) := dk_28 (dk_at dksX4_clear_0 23 rfl rfl)
theorem dX4_clear_24 : decode cX4_clear 24 = .ok (.ireturn, 1) := dk_172 (dk_at dksX4_clear_1 0 rfl rfl)
abbrev cX4_put : ByteArray := prog_23_method_83_code
def yX4_put : MethodName := ⟨RX4, "put", "(IIJ)I"⟩
def dkwX4_put_3 : List UInt8 := [104, 28, 96, 42, 180, 0, 73, 27, 46, 33, 184, 1, 130, 80, 4, 172]
abbrev dktX4_put_3 : List UInt8 := dkwX4_put_3 ++ []
def dkwX4_put_2 : List UInt8 := [27, 46, 4, 100, 184, 0, 159, 154, 0, 10, 42, 16, 243, 182, 1, 124, 172, 42, 180, 0, 79, 16, 64, 27]
abbrev dktX4_put_2 : List UInt8 := dkwX4_put_2 ++ dktX4_put_3
def dkwX4_put_1 : List UInt8 := [172, 42, 180, 0, 73, 27, 46, 8, 160, 0, 10, 42, 16, 244, 182, 1, 124, 172, 28, 3, 42, 180, 0, 76]
abbrev dktX4_put_1 : List UInt8 := dkwX4_put_1 ++ dktX4_put_2
def dkwX4_put_0 : List UInt8 := [27, 184, 1, 121, 154, 0, 5, 2, 172, 42, 180, 0, 73, 27, 46, 154, 0, 10, 42, 16, 245, 182, 1, 124]
abbrev dktX4_put_0 : List UInt8 := dkwX4_put_0 ++ dktX4_put_1
theorem dksX4_put_0 : cX4_put.data.toList.drop 0 = dktX4_put_0 := by decide +kernel
theorem dksX4_put_1 : cX4_put.data.toList.drop 24 = dktX4_put_1 := dk_seg dksX4_put_0 24 rfl rfl
theorem dksX4_put_2 : cX4_put.data.toList.drop 48 = dktX4_put_2 := dk_seg dksX4_put_1 24 rfl rfl
theorem dksX4_put_3 : cX4_put.data.toList.drop 72 = dktX4_put_3 := dk_seg dksX4_put_2 24 rfl rfl
theorem dX4_put_0 : decode cX4_put 0 = .ok (.iload_n 1, 1) := dk_27 (dk_at dksX4_put_0 0 rfl rfl)
theorem dX4_put_1 : decode cX4_put 1 = .ok (.invokestatic 377, 3) := dk_184 1 121 (dk_at dksX4_put_0 1 rfl rfl)
theorem dX4_put_4 : decode cX4_put 4 = .ok (.ifCond .ne 5, 3) := dk_154 0 5 (dk_at dksX4_put_0 4 rfl rfl)
theorem dX4_put_7 : decode cX4_put 7 = .ok (.iconst (-1), 1) := dk_2 (dk_at dksX4_put_0 7 rfl rfl)
theorem dX4_put_8 : decode cX4_put 8 = .ok (.ireturn, 1) := dk_172 (dk_at dksX4_put_0 8 rfl rfl)
theorem dX4_put_9 : decode cX4_put 9 = .ok (.aload_n 0, 1) := dk_42 (dk_at dksX4_put_0 9 rfl rfl)
theorem dX4_put_10 : decode cX4_put 10 = .ok (.getfield 73, 3) := dk_180 0 73 (dk_at dksX4_put_0 10 rfl rfl)
theorem dX4_put_13 : decode cX4_put 13 = .ok (.iload_n 1, 1) := dk_27 (dk_at dksX4_put_0 13 rfl rfl)
theorem dX4_put_14 : decode cX4_put 14 = .ok (.iaload, 1) := dk_46 (dk_at dksX4_put_0 14 rfl rfl)
theorem dX4_put_15 : decode cX4_put 15 = .ok (.ifCond .ne 10, 3) := dk_154 0 10 (dk_at dksX4_put_0 15 rfl rfl)
theorem dX4_put_18 : decode cX4_put 18 = .ok (.aload_n 0, 1) := dk_42 (dk_at dksX4_put_0 18 rfl rfl)
theorem dX4_put_19 : decode cX4_put 19 = .ok (.bipush (-11), 2) := dk_16 245 (dk_at dksX4_put_0 19 rfl rfl)
theorem dX4_put_21 : decode cX4_put 21 = .ok (.invokevirtual 380, 3) := dk_182 1 124 (dk_at dksX4_put_0 21 rfl rfl)
theorem dX4_put_24 : decode cX4_put 24 = .ok (.ireturn, 1) := dk_172 (dk_at dksX4_put_1 0 rfl rfl)
theorem dX4_put_25 : decode cX4_put 25 = .ok (.aload_n 0, 1) := dk_42 (dk_at dksX4_put_1 1 rfl rfl)
theorem dX4_put_26 : decode cX4_put 26 = .ok (.getfield 73, 3) := dk_180 0 73 (dk_at dksX4_put_1 2 rfl rfl)
theorem dX4_put_29 : decode cX4_put 29 = .ok (.iload_n 1, 1) := dk_27 (dk_at dksX4_put_1 5 rfl rfl)
theorem dX4_put_30 : decode cX4_put 30 = .ok (.iaload, 1) := dk_46 (dk_at dksX4_put_1 6 rfl rfl)
theorem dX4_put_31 : decode cX4_put 31 = .ok (.iconst 5, 1) := dk_8 (dk_at dksX4_put_1 7 rfl rfl)
theorem dX4_put_32 : decode cX4_put 32 = .ok (.if_icmp .ne 10, 3) := dk_160 0 10 (dk_at dksX4_put_1 8 rfl rfl)
theorem dX4_put_35 : decode cX4_put 35 = .ok (.aload_n 0, 1) := dk_42 (dk_at dksX4_put_1 11 rfl rfl)
theorem dX4_put_36 : decode cX4_put 36 = .ok (.bipush (-12), 2) := dk_16 244 (dk_at dksX4_put_1 12 rfl rfl)
theorem dX4_put_38 : decode cX4_put 38 = .ok (.invokevirtual 380, 3) := dk_182 1 124 (dk_at dksX4_put_1 14 rfl rfl)
theorem dX4_put_41 : decode cX4_put 41 = .ok (.ireturn, 1) := dk_172 (dk_at dksX4_put_1 17 rfl rfl)
theorem dX4_put_42 : decode cX4_put 42 = .ok (.iload_n 2, 1) := dk_28 (dk_at dksX4_put_1 18 rfl rfl)
theorem dX4_put_43 : decode cX4_put 43 = .ok (.iconst 0, 1) := dk_3 (dk_at dksX4_put_1 19 rfl rfl)
theorem dX4_put_44 : decode cX4_put 44 = .ok (.aload_n 0, 1) := dk_42 (dk_at dksX4_put_1 20 rfl rfl)
theorem dX4_put_45 : decode cX4_put 45 = .ok (.getfield 76, 3) := dk_180 0 76 (dk_at dksX4_put_1 21 rfl rfl)
theorem dX4_put_48 : decode cX4_put 48 = .ok (.iload_n 1, 1) := dk_27 (dk_at dksX4_put_2 0 rfl rfl)
theorem dX4_put_49 : decode cX4_put 49 = .ok (.iaload, 1) := dk_46 (dk_at dksX4_put_2 1 rfl rfl)
theorem dX4_put_50 : decode cX4_put 50 = .ok (.iconst 1, 1) := dk_4 (dk_at dksX4_put_2 2 rfl rfl)
theorem dX4_put_51 : decode cX4_put 51 = .ok (.isub, 1) := dk_100 (dk_at dksX4_put_2 3 rfl rfl)
theorem dX4_put_52 : decode cX4_put 52 = .ok (.invokestatic 159, 3) := dk_184 0 159 (dk_at dksX4_put_2 4 rfl rfl)
theorem dX4_put_55 : decode cX4_put 55 = .ok (.ifCond .ne 10, 3) := dk_154 0 10 (dk_at dksX4_put_2 7 rfl rfl)
theorem dX4_put_58 : decode cX4_put 58 = .ok (.aload_n 0, 1) := dk_42 (dk_at dksX4_put_2 10 rfl rfl)
theorem dX4_put_59 : decode cX4_put 59 = .ok (.bipush (-13), 2) := dk_16 243 (dk_at dksX4_put_2 11 rfl rfl)
theorem dX4_put_61 : decode cX4_put 61 = .ok (.invokevirtual 380, 3) := dk_182 1 124 (dk_at dksX4_put_2 13 rfl rfl)
theorem dX4_put_64 : decode cX4_put 64 = .ok (.ireturn, 1) := dk_172 (dk_at dksX4_put_2 16 rfl rfl)
theorem dX4_put_65 : decode cX4_put 65 = .ok (.aload_n 0, 1) := dk_42 (dk_at dksX4_put_2 17 rfl rfl)
theorem dX4_put_66 : decode cX4_put 66 = .ok (.getfield 79, 3) := dk_180 0 79 (dk_at dksX4_put_2 18 rfl rfl)
theorem dX4_put_69 : decode cX4_put 69 = .ok (.bipush 64, 2) := dk_16 64 (dk_at dksX4_put_2 21 rfl rfl)
theorem dX4_put_71 : decode cX4_put 71 = .ok (.iload_n 1, 1) := dk_27 (dk_at dksX4_put_2 23 rfl rfl)
theorem dX4_put_72 : decode cX4_put 72 = .ok (.imul, 1) := dk_104 (dk_at dksX4_put_3 0 rfl rfl)
theorem dX4_put_73 : decode cX4_put 73 = .ok (.iload_n 2, 1) := dk_28 (dk_at dksX4_put_3 1 rfl rfl)
theorem dX4_put_74 : decode cX4_put 74 = .ok (.iadd, 1) := dk_96 (dk_at dksX4_put_3 2 rfl rfl)
theorem dX4_put_75 : decode cX4_put 75 = .ok (.aload_n 0, 1) := dk_42 (dk_at dksX4_put_3 3 rfl rfl)
theorem dX4_put_76 : decode cX4_put 76 = .ok (.getfield 73, 3) := dk_180 0 73 (dk_at dksX4_put_3 4 rfl rfl)
theorem dX4_put_79 : decode cX4_put 79 = .ok (.iload_n 1, 1) := dk_27 (dk_at dksX4_put_3 7 rfl rfl)
theorem dX4_put_80 : decode cX4_put 80 = .ok (.iaload, 1) := dk_46 (dk_at dksX4_put_3 8 rfl rfl)
theorem dX4_put_81 : decode cX4_put 81 = .ok (.lload_n 3, 1) := dk_33 (dk_at dksX4_put_3 9 rfl rfl)
theorem dX4_put_82 : decode cX4_put 82 = .ok (.invokestatic 386, 3) := dk_184 1 130 (dk_at dksX4_put_3 10 rfl rfl)
theorem dX4_put_85 : decode cX4_put 85 = .ok (.lastore, 1) := dk_80 (dk_at dksX4_put_3 13 rfl rfl)
theorem dX4_put_86 : decode cX4_put 86 = .ok (.iconst 1, 1) := dk_4 (dk_at dksX4_put_3 14 rfl rfl)
theorem dX4_put_87 : decode cX4_put 87 = .ok (.ireturn, 1) := dk_172 (dk_at dksX4_put_3 15 rfl rfl)
abbrev cX4_narrowed : ByteArray := prog_23_method_82_code
def yX4_narrowed : MethodName := ⟨RX4, "narrowed", "(IJ)J"⟩
def dkwX4_narrowed_1 : List UInt8 := [26, 6, 160, 0, 9, 31, 136, 133, 167, 0, 4, 31, 173]
abbrev dktX4_narrowed_1 : List UInt8 := dkwX4_narrowed_1 ++ []
def dkwX4_narrowed_0 : List UInt8 := [26, 4, 160, 0, 10, 31, 136, 145, 133, 167, 0, 27, 26, 5, 160, 0, 10, 31, 136, 147, 133, 167, 0, 15]
abbrev dktX4_narrowed_0 : List UInt8 := dkwX4_narrowed_0 ++ dktX4_narrowed_1
theorem dksX4_narrowed_0 : cX4_narrowed.data.toList.drop 0 = dktX4_narrowed_0 := by decide +kernel
theorem dksX4_narrowed_1 : cX4_narrowed.data.toList.drop 24 = dktX4_narrowed_1 := dk_seg dksX4_narrowed_0 24 rfl rfl
theorem dX4_narrowed_0 : decode cX4_narrowed 0 = .ok (.iload_n 0, 1) := dk_26 (dk_at dksX4_narrowed_0 0 rfl rfl)
theorem dX4_narrowed_1 : decode cX4_narrowed 1 = .ok (.iconst 1, 1) := dk_4 (dk_at dksX4_narrowed_0 1 rfl rfl)
theorem dX4_narrowed_2 : decode cX4_narrowed 2 = .ok (.if_icmp .ne 10, 3) := dk_160 0 10 (dk_at dksX4_narrowed_0 2 rfl rfl)
theorem dX4_narrowed_5 : decode cX4_narrowed 5 = .ok (.lload_n 1, 1) := dk_31 (dk_at dksX4_narrowed_0 5 rfl rfl)
theorem dX4_narrowed_6 : decode cX4_narrowed 6 = .ok (.l2i, 1) := dk_136 (dk_at dksX4_narrowed_0 6 rfl rfl)
theorem dX4_narrowed_7 : decode cX4_narrowed 7 = .ok (.i2b, 1) := dk_145 (dk_at dksX4_narrowed_0 7 rfl rfl)
theorem dX4_narrowed_8 : decode cX4_narrowed 8 = .ok (.i2l, 1) := dk_133 (dk_at dksX4_narrowed_0 8 rfl rfl)
theorem dX4_narrowed_9 : decode cX4_narrowed 9 = .ok (.goto 27, 3) := dk_167 0 27 (dk_at dksX4_narrowed_0 9 rfl rfl)
theorem dX4_narrowed_12 : decode cX4_narrowed 12 = .ok (.iload_n 0, 1) := dk_26 (dk_at dksX4_narrowed_0 12 rfl rfl)
theorem dX4_narrowed_13 : decode cX4_narrowed 13 = .ok (.iconst 2, 1) := dk_5 (dk_at dksX4_narrowed_0 13 rfl rfl)
theorem dX4_narrowed_14 : decode cX4_narrowed 14 = .ok (.if_icmp .ne 10, 3) := dk_160 0 10 (dk_at dksX4_narrowed_0 14 rfl rfl)
theorem dX4_narrowed_17 : decode cX4_narrowed 17 = .ok (.lload_n 1, 1) := dk_31 (dk_at dksX4_narrowed_0 17 rfl rfl)
theorem dX4_narrowed_18 : decode cX4_narrowed 18 = .ok (.l2i, 1) := dk_136 (dk_at dksX4_narrowed_0 18 rfl rfl)
theorem dX4_narrowed_19 : decode cX4_narrowed 19 = .ok (.i2s, 1) := dk_147 (dk_at dksX4_narrowed_0 19 rfl rfl)
theorem dX4_narrowed_20 : decode cX4_narrowed 20 = .ok (.i2l, 1) := dk_133 (dk_at dksX4_narrowed_0 20 rfl rfl)
theorem dX4_narrowed_21 : decode cX4_narrowed 21 = .ok (.goto 15, 3) := dk_167 0 15 (dk_at dksX4_narrowed_0 21 rfl rfl)
theorem dX4_narrowed_24 : decode cX4_narrowed 24 = .ok (.iload_n 0, 1) := dk_26 (dk_at dksX4_narrowed_1 0 rfl rfl)
theorem dX4_narrowed_25 : decode cX4_narrowed 25 = .ok (.iconst 3, 1) := dk_6 (dk_at dksX4_narrowed_1 1 rfl rfl)
theorem dX4_narrowed_26 : decode cX4_narrowed 26 = .ok (.if_icmp .ne 9, 3) := dk_160 0 9 (dk_at dksX4_narrowed_1 2 rfl rfl)
theorem dX4_narrowed_29 : decode cX4_narrowed 29 = .ok (.lload_n 1, 1) := dk_31 (dk_at dksX4_narrowed_1 5 rfl rfl)
theorem dX4_narrowed_30 : decode cX4_narrowed 30 = .ok (.l2i, 1) := dk_136 (dk_at dksX4_narrowed_1 6 rfl rfl)
theorem dX4_narrowed_31 : decode cX4_narrowed 31 = .ok (.i2l, 1) := dk_133 (dk_at dksX4_narrowed_1 7 rfl rfl)
theorem dX4_narrowed_32 : decode cX4_narrowed 32 = .ok (.goto 4, 3) := dk_167 0 4 (dk_at dksX4_narrowed_1 8 rfl rfl)
theorem dX4_narrowed_35 : decode cX4_narrowed 35 = .ok (.lload_n 1, 1) := dk_31 (dk_at dksX4_narrowed_1 11 rfl rfl)
theorem dX4_narrowed_36 : decode cX4_narrowed 36 = .ok (.lreturn, 1) := dk_173 (dk_at dksX4_narrowed_1 12 rfl rfl)
abbrev cX4_at : ByteArray := prog_23_method_84_code
def yX4_at : MethodName := ⟨RX4, "at", "(II)J"⟩
def dkwX4_at_3 : List UInt8 := [27, 104, 28, 96, 47, 167, 0, 4, 9, 173]
abbrev dktX4_at_3 : List UInt8 := dkwX4_at_3 ++ []
def dkwX4_at_2 : List UInt8 := [154, 0, 7, 5, 167, 0, 4, 3, 181, 0, 131, 42, 180, 0, 131, 154, 0, 17, 42, 180, 0, 79, 16, 64]
abbrev dktX4_at_2 : List UInt8 := dkwX4_at_2 ++ dktX4_at_3
def dkwX4_at_1 : List UInt8 := [180, 0, 73, 27, 46, 8, 159, 0, 19, 28, 3, 42, 180, 0, 76, 27, 46, 4, 100, 184, 0, 159]
abbrev dktX4_at_1 : List UInt8 := dkwX4_at_1 ++ dktX4_at_2
def dkwX4_at_0 : List UInt8 := [42, 27, 184, 1, 121, 154, 0, 7, 4, 167, 0, 43, 42, 180, 0, 73, 27, 46, 153, 0, 29, 42]
abbrev dktX4_at_0 : List UInt8 := dkwX4_at_0 ++ dktX4_at_1
theorem dksX4_at_0 : cX4_at.data.toList.drop 0 = dktX4_at_0 := by decide +kernel
theorem dksX4_at_1 : cX4_at.data.toList.drop 22 = dktX4_at_1 := dk_seg dksX4_at_0 22 rfl rfl
theorem dksX4_at_2 : cX4_at.data.toList.drop 44 = dktX4_at_2 := dk_seg dksX4_at_1 22 rfl rfl
theorem dksX4_at_3 : cX4_at.data.toList.drop 68 = dktX4_at_3 := dk_seg dksX4_at_2 24 rfl rfl
theorem dX4_at_0 : decode cX4_at 0 = .ok (.aload_n 0, 1) := dk_42 (dk_at dksX4_at_0 0 rfl rfl)
theorem dX4_at_1 : decode cX4_at 1 = .ok (.iload_n 1, 1) := dk_27 (dk_at dksX4_at_0 1 rfl rfl)
theorem dX4_at_2 : decode cX4_at 2 = .ok (.invokestatic 377, 3) := dk_184 1 121 (dk_at dksX4_at_0 2 rfl rfl)
theorem dX4_at_5 : decode cX4_at 5 = .ok (.ifCond .ne 7, 3) := dk_154 0 7 (dk_at dksX4_at_0 5 rfl rfl)
theorem dX4_at_8 : decode cX4_at 8 = .ok (.iconst 1, 1) := dk_4 (dk_at dksX4_at_0 8 rfl rfl)
theorem dX4_at_9 : decode cX4_at 9 = .ok (.goto 43, 3) := dk_167 0 43 (dk_at dksX4_at_0 9 rfl rfl)
theorem dX4_at_12 : decode cX4_at 12 = .ok (.aload_n 0, 1) := dk_42 (dk_at dksX4_at_0 12 rfl rfl)
theorem dX4_at_13 : decode cX4_at 13 = .ok (.getfield 73, 3) := dk_180 0 73 (dk_at dksX4_at_0 13 rfl rfl)
theorem dX4_at_16 : decode cX4_at 16 = .ok (.iload_n 1, 1) := dk_27 (dk_at dksX4_at_0 16 rfl rfl)
theorem dX4_at_17 : decode cX4_at 17 = .ok (.iaload, 1) := dk_46 (dk_at dksX4_at_0 17 rfl rfl)
theorem dX4_at_18 : decode cX4_at 18 = .ok (.ifCond .eq 29, 3) := dk_153 0 29 (dk_at dksX4_at_0 18 rfl rfl)
theorem dX4_at_21 : decode cX4_at 21 = .ok (.aload_n 0, 1) := dk_42 (dk_at dksX4_at_0 21 rfl rfl)
theorem dX4_at_22 : decode cX4_at 22 = .ok (.getfield 73, 3) := dk_180 0 73 (dk_at dksX4_at_1 0 rfl rfl)
theorem dX4_at_25 : decode cX4_at 25 = .ok (.iload_n 1, 1) := dk_27 (dk_at dksX4_at_1 3 rfl rfl)
theorem dX4_at_26 : decode cX4_at 26 = .ok (.iaload, 1) := dk_46 (dk_at dksX4_at_1 4 rfl rfl)
theorem dX4_at_27 : decode cX4_at 27 = .ok (.iconst 5, 1) := dk_8 (dk_at dksX4_at_1 5 rfl rfl)
theorem dX4_at_28 : decode cX4_at 28 = .ok (.if_icmp .eq 19, 3) := dk_159 0 19 (dk_at dksX4_at_1 6 rfl rfl)
theorem dX4_at_31 : decode cX4_at 31 = .ok (.iload_n 2, 1) := dk_28 (dk_at dksX4_at_1 9 rfl rfl)
theorem dX4_at_32 : decode cX4_at 32 = .ok (.iconst 0, 1) := dk_3 (dk_at dksX4_at_1 10 rfl rfl)
theorem dX4_at_33 : decode cX4_at 33 = .ok (.aload_n 0, 1) := dk_42 (dk_at dksX4_at_1 11 rfl rfl)
theorem dX4_at_34 : decode cX4_at 34 = .ok (.getfield 76, 3) := dk_180 0 76 (dk_at dksX4_at_1 12 rfl rfl)
theorem dX4_at_37 : decode cX4_at 37 = .ok (.iload_n 1, 1) := dk_27 (dk_at dksX4_at_1 15 rfl rfl)
theorem dX4_at_38 : decode cX4_at 38 = .ok (.iaload, 1) := dk_46 (dk_at dksX4_at_1 16 rfl rfl)
theorem dX4_at_39 : decode cX4_at 39 = .ok (.iconst 1, 1) := dk_4 (dk_at dksX4_at_1 17 rfl rfl)
theorem dX4_at_40 : decode cX4_at 40 = .ok (.isub, 1) := dk_100 (dk_at dksX4_at_1 18 rfl rfl)
theorem dX4_at_41 : decode cX4_at 41 = .ok (.invokestatic 159, 3) := dk_184 0 159 (dk_at dksX4_at_1 19 rfl rfl)
theorem dX4_at_44 : decode cX4_at 44 = .ok (.ifCond .ne 7, 3) := dk_154 0 7 (dk_at dksX4_at_2 0 rfl rfl)
theorem dX4_at_47 : decode cX4_at 47 = .ok (.iconst 2, 1) := dk_5 (dk_at dksX4_at_2 3 rfl rfl)
theorem dX4_at_48 : decode cX4_at 48 = .ok (.goto 4, 3) := dk_167 0 4 (dk_at dksX4_at_2 4 rfl rfl)
theorem dX4_at_51 : decode cX4_at 51 = .ok (.iconst 0, 1) := dk_3 (dk_at dksX4_at_2 7 rfl rfl)
theorem dX4_at_52 : decode cX4_at 52 = .ok (.putfield 131, 3) := dk_181 0 131 (dk_at dksX4_at_2 8 rfl rfl)
theorem dX4_at_55 : decode cX4_at 55 = .ok (.aload_n 0, 1) := dk_42 (dk_at dksX4_at_2 11 rfl rfl)
theorem dX4_at_56 : decode cX4_at 56 = .ok (.getfield 131, 3) := dk_180 0 131 (dk_at dksX4_at_2 12 rfl rfl)
theorem dX4_at_59 : decode cX4_at 59 = .ok (.ifCond .ne 17, 3) := dk_154 0 17 (dk_at dksX4_at_2 15 rfl rfl)
theorem dX4_at_62 : decode cX4_at 62 = .ok (.aload_n 0, 1) := dk_42 (dk_at dksX4_at_2 18 rfl rfl)
theorem dX4_at_63 : decode cX4_at 63 = .ok (.getfield 79, 3) := dk_180 0 79 (dk_at dksX4_at_2 19 rfl rfl)
theorem dX4_at_66 : decode cX4_at 66 = .ok (.bipush 64, 2) := dk_16 64 (dk_at dksX4_at_2 22 rfl rfl)
theorem dX4_at_68 : decode cX4_at 68 = .ok (.iload_n 1, 1) := dk_27 (dk_at dksX4_at_3 0 rfl rfl)
theorem dX4_at_69 : decode cX4_at 69 = .ok (.imul, 1) := dk_104 (dk_at dksX4_at_3 1 rfl rfl)
theorem dX4_at_70 : decode cX4_at 70 = .ok (.iload_n 2, 1) := dk_28 (dk_at dksX4_at_3 2 rfl rfl)
theorem dX4_at_71 : decode cX4_at 71 = .ok (.iadd, 1) := dk_96 (dk_at dksX4_at_3 3 rfl rfl)
theorem dX4_at_72 : decode cX4_at 72 = .ok (.laload, 1) := dk_47 (dk_at dksX4_at_3 4 rfl rfl)
theorem dX4_at_73 : decode cX4_at 73 = .ok (.goto 4, 3) := dk_167 0 4 (dk_at dksX4_at_3 5 rfl rfl)
theorem dX4_at_76 : decode cX4_at 76 = .ok (.lconst 0, 1) := dk_9 (dk_at dksX4_at_3 8 rfl rfl)
theorem dX4_at_77 : decode cX4_at 77 = .ok (.lreturn, 1) := dk_173 (dk_at dksX4_at_3 9 rfl rfl)
abbrev cX4_copy : ByteArray := prog_23_method_85_code
def yX4_copy : MethodName := ⟨RX4, "copy", "(IIIII)I"⟩
def dkwX4_copy_8 : List UInt8 := [80, 132, 6, 1, 167, 255, 224, 21, 5, 172]
abbrev dktX4_copy_8 : List UInt8 := dkwX4_copy_8 ++ []
def dkwX4_copy_7 : List UInt8 := [162, 0, 31, 42, 180, 0, 79, 16, 64, 29, 104, 21, 4, 96, 21, 6, 96, 42, 180, 0, 125, 21, 6, 47]
abbrev dktX4_copy_7 : List UInt8 := dkwX4_copy_7 ++ dktX4_copy_8
def dkwX4_copy_6 : List UInt8 := [16, 64, 27, 104, 28, 96, 21, 6, 96, 47, 80, 132, 6, 1, 167, 255, 225, 3, 54, 6, 21, 6, 21, 5]
abbrev dktX4_copy_6 : List UInt8 := dkwX4_copy_6 ++ dktX4_copy_7
def dkwX4_copy_5 : List UInt8 := [182, 1, 124, 172, 3, 54, 6, 21, 6, 21, 5, 162, 0, 30, 42, 180, 0, 125, 21, 6, 42, 180, 0, 79]
abbrev dktX4_copy_5 : List UInt8 := dkwX4_copy_5 ++ dktX4_copy_6
def dkwX4_copy_4 : List UInt8 := [27, 46, 28, 100, 163, 0, 17, 21, 5, 42, 180, 0, 76, 29, 46, 21, 4, 100, 164, 0, 10, 42, 16, 243]
abbrev dktX4_copy_4 : List UInt8 := dkwX4_copy_4 ++ dktX4_copy_5
def dkwX4_copy_3 : List UInt8 := [182, 1, 124, 172, 21, 5, 155, 0, 39, 28, 155, 0, 35, 21, 4, 155, 0, 30, 21, 5, 42, 180, 0, 76]
abbrev dktX4_copy_3 : List UInt8 := dkwX4_copy_3 ++ dktX4_copy_4
def dkwX4_copy_2 : List UInt8 := [46, 8, 159, 0, 18, 42, 180, 0, 73, 27, 46, 42, 180, 0, 73, 29, 46, 159, 0, 10, 42, 16, 244]
abbrev dktX4_copy_2 : List UInt8 := dkwX4_copy_2 ++ dktX4_copy_3
def dkwX4_copy_1 : List UInt8 := [153, 0, 12, 42, 180, 0, 73, 29, 46, 154, 0, 10, 42, 16, 245, 182, 1, 124, 172, 42, 180, 0, 73, 27]
abbrev dktX4_copy_1 : List UInt8 := dkwX4_copy_1 ++ dktX4_copy_2
def dkwX4_copy_0 : List UInt8 := [27, 184, 1, 121, 153, 0, 10, 29, 184, 1, 121, 154, 0, 5, 2, 172, 42, 180, 0, 73, 27, 46]
abbrev dktX4_copy_0 : List UInt8 := dkwX4_copy_0 ++ dktX4_copy_1
theorem dksX4_copy_0 : cX4_copy.data.toList.drop 0 = dktX4_copy_0 := by decide +kernel
theorem dksX4_copy_1 : cX4_copy.data.toList.drop 22 = dktX4_copy_1 := dk_seg dksX4_copy_0 22 rfl rfl
theorem dksX4_copy_2 : cX4_copy.data.toList.drop 46 = dktX4_copy_2 := dk_seg dksX4_copy_1 24 rfl rfl
theorem dksX4_copy_3 : cX4_copy.data.toList.drop 69 = dktX4_copy_3 := dk_seg dksX4_copy_2 23 rfl rfl
theorem dksX4_copy_4 : cX4_copy.data.toList.drop 93 = dktX4_copy_4 := dk_seg dksX4_copy_3 24 rfl rfl
theorem dksX4_copy_5 : cX4_copy.data.toList.drop 117 = dktX4_copy_5 := dk_seg dksX4_copy_4 24 rfl rfl
theorem dksX4_copy_6 : cX4_copy.data.toList.drop 141 = dktX4_copy_6 := dk_seg dksX4_copy_5 24 rfl rfl
theorem dksX4_copy_7 : cX4_copy.data.toList.drop 165 = dktX4_copy_7 := dk_seg dksX4_copy_6 24 rfl rfl
theorem dksX4_copy_8 : cX4_copy.data.toList.drop 189 = dktX4_copy_8 := dk_seg dksX4_copy_7 24 rfl rfl
theorem dX4_copy_0 : decode cX4_copy 0 = .ok (.iload_n 1, 1) := dk_27 (dk_at dksX4_copy_0 0 rfl rfl)
theorem dX4_copy_1 : decode cX4_copy 1 = .ok (.invokestatic 377, 3) := dk_184 1 121 (dk_at dksX4_copy_0 1 rfl rfl)
theorem dX4_copy_4 : decode cX4_copy 4 = .ok (.ifCond .eq 10, 3) := dk_153 0 10 (dk_at dksX4_copy_0 4 rfl rfl)
theorem dX4_copy_7 : decode cX4_copy 7 = .ok (.iload_n 3, 1) := dk_29 (dk_at dksX4_copy_0 7 rfl rfl)
theorem dX4_copy_8 : decode cX4_copy 8 = .ok (.invokestatic 377, 3) := dk_184 1 121 (dk_at dksX4_copy_0 8 rfl rfl)
theorem dX4_copy_11 : decode cX4_copy 11 = .ok (.ifCond .ne 5, 3) := dk_154 0 5 (dk_at dksX4_copy_0 11 rfl rfl)
theorem dX4_copy_14 : decode cX4_copy 14 = .ok (.iconst (-1), 1) := dk_2 (dk_at dksX4_copy_0 14 rfl rfl)
theorem dX4_copy_15 : decode cX4_copy 15 = .ok (.ireturn, 1) := dk_172 (dk_at dksX4_copy_0 15 rfl rfl)
theorem dX4_copy_16 : decode cX4_copy 16 = .ok (.aload_n 0, 1) := dk_42 (dk_at dksX4_copy_0 16 rfl rfl)
theorem dX4_copy_17 : decode cX4_copy 17 = .ok (.getfield 73, 3) := dk_180 0 73 (dk_at dksX4_copy_0 17 rfl rfl)
theorem dX4_copy_20 : decode cX4_copy 20 = .ok (.iload_n 1, 1) := dk_27 (dk_at dksX4_copy_0 20 rfl rfl)
theorem dX4_copy_21 : decode cX4_copy 21 = .ok (.iaload, 1) := dk_46 (dk_at dksX4_copy_0 21 rfl rfl)
theorem dX4_copy_22 : decode cX4_copy 22 = .ok (.ifCond .eq 12, 3) := dk_153 0 12 (dk_at dksX4_copy_1 0 rfl rfl)
theorem dX4_copy_25 : decode cX4_copy 25 = .ok (.aload_n 0, 1) := dk_42 (dk_at dksX4_copy_1 3 rfl rfl)
theorem dX4_copy_26 : decode cX4_copy 26 = .ok (.getfield 73, 3) := dk_180 0 73 (dk_at dksX4_copy_1 4 rfl rfl)
theorem dX4_copy_29 : decode cX4_copy 29 = .ok (.iload_n 3, 1) := dk_29 (dk_at dksX4_copy_1 7 rfl rfl)
theorem dX4_copy_30 : decode cX4_copy 30 = .ok (.iaload, 1) := dk_46 (dk_at dksX4_copy_1 8 rfl rfl)
theorem dX4_copy_31 : decode cX4_copy 31 = .ok (.ifCond .ne 10, 3) := dk_154 0 10 (dk_at dksX4_copy_1 9 rfl rfl)
theorem dX4_copy_34 : decode cX4_copy 34 = .ok (.aload_n 0, 1) := dk_42 (dk_at dksX4_copy_1 12 rfl rfl)
theorem dX4_copy_35 : decode cX4_copy 35 = .ok (.bipush (-11), 2) := dk_16 245 (dk_at dksX4_copy_1 13 rfl rfl)
theorem dX4_copy_37 : decode cX4_copy 37 = .ok (.invokevirtual 380, 3) := dk_182 1 124 (dk_at dksX4_copy_1 15 rfl rfl)
theorem dX4_copy_40 : decode cX4_copy 40 = .ok (.ireturn, 1) := dk_172 (dk_at dksX4_copy_1 18 rfl rfl)
theorem dX4_copy_41 : decode cX4_copy 41 = .ok (.aload_n 0, 1) := dk_42 (dk_at dksX4_copy_1 19 rfl rfl)
theorem dX4_copy_42 : decode cX4_copy 42 = .ok (.getfield 73, 3) := dk_180 0 73 (dk_at dksX4_copy_1 20 rfl rfl)
theorem dX4_copy_45 : decode cX4_copy 45 = .ok (.iload_n 1, 1) := dk_27 (dk_at dksX4_copy_1 23 rfl rfl)
theorem dX4_copy_46 : decode cX4_copy 46 = .ok (.iaload, 1) := dk_46 (dk_at dksX4_copy_2 0 rfl rfl)
theorem dX4_copy_47 : decode cX4_copy 47 = .ok (.iconst 5, 1) := dk_8 (dk_at dksX4_copy_2 1 rfl rfl)
theorem dX4_copy_48 : decode cX4_copy 48 = .ok (.if_icmp .eq 18, 3) := dk_159 0 18 (dk_at dksX4_copy_2 2 rfl rfl)
theorem dX4_copy_51 : decode cX4_copy 51 = .ok (.aload_n 0, 1) := dk_42 (dk_at dksX4_copy_2 5 rfl rfl)
theorem dX4_copy_52 : decode cX4_copy 52 = .ok (.getfield 73, 3) := dk_180 0 73 (dk_at dksX4_copy_2 6 rfl rfl)
theorem dX4_copy_55 : decode cX4_copy 55 = .ok (.iload_n 1, 1) := dk_27 (dk_at dksX4_copy_2 9 rfl rfl)
theorem dX4_copy_56 : decode cX4_copy 56 = .ok (.iaload, 1) := dk_46 (dk_at dksX4_copy_2 10 rfl rfl)
theorem dX4_copy_57 : decode cX4_copy 57 = .ok (.aload_n 0, 1) := dk_42 (dk_at dksX4_copy_2 11 rfl rfl)
theorem dX4_copy_58 : decode cX4_copy 58 = .ok (.getfield 73, 3) := dk_180 0 73 (dk_at dksX4_copy_2 12 rfl rfl)
theorem dX4_copy_61 : decode cX4_copy 61 = .ok (.iload_n 3, 1) := dk_29 (dk_at dksX4_copy_2 15 rfl rfl)
theorem dX4_copy_62 : decode cX4_copy 62 = .ok (.iaload, 1) := dk_46 (dk_at dksX4_copy_2 16 rfl rfl)
theorem dX4_copy_63 : decode cX4_copy 63 = .ok (.if_icmp .eq 10, 3) := dk_159 0 10 (dk_at dksX4_copy_2 17 rfl rfl)
theorem dX4_copy_66 : decode cX4_copy 66 = .ok (.aload_n 0, 1) := dk_42 (dk_at dksX4_copy_2 20 rfl rfl)
theorem dX4_copy_67 : decode cX4_copy 67 = .ok (.bipush (-12), 2) := dk_16 244 (dk_at dksX4_copy_2 21 rfl rfl)
theorem dX4_copy_69 : decode cX4_copy 69 = .ok (.invokevirtual 380, 3) := dk_182 1 124 (dk_at dksX4_copy_3 0 rfl rfl)
theorem dX4_copy_72 : decode cX4_copy 72 = .ok (.ireturn, 1) := dk_172 (dk_at dksX4_copy_3 3 rfl rfl)
theorem dX4_copy_73 : decode cX4_copy 73 = .ok (.iload 5, 2) := dk_21 5 (dk_at dksX4_copy_3 4 rfl rfl)
theorem dX4_copy_75 : decode cX4_copy 75 = .ok (.ifCond .lt 39, 3) := dk_155 0 39 (dk_at dksX4_copy_3 6 rfl rfl)
theorem dX4_copy_78 : decode cX4_copy 78 = .ok (.iload_n 2, 1) := dk_28 (dk_at dksX4_copy_3 9 rfl rfl)
theorem dX4_copy_79 : decode cX4_copy 79 = .ok (.ifCond .lt 35, 3) := dk_155 0 35 (dk_at dksX4_copy_3 10 rfl rfl)
theorem dX4_copy_82 : decode cX4_copy 82 = .ok (.iload 4, 2) := dk_21 4 (dk_at dksX4_copy_3 13 rfl rfl)
theorem dX4_copy_84 : decode cX4_copy 84 = .ok (.ifCond .lt 30, 3) := dk_155 0 30 (dk_at dksX4_copy_3 15 rfl rfl)
theorem dX4_copy_87 : decode cX4_copy 87 = .ok (.iload 5, 2) := dk_21 5 (dk_at dksX4_copy_3 18 rfl rfl)
theorem dX4_copy_89 : decode cX4_copy 89 = .ok (.aload_n 0, 1) := dk_42 (dk_at dksX4_copy_3 20 rfl rfl)
theorem dX4_copy_90 : decode cX4_copy 90 = .ok (.getfield 76, 3) := dk_180 0 76 (dk_at dksX4_copy_3 21 rfl rfl)
theorem dX4_copy_93 : decode cX4_copy 93 = .ok (.iload_n 1, 1) := dk_27 (dk_at dksX4_copy_4 0 rfl rfl)
theorem dX4_copy_94 : decode cX4_copy 94 = .ok (.iaload, 1) := dk_46 (dk_at dksX4_copy_4 1 rfl rfl)
theorem dX4_copy_95 : decode cX4_copy 95 = .ok (.iload_n 2, 1) := dk_28 (dk_at dksX4_copy_4 2 rfl rfl)
theorem dX4_copy_96 : decode cX4_copy 96 = .ok (.isub, 1) := dk_100 (dk_at dksX4_copy_4 3 rfl rfl)
theorem dX4_copy_97 : decode cX4_copy 97 = .ok (.if_icmp .gt 17, 3) := dk_163 0 17 (dk_at dksX4_copy_4 4 rfl rfl)
theorem dX4_copy_100 : decode cX4_copy 100 = .ok (.iload 5, 2) := dk_21 5 (dk_at dksX4_copy_4 7 rfl rfl)
theorem dX4_copy_102 : decode cX4_copy 102 = .ok (.aload_n 0, 1) := dk_42 (dk_at dksX4_copy_4 9 rfl rfl)
theorem dX4_copy_103 : decode cX4_copy 103 = .ok (.getfield 76, 3) := dk_180 0 76 (dk_at dksX4_copy_4 10 rfl rfl)
theorem dX4_copy_106 : decode cX4_copy 106 = .ok (.iload_n 3, 1) := dk_29 (dk_at dksX4_copy_4 13 rfl rfl)
theorem dX4_copy_107 : decode cX4_copy 107 = .ok (.iaload, 1) := dk_46 (dk_at dksX4_copy_4 14 rfl rfl)
theorem dX4_copy_108 : decode cX4_copy 108 = .ok (.iload 4, 2) := dk_21 4 (dk_at dksX4_copy_4 15 rfl rfl)
theorem dX4_copy_110 : decode cX4_copy 110 = .ok (.isub, 1) := dk_100 (dk_at dksX4_copy_4 17 rfl rfl)
theorem dX4_copy_111 : decode cX4_copy 111 = .ok (.if_icmp .le 10, 3) := dk_164 0 10 (dk_at dksX4_copy_4 18 rfl rfl)
theorem dX4_copy_114 : decode cX4_copy 114 = .ok (.aload_n 0, 1) := dk_42 (dk_at dksX4_copy_4 21 rfl rfl)
theorem dX4_copy_115 : decode cX4_copy 115 = .ok (.bipush (-13), 2) := dk_16 243 (dk_at dksX4_copy_4 22 rfl rfl)
theorem dX4_copy_117 : decode cX4_copy 117 = .ok (.invokevirtual 380, 3) := dk_182 1 124 (dk_at dksX4_copy_5 0 rfl rfl)
theorem dX4_copy_120 : decode cX4_copy 120 = .ok (.ireturn, 1) := dk_172 (dk_at dksX4_copy_5 3 rfl rfl)
theorem dX4_copy_121 : decode cX4_copy 121 = .ok (.iconst 0, 1) := dk_3 (dk_at dksX4_copy_5 4 rfl rfl)
theorem dX4_copy_122 : decode cX4_copy 122 = .ok (.istore 6, 2) := dk_54 6 (dk_at dksX4_copy_5 5 rfl rfl)
theorem dX4_copy_124 : decode cX4_copy 124 = .ok (.iload 6, 2) := dk_21 6 (dk_at dksX4_copy_5 7 rfl rfl)
theorem dX4_copy_126 : decode cX4_copy 126 = .ok (.iload 5, 2) := dk_21 5 (dk_at dksX4_copy_5 9 rfl rfl)
theorem dX4_copy_128 : decode cX4_copy 128 = .ok (.if_icmp .ge 30, 3) := dk_162 0 30 (dk_at dksX4_copy_5 11 rfl rfl)
theorem dX4_copy_131 : decode cX4_copy 131 = .ok (.aload_n 0, 1) := dk_42 (dk_at dksX4_copy_5 14 rfl rfl)
theorem dX4_copy_132 : decode cX4_copy 132 = .ok (.getfield 125, 3) := dk_180 0 125 (dk_at dksX4_copy_5 15 rfl rfl)
theorem dX4_copy_135 : decode cX4_copy 135 = .ok (.iload 6, 2) := dk_21 6 (dk_at dksX4_copy_5 18 rfl rfl)
theorem dX4_copy_137 : decode cX4_copy 137 = .ok (.aload_n 0, 1) := dk_42 (dk_at dksX4_copy_5 20 rfl rfl)
theorem dX4_copy_138 : decode cX4_copy 138 = .ok (.getfield 79, 3) := dk_180 0 79 (dk_at dksX4_copy_5 21 rfl rfl)
theorem dX4_copy_141 : decode cX4_copy 141 = .ok (.bipush 64, 2) := dk_16 64 (dk_at dksX4_copy_6 0 rfl rfl)
theorem dX4_copy_143 : decode cX4_copy 143 = .ok (.iload_n 1, 1) := dk_27 (dk_at dksX4_copy_6 2 rfl rfl)
theorem dX4_copy_144 : decode cX4_copy 144 = .ok (.imul, 1) := dk_104 (dk_at dksX4_copy_6 3 rfl rfl)
theorem dX4_copy_145 : decode cX4_copy 145 = .ok (.iload_n 2, 1) := dk_28 (dk_at dksX4_copy_6 4 rfl rfl)
theorem dX4_copy_146 : decode cX4_copy 146 = .ok (.iadd, 1) := dk_96 (dk_at dksX4_copy_6 5 rfl rfl)
theorem dX4_copy_147 : decode cX4_copy 147 = .ok (.iload 6, 2) := dk_21 6 (dk_at dksX4_copy_6 6 rfl rfl)
theorem dX4_copy_149 : decode cX4_copy 149 = .ok (.iadd, 1) := dk_96 (dk_at dksX4_copy_6 8 rfl rfl)
theorem dX4_copy_150 : decode cX4_copy 150 = .ok (.laload, 1) := dk_47 (dk_at dksX4_copy_6 9 rfl rfl)
theorem dX4_copy_151 : decode cX4_copy 151 = .ok (.lastore, 1) := dk_80 (dk_at dksX4_copy_6 10 rfl rfl)
theorem dX4_copy_152 : decode cX4_copy 152 = .ok (.iinc 6 1, 3) := dk_132 6 1 (dk_at dksX4_copy_6 11 rfl rfl)
theorem dX4_copy_155 : decode cX4_copy 155 = .ok (.goto (-31), 3) := dk_167 255 225 (dk_at dksX4_copy_6 14 rfl rfl)
theorem dX4_copy_158 : decode cX4_copy 158 = .ok (.iconst 0, 1) := dk_3 (dk_at dksX4_copy_6 17 rfl rfl)
theorem dX4_copy_159 : decode cX4_copy 159 = .ok (.istore 6, 2) := dk_54 6 (dk_at dksX4_copy_6 18 rfl rfl)
theorem dX4_copy_161 : decode cX4_copy 161 = .ok (.iload 6, 2) := dk_21 6 (dk_at dksX4_copy_6 20 rfl rfl)
theorem dX4_copy_163 : decode cX4_copy 163 = .ok (.iload 5, 2) := dk_21 5 (dk_at dksX4_copy_6 22 rfl rfl)
theorem dX4_copy_165 : decode cX4_copy 165 = .ok (.if_icmp .ge 31, 3) := dk_162 0 31 (dk_at dksX4_copy_7 0 rfl rfl)
theorem dX4_copy_168 : decode cX4_copy 168 = .ok (.aload_n 0, 1) := dk_42 (dk_at dksX4_copy_7 3 rfl rfl)
theorem dX4_copy_169 : decode cX4_copy 169 = .ok (.getfield 79, 3) := dk_180 0 79 (dk_at dksX4_copy_7 4 rfl rfl)
theorem dX4_copy_172 : decode cX4_copy 172 = .ok (.bipush 64, 2) := dk_16 64 (dk_at dksX4_copy_7 7 rfl rfl)
theorem dX4_copy_174 : decode cX4_copy 174 = .ok (.iload_n 3, 1) := dk_29 (dk_at dksX4_copy_7 9 rfl rfl)
theorem dX4_copy_175 : decode cX4_copy 175 = .ok (.imul, 1) := dk_104 (dk_at dksX4_copy_7 10 rfl rfl)
theorem dX4_copy_176 : decode cX4_copy 176 = .ok (.iload 4, 2) := dk_21 4 (dk_at dksX4_copy_7 11 rfl rfl)
theorem dX4_copy_178 : decode cX4_copy 178 = .ok (.iadd, 1) := dk_96 (dk_at dksX4_copy_7 13 rfl rfl)
theorem dX4_copy_179 : decode cX4_copy 179 = .ok (.iload 6, 2) := dk_21 6 (dk_at dksX4_copy_7 14 rfl rfl)
theorem dX4_copy_181 : decode cX4_copy 181 = .ok (.iadd, 1) := dk_96 (dk_at dksX4_copy_7 16 rfl rfl)
theorem dX4_copy_182 : decode cX4_copy 182 = .ok (.aload_n 0, 1) := dk_42 (dk_at dksX4_copy_7 17 rfl rfl)
theorem dX4_copy_183 : decode cX4_copy 183 = .ok (.getfield 125, 3) := dk_180 0 125 (dk_at dksX4_copy_7 18 rfl rfl)
theorem dX4_copy_186 : decode cX4_copy 186 = .ok (.iload 6, 2) := dk_21 6 (dk_at dksX4_copy_7 21 rfl rfl)
theorem dX4_copy_188 : decode cX4_copy 188 = .ok (.laload, 1) := dk_47 (dk_at dksX4_copy_7 23 rfl rfl)
theorem dX4_copy_189 : decode cX4_copy 189 = .ok (.lastore, 1) := dk_80 (dk_at dksX4_copy_8 0 rfl rfl)
theorem dX4_copy_190 : decode cX4_copy 190 = .ok (.iinc 6 1, 3) := dk_132 6 1 (dk_at dksX4_copy_8 1 rfl rfl)
theorem dX4_copy_193 : decode cX4_copy 193 = .ok (.goto (-32), 3) := dk_167 255 224 (dk_at dksX4_copy_8 4 rfl rfl)
theorem dX4_copy_196 : decode cX4_copy 196 = .ok (.iload 5, 2) := dk_21 5 (dk_at dksX4_copy_8 7 rfl rfl)
theorem dX4_copy_198 : decode cX4_copy 198 = .ok (.ireturn, 1) := dk_172 (dk_at dksX4_copy_8 9 rfl rfl)
abbrev cX4_count : ByteArray := prog_23_method_86_code
def yX4_count : MethodName := ⟨RX4, "count", "(I)I"⟩
def dkwX4_count_4 : List UInt8 := [184, 0, 159, 153, 0, 15, 42, 180, 0, 19, 27, 16, 20, 100, 46, 167, 0, 4, 2, 172]
abbrev dktX4_count_4 : List UInt8 := dkwX4_count_4 ++ []
def dkwX4_count_3 : List UInt8 := [100, 182, 0, 172, 153, 0, 15, 42, 180, 0, 25, 27, 16, 10, 100, 46, 167, 0, 27, 27, 16, 20, 16, 23]
abbrev dktX4_count_3 : List UInt8 := dkwX4_count_3 ++ dktX4_count_4
def dkwX4_count_2 : List UInt8 := [42, 180, 0, 137, 172, 42, 180, 0, 140, 172, 42, 180, 0, 143, 172, 42, 180, 0, 134, 172, 42, 27, 16, 10]
abbrev dktX4_count_2 : List UInt8 := dkwX4_count_2 ++ dktX4_count_3
def dkwX4_count_1 : List UInt8 := [170, 0, 0, 0, 0, 0, 51, 0, 0, 0, 0, 0, 0, 0, 3, 0, 0, 0, 31, 0, 0, 0, 36, 0, 0, 0, 41, 0, 0, 0, 46]
abbrev dktX4_count_1 : List UInt8 := dkwX4_count_1 ++ dktX4_count_2
def dkwX4_count_0 : List UInt8 := [27]
abbrev dktX4_count_0 : List UInt8 := dkwX4_count_0 ++ dktX4_count_1
theorem dksX4_count_0 : cX4_count.data.toList.drop 0 = dktX4_count_0 := by decide +kernel
theorem dksX4_count_1 : cX4_count.data.toList.drop 1 = dktX4_count_1 := dk_seg dksX4_count_0 1 rfl rfl
theorem dksX4_count_2 : cX4_count.data.toList.drop 32 = dktX4_count_2 := dk_seg dksX4_count_1 31 rfl rfl
theorem dksX4_count_3 : cX4_count.data.toList.drop 56 = dktX4_count_3 := dk_seg dksX4_count_2 24 rfl rfl
theorem dksX4_count_4 : cX4_count.data.toList.drop 80 = dktX4_count_4 := dk_seg dksX4_count_3 24 rfl rfl
theorem dX4_count_0 : decode cX4_count 0 = .ok (.iload_n 1, 1) := dk_27 (dk_at dksX4_count_0 0 rfl rfl)
theorem dX4_count_1 : decode cX4_count 1 = .ok (.tableswitch 51 0 3 #[31, 36, 41, 46], 31) := by decide +kernel
theorem dX4_count_32 : decode cX4_count 32 = .ok (.aload_n 0, 1) := dk_42 (dk_at dksX4_count_2 0 rfl rfl)
theorem dX4_count_33 : decode cX4_count 33 = .ok (.getfield 137, 3) := dk_180 0 137 (dk_at dksX4_count_2 1 rfl rfl)
theorem dX4_count_36 : decode cX4_count 36 = .ok (.ireturn, 1) := dk_172 (dk_at dksX4_count_2 4 rfl rfl)
theorem dX4_count_37 : decode cX4_count 37 = .ok (.aload_n 0, 1) := dk_42 (dk_at dksX4_count_2 5 rfl rfl)
theorem dX4_count_38 : decode cX4_count 38 = .ok (.getfield 140, 3) := dk_180 0 140 (dk_at dksX4_count_2 6 rfl rfl)
theorem dX4_count_41 : decode cX4_count 41 = .ok (.ireturn, 1) := dk_172 (dk_at dksX4_count_2 9 rfl rfl)
theorem dX4_count_42 : decode cX4_count 42 = .ok (.aload_n 0, 1) := dk_42 (dk_at dksX4_count_2 10 rfl rfl)
theorem dX4_count_43 : decode cX4_count 43 = .ok (.getfield 143, 3) := dk_180 0 143 (dk_at dksX4_count_2 11 rfl rfl)
theorem dX4_count_46 : decode cX4_count 46 = .ok (.ireturn, 1) := dk_172 (dk_at dksX4_count_2 14 rfl rfl)
theorem dX4_count_47 : decode cX4_count 47 = .ok (.aload_n 0, 1) := dk_42 (dk_at dksX4_count_2 15 rfl rfl)
theorem dX4_count_48 : decode cX4_count 48 = .ok (.getfield 134, 3) := dk_180 0 134 (dk_at dksX4_count_2 16 rfl rfl)
theorem dX4_count_51 : decode cX4_count 51 = .ok (.ireturn, 1) := dk_172 (dk_at dksX4_count_2 19 rfl rfl)
theorem dX4_count_52 : decode cX4_count 52 = .ok (.aload_n 0, 1) := dk_42 (dk_at dksX4_count_2 20 rfl rfl)
theorem dX4_count_53 : decode cX4_count 53 = .ok (.iload_n 1, 1) := dk_27 (dk_at dksX4_count_2 21 rfl rfl)
theorem dX4_count_54 : decode cX4_count 54 = .ok (.bipush 10, 2) := dk_16 10 (dk_at dksX4_count_2 22 rfl rfl)
theorem dX4_count_56 : decode cX4_count 56 = .ok (.isub, 1) := dk_100 (dk_at dksX4_count_3 0 rfl rfl)
theorem dX4_count_57 : decode cX4_count 57 = .ok (.invokevirtual 172, 3) := dk_182 0 172 (dk_at dksX4_count_3 1 rfl rfl)
theorem dX4_count_60 : decode cX4_count 60 = .ok (.ifCond .eq 15, 3) := dk_153 0 15 (dk_at dksX4_count_3 4 rfl rfl)
theorem dX4_count_63 : decode cX4_count 63 = .ok (.aload_n 0, 1) := dk_42 (dk_at dksX4_count_3 7 rfl rfl)
theorem dX4_count_64 : decode cX4_count 64 = .ok (.getfield 25, 3) := dk_180 0 25 (dk_at dksX4_count_3 8 rfl rfl)
theorem dX4_count_67 : decode cX4_count 67 = .ok (.iload_n 1, 1) := dk_27 (dk_at dksX4_count_3 11 rfl rfl)
theorem dX4_count_68 : decode cX4_count 68 = .ok (.bipush 10, 2) := dk_16 10 (dk_at dksX4_count_3 12 rfl rfl)
theorem dX4_count_70 : decode cX4_count 70 = .ok (.isub, 1) := dk_100 (dk_at dksX4_count_3 14 rfl rfl)
theorem dX4_count_71 : decode cX4_count 71 = .ok (.iaload, 1) := dk_46 (dk_at dksX4_count_3 15 rfl rfl)
theorem dX4_count_72 : decode cX4_count 72 = .ok (.goto 27, 3) := dk_167 0 27 (dk_at dksX4_count_3 16 rfl rfl)
theorem dX4_count_75 : decode cX4_count 75 = .ok (.iload_n 1, 1) := dk_27 (dk_at dksX4_count_3 19 rfl rfl)
theorem dX4_count_76 : decode cX4_count 76 = .ok (.bipush 20, 2) := dk_16 20 (dk_at dksX4_count_3 20 rfl rfl)
theorem dX4_count_78 : decode cX4_count 78 = .ok (.bipush 23, 2) := dk_16 23 (dk_at dksX4_count_3 22 rfl rfl)
theorem dX4_count_80 : decode cX4_count 80 = .ok (.invokestatic 159, 3) := dk_184 0 159 (dk_at dksX4_count_4 0 rfl rfl)
theorem dX4_count_83 : decode cX4_count 83 = .ok (.ifCond .eq 15, 3) := dk_153 0 15 (dk_at dksX4_count_4 3 rfl rfl)
theorem dX4_count_86 : decode cX4_count 86 = .ok (.aload_n 0, 1) := dk_42 (dk_at dksX4_count_4 6 rfl rfl)
theorem dX4_count_87 : decode cX4_count 87 = .ok (.getfield 19, 3) := dk_180 0 19 (dk_at dksX4_count_4 7 rfl rfl)
theorem dX4_count_90 : decode cX4_count 90 = .ok (.iload_n 1, 1) := dk_27 (dk_at dksX4_count_4 10 rfl rfl)
theorem dX4_count_91 : decode cX4_count 91 = .ok (.bipush 20, 2) := dk_16 20 (dk_at dksX4_count_4 11 rfl rfl)
theorem dX4_count_93 : decode cX4_count 93 = .ok (.isub, 1) := dk_100 (dk_at dksX4_count_4 13 rfl rfl)
theorem dX4_count_94 : decode cX4_count 94 = .ok (.iaload, 1) := dk_46 (dk_at dksX4_count_4 14 rfl rfl)
theorem dX4_count_95 : decode cX4_count 95 = .ok (.goto 4, 3) := dk_167 0 4 (dk_at dksX4_count_4 15 rfl rfl)
theorem dX4_count_98 : decode cX4_count 98 = .ok (.iconst (-1), 1) := dk_2 (dk_at dksX4_count_4 18 rfl rfl)
theorem dX4_count_99 : decode cX4_count 99 = .ok (.ireturn, 1) := dk_172 (dk_at dksX4_count_4 19 rfl rfl)
theorem q61 : (Jvm.Cond.initialized "PennyJudgeModel") ∈ lw_all := lw_g (lw_at lw_m1 4 rfl) rfl
theorem q1398 : (Jvm.Cond.instantiable "PennyJudgeModel" (52 : Nat)) ∈ lw_all := lw_g (lw_at lw_m6 141 rfl) rfl
theorem q1400 : (Jvm.Cond.instanceMethod ({ cls := "PennyJudgeModel", name := "<init>", desc := "()V" } : Jvm.MethodName)) ∈ lw_all := lw_g (lw_at lw_m6 143 rfl) rfl
theorem q1401 : (Jvm.Cond.code ({ cls := "PennyJudgeModel", name := "<init>", desc := "()V" } : Jvm.MethodName) prog_23_method_1_code (1 : Nat) (Option.none : Option Jvm.ClassFile.FieldType)) ∈ lw_all := lw_g (lw_at lw_m6 144 rfl) rfl
theorem q1402 : (Jvm.Cond.methodLink "PennyJudgeModel" (1 : Nat) ({ cls := "java/lang/Object", name := "<init>", desc := "()V" } : Jvm.MethodName)) ∈ lw_all := lw_g (lw_at lw_m6 145 rfl) rfl
theorem q1403 : (Jvm.Cond.methodLink "PennyJudgeModel" (128 : Nat) ({ cls := "PennyJudgeModel", name := "resets", desc := "()V" } : Jvm.MethodName)) ∈ lw_all := lw_g (lw_at lw_m6 146 rfl) rfl
theorem q1404 : (Jvm.Cond.privateMethod ({ cls := "PennyJudgeModel", name := "resets", desc := "()V" } : Jvm.MethodName)) ∈ lw_tbl := lw_at lw_m6 147 rfl
theorem q1405 : (Jvm.Cond.instanceMethod ({ cls := "PennyJudgeModel", name := "resets", desc := "()V" } : Jvm.MethodName)) ∈ lw_all := lw_g (lw_at lw_m6 148 rfl) rfl
theorem q1406 : (Jvm.Cond.code ({ cls := "PennyJudgeModel", name := "resets", desc := "()V" } : Jvm.MethodName) prog_23_method_5_code (2 : Nat) (Option.none : Option Jvm.ClassFile.FieldType)) ∈ lw_all := lw_g (lw_at lw_m6 149 rfl) rfl
theorem q1407 : (Jvm.Cond.methodLink "PennyJudgeModel" (149 : Nat) ({ cls := "PennyJudgeModel", name := "clears", desc := "()V" } : Jvm.MethodName)) ∈ lw_all := lw_g (lw_at lw_m6 150 rfl) rfl
theorem q1408 : (Jvm.Cond.privateMethod ({ cls := "PennyJudgeModel", name := "clears", desc := "()V" } : Jvm.MethodName)) ∈ lw_tbl := lw_at lw_m6 151 rfl
theorem q1409 : (Jvm.Cond.instanceMethod ({ cls := "PennyJudgeModel", name := "clears", desc := "()V" } : Jvm.MethodName)) ∈ lw_all := lw_g (lw_at lw_m6 152 rfl) rfl
theorem q1410 : (Jvm.Cond.code ({ cls := "PennyJudgeModel", name := "clears", desc := "()V" } : Jvm.MethodName) prog_23_method_6_code (2 : Nat) (Option.none : Option Jvm.ClassFile.FieldType)) ∈ lw_all := lw_g (lw_at lw_m6 153 rfl) rfl
theorem q1411 : (Jvm.Cond.fieldLink "PennyJudgeModel" (131 : Nat) "PennyJudgeModel" "thrown" "I") ∈ lw_all := lw_g (lw_at lw_m6 154 rfl) rfl
theorem q1412 : (Jvm.Cond.fieldLink "PennyJudgeModel" (7 : Nat) "PennyJudgeModel" "rateP" "[I") ∈ lw_all := lw_g (lw_at lw_m6 155 rfl) rfl
theorem q1413 : (Jvm.Cond.fieldLink "PennyJudgeModel" (13 : Nat) "PennyJudgeModel" "rateQ" "[I") ∈ lw_all := lw_g (lw_at lw_m6 156 rfl) rfl
theorem q1414 : (Jvm.Cond.fieldLink "PennyJudgeModel" (137 : Nat) "PennyJudgeModel" "lines" "I") ∈ lw_all := lw_g (lw_at lw_m6 157 rfl) rfl
theorem q1415 : (Jvm.Cond.fieldLink "PennyJudgeModel" (16 : Nat) "PennyJudgeModel" "bill" "[I") ∈ lw_all := lw_g (lw_at lw_m6 158 rfl) rfl
theorem q1416 : (Jvm.Cond.fieldLink "PennyJudgeModel" (19 : Nat) "PennyJudgeModel" "weights" "[I") ∈ lw_all := lw_g (lw_at lw_m6 159 rfl) rfl
theorem q1417 : (Jvm.Cond.fieldLink "PennyJudgeModel" (22 : Nat) "PennyJudgeModel" "weight" "[I") ∈ lw_all := lw_g (lw_at lw_m6 160 rfl) rfl
theorem q1418 : (Jvm.Cond.fieldLink "PennyJudgeModel" (140 : Nat) "PennyJudgeModel" "programs" "I") ∈ lw_all := lw_g (lw_at lw_m6 161 rfl) rfl
theorem q1419 : (Jvm.Cond.fieldLink "PennyJudgeModel" (25 : Nat) "PennyJudgeModel" "acts" "[I") ∈ lw_all := lw_g (lw_at lw_m6 162 rfl) rfl
theorem q1420 : (Jvm.Cond.fieldLink "PennyJudgeModel" (28 : Nat) "PennyJudgeModel" "kind" "[I") ∈ lw_all := lw_g (lw_at lw_m6 163 rfl) rfl
theorem q1421 : (Jvm.Cond.fieldLink "PennyJudgeModel" (31 : Nat) "PennyJudgeModel" "actS" "[I") ∈ lw_all := lw_g (lw_at lw_m6 164 rfl) rfl
theorem q1422 : (Jvm.Cond.fieldLink "PennyJudgeModel" (34 : Nat) "PennyJudgeModel" "actT" "[I") ∈ lw_all := lw_g (lw_at lw_m6 165 rfl) rfl
theorem q1423 : (Jvm.Cond.fieldLink "PennyJudgeModel" (37 : Nat) "PennyJudgeModel" "actV" "[I") ∈ lw_all := lw_g (lw_at lw_m6 166 rfl) rfl
theorem q1424 : (Jvm.Cond.fieldLink "PennyJudgeModel" (143 : Nat) "PennyJudgeModel" "leaks" "I") ∈ lw_all := lw_g (lw_at lw_m6 167 rfl) rfl
theorem q1425 : (Jvm.Cond.fieldLink "PennyJudgeModel" (40 : Nat) "PennyJudgeModel" "failedAct" "I") ∈ lw_all := lw_g (lw_at lw_m6 168 rfl) rfl
theorem q1426 : (Jvm.Cond.fieldLink "PennyJudgeModel" (134 : Nat) "PennyJudgeModel" "refusals" "I") ∈ lw_all := lw_g (lw_at lw_m6 169 rfl) rfl
theorem q1427 : (Jvm.Cond.fieldLink "PennyJudgeModel" (146 : Nat) "PennyJudgeModel" "base" "I") ∈ lw_all := lw_g (lw_at lw_m6 170 rfl) rfl
theorem q1428 : (Jvm.Cond.fieldLink "PennyJudgeModel" (209 : Nat) "PennyJudgeModel" "billMany" "I") ∈ lw_all := lw_g (lw_at lw_m6 171 rfl) rfl
theorem q1429 : (Jvm.Cond.fieldLink "PennyJudgeModel" (44 : Nat) "PennyJudgeModel" "billRow" "[I") ∈ lw_all := lw_g (lw_at lw_m6 172 rfl) rfl
theorem q1430 : (Jvm.Cond.fieldLink "PennyJudgeModel" (47 : Nat) "PennyJudgeModel" "up" "[J") ∈ lw_all := lw_g (lw_at lw_m6 173 rfl) rfl
theorem q1431 : (Jvm.Cond.fieldLink "PennyJudgeModel" (51 : Nat) "PennyJudgeModel" "low" "[J") ∈ lw_all := lw_g (lw_at lw_m6 174 rfl) rfl
theorem q1432 : (Jvm.Cond.fieldLink "PennyJudgeModel" (54 : Nat) "PennyJudgeModel" "parts" "[J") ∈ lw_all := lw_g (lw_at lw_m6 175 rfl) rfl
theorem q1433 : (Jvm.Cond.fieldLink "PennyJudgeModel" (57 : Nat) "PennyJudgeModel" "results" "[J") ∈ lw_all := lw_g (lw_at lw_m6 176 rfl) rfl
theorem q1434 : (Jvm.Cond.fieldLink "PennyJudgeModel" (60 : Nat) "PennyJudgeModel" "account" "[J") ∈ lw_all := lw_g (lw_at lw_m6 177 rfl) rfl
theorem q1435 : (Jvm.Cond.fieldLink "PennyJudgeModel" (63 : Nat) "PennyJudgeModel" "carriedUp" "[J") ∈ lw_all := lw_g (lw_at lw_m6 178 rfl) rfl
theorem q1436 : (Jvm.Cond.fieldLink "PennyJudgeModel" (66 : Nat) "PennyJudgeModel" "carriedLow" "[J") ∈ lw_all := lw_g (lw_at lw_m6 179 rfl) rfl
theorem q1437 : (Jvm.Cond.fieldLink "PennyJudgeModel" (69 : Nat) "PennyJudgeModel" "isShown" "[Z") ∈ lw_all := lw_g (lw_at lw_m6 180 rfl) rfl
theorem q1438 : (Jvm.Cond.fieldLink "PennyJudgeModel" (152 : Nat) "PennyJudgeModel" "wasSplit" "Z") ∈ lw_all := lw_g (lw_at lw_m6 181 rfl) rfl
theorem q1439 : (Jvm.Cond.fieldLink "PennyJudgeModel" (156 : Nat) "PennyJudgeModel" "splitShown" "Z") ∈ lw_all := lw_g (lw_at lw_m6 182 rfl) rfl
theorem q1440 : (Jvm.Cond.fieldLink "PennyJudgeModel" (253 : Nat) "PennyJudgeModel" "splitOf" "J") ∈ lw_all := lw_g (lw_at lw_m6 183 rfl) rfl
theorem q1441 : (Jvm.Cond.fieldLink "PennyJudgeModel" (257 : Nat) "PennyJudgeModel" "splitSet" "I") ∈ lw_all := lw_g (lw_at lw_m6 184 rfl) rfl
theorem q1442 : (Jvm.Cond.fieldLink "PennyJudgeModel" (235 : Nat) "PennyJudgeModel" "runLeaks" "I") ∈ lw_all := lw_g (lw_at lw_m6 185 rfl) rfl
theorem q1443 : (Jvm.Cond.fieldLink "PennyJudgeModel" (198 : Nat) "PennyJudgeModel" "failing" "I") ∈ lw_all := lw_g (lw_at lw_m6 186 rfl) rfl
theorem q1444 : (Jvm.Cond.fieldLink "PennyJudgeModel" (73 : Nat) "PennyJudgeModel" "sort" "[I") ∈ lw_all := lw_g (lw_at lw_m6 187 rfl) rfl
theorem q1445 : (Jvm.Cond.fieldLink "PennyJudgeModel" (76 : Nat) "PennyJudgeModel" "size" "[I") ∈ lw_all := lw_g (lw_at lw_m6 188 rfl) rfl
theorem q1446 : (Jvm.Cond.fieldLink "PennyJudgeModel" (79 : Nat) "PennyJudgeModel" "cells" "[J") ∈ lw_all := lw_g (lw_at lw_m6 189 rfl) rfl
theorem q1447 : (Jvm.Cond.fieldLink "PennyJudgeModel" (82 : Nat) "PennyJudgeModel" "iPrograms" "[I") ∈ lw_all := lw_g (lw_at lw_m6 190 rfl) rfl
theorem q1448 : (Jvm.Cond.fieldLink "PennyJudgeModel" (85 : Nat) "PennyJudgeModel" "iLeaks" "[I") ∈ lw_all := lw_g (lw_at lw_m6 191 rfl) rfl
theorem q1449 : (Jvm.Cond.fieldLink "PennyJudgeModel" (88 : Nat) "PennyJudgeModel" "iAccount" "[J") ∈ lw_all := lw_g (lw_at lw_m6 192 rfl) rfl
theorem q1450 : (Jvm.Cond.fieldLink "PennyJudgeModel" (91 : Nat) "PennyJudgeModel" "iUp" "[J") ∈ lw_all := lw_g (lw_at lw_m6 193 rfl) rfl
theorem q1451 : (Jvm.Cond.fieldLink "PennyJudgeModel" (94 : Nat) "PennyJudgeModel" "iLow" "[J") ∈ lw_all := lw_g (lw_at lw_m6 194 rfl) rfl
theorem q1452 : (Jvm.Cond.fieldLink "PennyJudgeModel" (97 : Nat) "PennyJudgeModel" "aheadAccount" "[J") ∈ lw_all := lw_g (lw_at lw_m6 195 rfl) rfl
theorem q1453 : (Jvm.Cond.fieldLink "PennyJudgeModel" (100 : Nat) "PennyJudgeModel" "first" "[J") ∈ lw_all := lw_g (lw_at lw_m6 196 rfl) rfl
theorem q1454 : (Jvm.Cond.fieldLink "PennyJudgeModel" (103 : Nat) "PennyJudgeModel" "slotF" "[D") ∈ lw_all := lw_g (lw_at lw_m6 197 rfl) rfl
theorem q1455 : (Jvm.Cond.fieldLink "PennyJudgeModel" (107 : Nat) "PennyJudgeModel" "partF" "[D") ∈ lw_all := lw_g (lw_at lw_m6 198 rfl) rfl
theorem q1456 : (Jvm.Cond.fieldLink "PennyJudgeModel" (332 : Nat) "PennyJudgeModel" "carriedF" "D") ∈ lw_all := lw_g (lw_at lw_m6 199 rfl) rfl
theorem q1457 : (Jvm.Cond.fieldLink "PennyJudgeModel" (110 : Nat) "PennyJudgeModel" "place" "[I") ∈ lw_all := lw_g (lw_at lw_m6 200 rfl) rfl
theorem q1458 : (Jvm.Cond.fieldLink "PennyJudgeModel" (113 : Nat) "PennyJudgeModel" "firstResult" "[J") ∈ lw_all := lw_g (lw_at lw_m6 201 rfl) rfl
theorem q1459 : (Jvm.Cond.fieldLink "PennyJudgeModel" (116 : Nat) "PennyJudgeModel" "best" "[J") ∈ lw_all := lw_g (lw_at lw_m6 202 rfl) rfl
theorem q1460 : (Jvm.Cond.fieldLink "PennyJudgeModel" (119 : Nat) "PennyJudgeModel" "next" "[J") ∈ lw_all := lw_g (lw_at lw_m6 203 rfl) rfl
theorem q1461 : (Jvm.Cond.fieldLink "PennyJudgeModel" (122 : Nat) "PennyJudgeModel" "isReached" "[Z") ∈ lw_all := lw_g (lw_at lw_m6 204 rfl) rfl
theorem q1462 : (Jvm.Cond.fieldLink "PennyJudgeModel" (125 : Nat) "PennyJudgeModel" "moved" "[J") ∈ lw_all := lw_g (lw_at lw_m6 205 rfl) rfl
theorem q1463 : (Jvm.Cond.lays "PennyJudgeModel" "PennyJudgeModel" "thrown" "I") ∈ lw_all := lw_g (lw_at lw_m6 206 rfl) rfl
theorem q1464 : (Jvm.Cond.soleField "PennyJudgeModel" "thrown") ∈ lw_all := lw_g (lw_at lw_m6 207 rfl) rfl
theorem q1465 : (Jvm.Cond.laysFinal "PennyJudgeModel" "PennyJudgeModel" "rateP" "[I") ∈ lw_all := lw_g (lw_at lw_m6 208 rfl) rfl
theorem q1466 : (Jvm.Cond.soleField "PennyJudgeModel" "rateP") ∈ lw_all := lw_g (lw_at lw_m6 209 rfl) rfl
theorem q1467 : (Jvm.Cond.laysFinal "PennyJudgeModel" "PennyJudgeModel" "rateQ" "[I") ∈ lw_all := lw_g (lw_at lw_m6 210 rfl) rfl
theorem q1468 : (Jvm.Cond.soleField "PennyJudgeModel" "rateQ") ∈ lw_all := lw_g (lw_at lw_m6 211 rfl) rfl
theorem q1469 : (Jvm.Cond.lays "PennyJudgeModel" "PennyJudgeModel" "lines" "I") ∈ lw_all := lw_g (lw_at lw_m6 212 rfl) rfl
theorem q1470 : (Jvm.Cond.soleField "PennyJudgeModel" "lines") ∈ lw_all := lw_g (lw_at lw_m6 213 rfl) rfl
theorem q1471 : (Jvm.Cond.laysFinal "PennyJudgeModel" "PennyJudgeModel" "bill" "[I") ∈ lw_all := lw_g (lw_at lw_m6 214 rfl) rfl
theorem q1472 : (Jvm.Cond.soleField "PennyJudgeModel" "bill") ∈ lw_all := lw_g (lw_at lw_m6 215 rfl) rfl
theorem q1473 : (Jvm.Cond.laysFinal "PennyJudgeModel" "PennyJudgeModel" "weights" "[I") ∈ lw_all := lw_g (lw_at lw_m6 216 rfl) rfl
theorem q1474 : (Jvm.Cond.soleField "PennyJudgeModel" "weights") ∈ lw_all := lw_g (lw_at lw_m6 217 rfl) rfl
theorem q1475 : (Jvm.Cond.laysFinal "PennyJudgeModel" "PennyJudgeModel" "weight" "[I") ∈ lw_all := lw_g (lw_at lw_m6 218 rfl) rfl
theorem q1476 : (Jvm.Cond.soleField "PennyJudgeModel" "weight") ∈ lw_all := lw_g (lw_at lw_m6 219 rfl) rfl
theorem q1477 : (Jvm.Cond.lays "PennyJudgeModel" "PennyJudgeModel" "programs" "I") ∈ lw_all := lw_g (lw_at lw_m6 220 rfl) rfl
theorem q1478 : (Jvm.Cond.soleField "PennyJudgeModel" "programs") ∈ lw_all := lw_g (lw_at lw_m6 221 rfl) rfl
theorem q1479 : (Jvm.Cond.laysFinal "PennyJudgeModel" "PennyJudgeModel" "acts" "[I") ∈ lw_all := lw_g (lw_at lw_m6 222 rfl) rfl
theorem q1480 : (Jvm.Cond.soleField "PennyJudgeModel" "acts") ∈ lw_all := lw_g (lw_at lw_m6 223 rfl) rfl
theorem q1481 : (Jvm.Cond.laysFinal "PennyJudgeModel" "PennyJudgeModel" "kind" "[I") ∈ lw_all := lw_g (lw_at lw_m6 224 rfl) rfl
theorem q1482 : (Jvm.Cond.soleField "PennyJudgeModel" "kind") ∈ lw_all := lw_g (lw_at lw_m6 225 rfl) rfl
theorem q1483 : (Jvm.Cond.laysFinal "PennyJudgeModel" "PennyJudgeModel" "actS" "[I") ∈ lw_all := lw_g (lw_at lw_m6 226 rfl) rfl
theorem q1484 : (Jvm.Cond.soleField "PennyJudgeModel" "actS") ∈ lw_all := lw_g (lw_at lw_m6 227 rfl) rfl
theorem q1485 : (Jvm.Cond.laysFinal "PennyJudgeModel" "PennyJudgeModel" "actT" "[I") ∈ lw_all := lw_g (lw_at lw_m6 228 rfl) rfl
theorem q1486 : (Jvm.Cond.soleField "PennyJudgeModel" "actT") ∈ lw_all := lw_g (lw_at lw_m6 229 rfl) rfl
theorem q1487 : (Jvm.Cond.laysFinal "PennyJudgeModel" "PennyJudgeModel" "actV" "[I") ∈ lw_all := lw_g (lw_at lw_m6 230 rfl) rfl
theorem q1488 : (Jvm.Cond.soleField "PennyJudgeModel" "actV") ∈ lw_all := lw_g (lw_at lw_m6 231 rfl) rfl
theorem q1489 : (Jvm.Cond.lays "PennyJudgeModel" "PennyJudgeModel" "leaks" "I") ∈ lw_all := lw_g (lw_at lw_m6 232 rfl) rfl
theorem q1490 : (Jvm.Cond.soleField "PennyJudgeModel" "leaks") ∈ lw_all := lw_g (lw_at lw_m6 233 rfl) rfl
theorem q1491 : (Jvm.Cond.lays "PennyJudgeModel" "PennyJudgeModel" "failedAct" "I") ∈ lw_all := lw_g (lw_at lw_m6 234 rfl) rfl
theorem q1492 : (Jvm.Cond.soleField "PennyJudgeModel" "failedAct") ∈ lw_all := lw_g (lw_at lw_m6 235 rfl) rfl
theorem q1493 : (Jvm.Cond.lays "PennyJudgeModel" "PennyJudgeModel" "refusals" "I") ∈ lw_all := lw_g (lw_at lw_m6 236 rfl) rfl
theorem q1494 : (Jvm.Cond.soleField "PennyJudgeModel" "refusals") ∈ lw_all := lw_g (lw_at lw_m6 237 rfl) rfl
theorem q1495 : (Jvm.Cond.lays "PennyJudgeModel" "PennyJudgeModel" "base" "I") ∈ lw_all := lw_g (lw_at lw_m6 238 rfl) rfl
theorem q1496 : (Jvm.Cond.soleField "PennyJudgeModel" "base") ∈ lw_all := lw_g (lw_at lw_m6 239 rfl) rfl
theorem q1497 : (Jvm.Cond.lays "PennyJudgeModel" "PennyJudgeModel" "billMany" "I") ∈ lw_all := lw_g (lw_at lw_m7 0 rfl) rfl
theorem q1498 : (Jvm.Cond.soleField "PennyJudgeModel" "billMany") ∈ lw_all := lw_g (lw_at lw_m7 1 rfl) rfl
theorem q1499 : (Jvm.Cond.laysFinal "PennyJudgeModel" "PennyJudgeModel" "billRow" "[I") ∈ lw_all := lw_g (lw_at lw_m7 2 rfl) rfl
theorem q1500 : (Jvm.Cond.soleField "PennyJudgeModel" "billRow") ∈ lw_all := lw_g (lw_at lw_m7 3 rfl) rfl
theorem q1501 : (Jvm.Cond.laysFinal "PennyJudgeModel" "PennyJudgeModel" "up" "[J") ∈ lw_all := lw_g (lw_at lw_m7 4 rfl) rfl
theorem q1502 : (Jvm.Cond.soleField "PennyJudgeModel" "up") ∈ lw_all := lw_g (lw_at lw_m7 5 rfl) rfl
theorem q1503 : (Jvm.Cond.laysFinal "PennyJudgeModel" "PennyJudgeModel" "low" "[J") ∈ lw_all := lw_g (lw_at lw_m7 6 rfl) rfl
theorem q1504 : (Jvm.Cond.soleField "PennyJudgeModel" "low") ∈ lw_all := lw_g (lw_at lw_m7 7 rfl) rfl
theorem q1505 : (Jvm.Cond.laysFinal "PennyJudgeModel" "PennyJudgeModel" "parts" "[J") ∈ lw_all := lw_g (lw_at lw_m7 8 rfl) rfl
theorem q1506 : (Jvm.Cond.soleField "PennyJudgeModel" "parts") ∈ lw_all := lw_g (lw_at lw_m7 9 rfl) rfl
theorem q1507 : (Jvm.Cond.laysFinal "PennyJudgeModel" "PennyJudgeModel" "results" "[J") ∈ lw_all := lw_g (lw_at lw_m7 10 rfl) rfl
theorem q1508 : (Jvm.Cond.soleField "PennyJudgeModel" "results") ∈ lw_all := lw_g (lw_at lw_m7 11 rfl) rfl
theorem q1509 : (Jvm.Cond.laysFinal "PennyJudgeModel" "PennyJudgeModel" "account" "[J") ∈ lw_all := lw_g (lw_at lw_m7 12 rfl) rfl
theorem q1510 : (Jvm.Cond.soleField "PennyJudgeModel" "account") ∈ lw_all := lw_g (lw_at lw_m7 13 rfl) rfl
theorem q1511 : (Jvm.Cond.laysFinal "PennyJudgeModel" "PennyJudgeModel" "carriedUp" "[J") ∈ lw_all := lw_g (lw_at lw_m7 14 rfl) rfl
theorem q1512 : (Jvm.Cond.soleField "PennyJudgeModel" "carriedUp") ∈ lw_all := lw_g (lw_at lw_m7 15 rfl) rfl
theorem q1513 : (Jvm.Cond.laysFinal "PennyJudgeModel" "PennyJudgeModel" "carriedLow" "[J") ∈ lw_all := lw_g (lw_at lw_m7 16 rfl) rfl
theorem q1514 : (Jvm.Cond.soleField "PennyJudgeModel" "carriedLow") ∈ lw_all := lw_g (lw_at lw_m7 17 rfl) rfl
theorem q1515 : (Jvm.Cond.laysFinal "PennyJudgeModel" "PennyJudgeModel" "isShown" "[Z") ∈ lw_all := lw_g (lw_at lw_m7 18 rfl) rfl
theorem q1516 : (Jvm.Cond.soleField "PennyJudgeModel" "isShown") ∈ lw_all := lw_g (lw_at lw_m7 19 rfl) rfl
theorem q1517 : (Jvm.Cond.lays "PennyJudgeModel" "PennyJudgeModel" "wasSplit" "Z") ∈ lw_all := lw_g (lw_at lw_m7 20 rfl) rfl
theorem q1518 : (Jvm.Cond.soleField "PennyJudgeModel" "wasSplit") ∈ lw_all := lw_g (lw_at lw_m7 21 rfl) rfl
theorem q1519 : (Jvm.Cond.lays "PennyJudgeModel" "PennyJudgeModel" "splitShown" "Z") ∈ lw_all := lw_g (lw_at lw_m7 22 rfl) rfl
theorem q1520 : (Jvm.Cond.soleField "PennyJudgeModel" "splitShown") ∈ lw_all := lw_g (lw_at lw_m7 23 rfl) rfl
theorem q1521 : (Jvm.Cond.lays "PennyJudgeModel" "PennyJudgeModel" "splitOf" "J") ∈ lw_all := lw_g (lw_at lw_m7 24 rfl) rfl
theorem q1522 : (Jvm.Cond.soleField "PennyJudgeModel" "splitOf") ∈ lw_all := lw_g (lw_at lw_m7 25 rfl) rfl
theorem q1523 : (Jvm.Cond.lays "PennyJudgeModel" "PennyJudgeModel" "splitSet" "I") ∈ lw_all := lw_g (lw_at lw_m7 26 rfl) rfl
theorem q1524 : (Jvm.Cond.soleField "PennyJudgeModel" "splitSet") ∈ lw_all := lw_g (lw_at lw_m7 27 rfl) rfl
theorem q1525 : (Jvm.Cond.lays "PennyJudgeModel" "PennyJudgeModel" "runLeaks" "I") ∈ lw_all := lw_g (lw_at lw_m7 28 rfl) rfl
theorem q1526 : (Jvm.Cond.soleField "PennyJudgeModel" "runLeaks") ∈ lw_all := lw_g (lw_at lw_m7 29 rfl) rfl
theorem q1527 : (Jvm.Cond.lays "PennyJudgeModel" "PennyJudgeModel" "failing" "I") ∈ lw_all := lw_g (lw_at lw_m7 30 rfl) rfl
theorem q1528 : (Jvm.Cond.soleField "PennyJudgeModel" "failing") ∈ lw_all := lw_g (lw_at lw_m7 31 rfl) rfl
theorem q1529 : (Jvm.Cond.laysFinal "PennyJudgeModel" "PennyJudgeModel" "sort" "[I") ∈ lw_all := lw_g (lw_at lw_m7 32 rfl) rfl
theorem q1530 : (Jvm.Cond.soleField "PennyJudgeModel" "sort") ∈ lw_all := lw_g (lw_at lw_m7 33 rfl) rfl
theorem q1531 : (Jvm.Cond.laysFinal "PennyJudgeModel" "PennyJudgeModel" "size" "[I") ∈ lw_all := lw_g (lw_at lw_m7 34 rfl) rfl
theorem q1532 : (Jvm.Cond.soleField "PennyJudgeModel" "size") ∈ lw_all := lw_g (lw_at lw_m7 35 rfl) rfl
theorem q1533 : (Jvm.Cond.laysFinal "PennyJudgeModel" "PennyJudgeModel" "cells" "[J") ∈ lw_all := lw_g (lw_at lw_m7 36 rfl) rfl
theorem q1534 : (Jvm.Cond.soleField "PennyJudgeModel" "cells") ∈ lw_all := lw_g (lw_at lw_m7 37 rfl) rfl
theorem q1535 : (Jvm.Cond.laysFinal "PennyJudgeModel" "PennyJudgeModel" "iPrograms" "[I") ∈ lw_all := lw_g (lw_at lw_m7 38 rfl) rfl
theorem q1536 : (Jvm.Cond.soleField "PennyJudgeModel" "iPrograms") ∈ lw_all := lw_g (lw_at lw_m7 39 rfl) rfl
theorem q1537 : (Jvm.Cond.laysFinal "PennyJudgeModel" "PennyJudgeModel" "iLeaks" "[I") ∈ lw_all := lw_g (lw_at lw_m7 40 rfl) rfl
theorem q1538 : (Jvm.Cond.soleField "PennyJudgeModel" "iLeaks") ∈ lw_all := lw_g (lw_at lw_m7 41 rfl) rfl
theorem q1539 : (Jvm.Cond.laysFinal "PennyJudgeModel" "PennyJudgeModel" "iAccount" "[J") ∈ lw_all := lw_g (lw_at lw_m7 42 rfl) rfl
theorem q1540 : (Jvm.Cond.soleField "PennyJudgeModel" "iAccount") ∈ lw_all := lw_g (lw_at lw_m7 43 rfl) rfl
theorem q1541 : (Jvm.Cond.laysFinal "PennyJudgeModel" "PennyJudgeModel" "iUp" "[J") ∈ lw_all := lw_g (lw_at lw_m7 44 rfl) rfl
theorem q1542 : (Jvm.Cond.soleField "PennyJudgeModel" "iUp") ∈ lw_all := lw_g (lw_at lw_m7 45 rfl) rfl
theorem q1543 : (Jvm.Cond.laysFinal "PennyJudgeModel" "PennyJudgeModel" "iLow" "[J") ∈ lw_all := lw_g (lw_at lw_m7 46 rfl) rfl
theorem q1544 : (Jvm.Cond.soleField "PennyJudgeModel" "iLow") ∈ lw_all := lw_g (lw_at lw_m7 47 rfl) rfl
theorem q1545 : (Jvm.Cond.laysFinal "PennyJudgeModel" "PennyJudgeModel" "aheadAccount" "[J") ∈ lw_all := lw_g (lw_at lw_m7 48 rfl) rfl
theorem q1546 : (Jvm.Cond.soleField "PennyJudgeModel" "aheadAccount") ∈ lw_all := lw_g (lw_at lw_m7 49 rfl) rfl
theorem q1547 : (Jvm.Cond.laysFinal "PennyJudgeModel" "PennyJudgeModel" "first" "[J") ∈ lw_all := lw_g (lw_at lw_m7 50 rfl) rfl
theorem q1548 : (Jvm.Cond.soleField "PennyJudgeModel" "first") ∈ lw_all := lw_g (lw_at lw_m7 51 rfl) rfl
theorem q1549 : (Jvm.Cond.laysFinal "PennyJudgeModel" "PennyJudgeModel" "slotF" "[D") ∈ lw_all := lw_g (lw_at lw_m7 52 rfl) rfl
theorem q1550 : (Jvm.Cond.soleField "PennyJudgeModel" "slotF") ∈ lw_all := lw_g (lw_at lw_m7 53 rfl) rfl
theorem q1551 : (Jvm.Cond.laysFinal "PennyJudgeModel" "PennyJudgeModel" "partF" "[D") ∈ lw_all := lw_g (lw_at lw_m7 54 rfl) rfl
theorem q1552 : (Jvm.Cond.soleField "PennyJudgeModel" "partF") ∈ lw_all := lw_g (lw_at lw_m7 55 rfl) rfl
theorem q1553 : (Jvm.Cond.lays "PennyJudgeModel" "PennyJudgeModel" "carriedF" "D") ∈ lw_all := lw_g (lw_at lw_m7 56 rfl) rfl
theorem q1554 : (Jvm.Cond.soleField "PennyJudgeModel" "carriedF") ∈ lw_all := lw_g (lw_at lw_m7 57 rfl) rfl
theorem q1555 : (Jvm.Cond.laysFinal "PennyJudgeModel" "PennyJudgeModel" "place" "[I") ∈ lw_all := lw_g (lw_at lw_m7 58 rfl) rfl
theorem q1556 : (Jvm.Cond.soleField "PennyJudgeModel" "place") ∈ lw_all := lw_g (lw_at lw_m7 59 rfl) rfl
theorem q1557 : (Jvm.Cond.laysFinal "PennyJudgeModel" "PennyJudgeModel" "firstResult" "[J") ∈ lw_all := lw_g (lw_at lw_m7 60 rfl) rfl
theorem q1558 : (Jvm.Cond.soleField "PennyJudgeModel" "firstResult") ∈ lw_all := lw_g (lw_at lw_m7 61 rfl) rfl
theorem q1559 : (Jvm.Cond.laysFinal "PennyJudgeModel" "PennyJudgeModel" "best" "[J") ∈ lw_all := lw_g (lw_at lw_m7 62 rfl) rfl
theorem q1560 : (Jvm.Cond.soleField "PennyJudgeModel" "best") ∈ lw_all := lw_g (lw_at lw_m7 63 rfl) rfl
theorem q1561 : (Jvm.Cond.laysFinal "PennyJudgeModel" "PennyJudgeModel" "next" "[J") ∈ lw_all := lw_g (lw_at lw_m7 64 rfl) rfl
theorem q1562 : (Jvm.Cond.soleField "PennyJudgeModel" "next") ∈ lw_all := lw_g (lw_at lw_m7 65 rfl) rfl
theorem q1563 : (Jvm.Cond.laysFinal "PennyJudgeModel" "PennyJudgeModel" "isReached" "[Z") ∈ lw_all := lw_g (lw_at lw_m7 66 rfl) rfl
theorem q1564 : (Jvm.Cond.soleField "PennyJudgeModel" "isReached") ∈ lw_all := lw_g (lw_at lw_m7 67 rfl) rfl
theorem q1565 : (Jvm.Cond.laysFinal "PennyJudgeModel" "PennyJudgeModel" "moved" "[J") ∈ lw_all := lw_g (lw_at lw_m7 68 rfl) rfl
theorem q1566 : (Jvm.Cond.soleField "PennyJudgeModel" "moved") ∈ lw_all := lw_g (lw_at lw_m7 69 rfl) rfl
theorem q1567 : (Jvm.Cond.superclass "PennyJudgeModel" "java/lang/Object") ∈ lw_all := lw_g (lw_at lw_m7 70 rfl) rfl
theorem q1569 : (Jvm.Cond.instanceMethod ({ cls := "PennyJudgeModel", name := "thrown", desc := "()I" } : Jvm.MethodName)) ∈ lw_all := lw_g (lw_at lw_m7 72 rfl) rfl
theorem q1570 : (Jvm.Cond.selects "PennyJudgeModel" ({ cls := "PennyJudgeModel", name := "thrown", desc := "()I" } : Jvm.MethodName) ({ cls := "PennyJudgeModel", name := "thrown", desc := "()I" } : Jvm.MethodName)) ∈ lw_all := lw_g (lw_at lw_m7 73 rfl) rfl
theorem q1571 : (Jvm.Cond.code ({ cls := "PennyJudgeModel", name := "thrown", desc := "()I" } : Jvm.MethodName) prog_23_method_2_code (1 : Nat) (Option.some Jvm.ClassFile.FieldType.int)) ∈ lw_all := lw_g (lw_at lw_m7 74 rfl) rfl
theorem q1573 : (Jvm.Cond.instanceMethod ({ cls := "PennyJudgeModel", name := "begin", desc := "()I" } : Jvm.MethodName)) ∈ lw_all := lw_g (lw_at lw_m7 76 rfl) rfl
theorem q1574 : (Jvm.Cond.selects "PennyJudgeModel" ({ cls := "PennyJudgeModel", name := "begin", desc := "()I" } : Jvm.MethodName) ({ cls := "PennyJudgeModel", name := "begin", desc := "()I" } : Jvm.MethodName)) ∈ lw_all := lw_g (lw_at lw_m7 77 rfl) rfl
theorem q1575 : (Jvm.Cond.code ({ cls := "PennyJudgeModel", name := "begin", desc := "()I" } : Jvm.MethodName) prog_23_method_7_code (1 : Nat) (Option.some Jvm.ClassFile.FieldType.int)) ∈ lw_all := lw_g (lw_at lw_m7 78 rfl) rfl
theorem q1577 : (Jvm.Cond.instanceMethod ({ cls := "PennyJudgeModel", name := "rate", desc := "(III)I" } : Jvm.MethodName)) ∈ lw_all := lw_g (lw_at lw_m7 80 rfl) rfl
theorem q1578 : (Jvm.Cond.selects "PennyJudgeModel" ({ cls := "PennyJudgeModel", name := "rate", desc := "(III)I" } : Jvm.MethodName) ({ cls := "PennyJudgeModel", name := "rate", desc := "(III)I" } : Jvm.MethodName)) ∈ lw_all := lw_g (lw_at lw_m7 81 rfl) rfl
theorem q1579 : (Jvm.Cond.code ({ cls := "PennyJudgeModel", name := "rate", desc := "(III)I" } : Jvm.MethodName) prog_23_method_8_code (4 : Nat) (Option.some Jvm.ClassFile.FieldType.int)) ∈ lw_all := lw_g (lw_at lw_m7 82 rfl) rfl
theorem q1580 : (Jvm.Cond.methodLink "PennyJudgeModel" (159 : Nat) ({ cls := "PennyJudgeModel", name := "in", desc := "(III)Z" } : Jvm.MethodName)) ∈ lw_all := lw_g (lw_at lw_m7 83 rfl) rfl
theorem q1581 : (Jvm.Cond.static ({ cls := "PennyJudgeModel", name := "in", desc := "(III)Z" } : Jvm.MethodName)) ∈ lw_all := lw_g (lw_at lw_m7 84 rfl) rfl
theorem q1582 : (Jvm.Cond.code ({ cls := "PennyJudgeModel", name := "in", desc := "(III)Z" } : Jvm.MethodName) prog_23_method_3_code (3 : Nat) (Option.some Jvm.ClassFile.FieldType.boolean)) ∈ lw_all := lw_g (lw_at lw_m7 85 rfl) rfl
theorem q1584 : (Jvm.Cond.instanceMethod ({ cls := "PennyJudgeModel", name := "line", desc := "(I)I" } : Jvm.MethodName)) ∈ lw_all := lw_g (lw_at lw_m7 87 rfl) rfl
theorem q1585 : (Jvm.Cond.selects "PennyJudgeModel" ({ cls := "PennyJudgeModel", name := "line", desc := "(I)I" } : Jvm.MethodName) ({ cls := "PennyJudgeModel", name := "line", desc := "(I)I" } : Jvm.MethodName)) ∈ lw_all := lw_g (lw_at lw_m7 88 rfl) rfl
theorem q1586 : (Jvm.Cond.code ({ cls := "PennyJudgeModel", name := "line", desc := "(I)I" } : Jvm.MethodName) prog_23_method_10_code (2 : Nat) (Option.some Jvm.ClassFile.FieldType.int)) ∈ lw_all := lw_g (lw_at lw_m7 89 rfl) rfl
theorem q1587 : (Jvm.Cond.methodLink "PennyJudgeModel" (167 : Nat) ({ cls := "PennyJudgeModel", name := "isLine", desc := "(J)Z" } : Jvm.MethodName)) ∈ lw_all := lw_g (lw_at lw_m7 90 rfl) rfl
theorem q1588 : (Jvm.Cond.static ({ cls := "PennyJudgeModel", name := "isLine", desc := "(J)Z" } : Jvm.MethodName)) ∈ lw_all := lw_g (lw_at lw_m7 91 rfl) rfl
theorem q1589 : (Jvm.Cond.code ({ cls := "PennyJudgeModel", name := "isLine", desc := "(J)Z" } : Jvm.MethodName) prog_23_method_9_code (2 : Nat) (Option.some Jvm.ClassFile.FieldType.boolean)) ∈ lw_all := lw_g (lw_at lw_m7 92 rfl) rfl
theorem q1590 : (Jvm.Cond.constantLong "PennyJudgeModel" (163 : Nat) (-1000000 : Int64)) ∈ lw_all := lw_g (lw_at lw_m7 93 rfl) rfl
theorem q1591 : (Jvm.Cond.constantLong "PennyJudgeModel" (165 : Nat) (1000000 : Int64)) ∈ lw_all := lw_g (lw_at lw_m7 94 rfl) rfl
theorem q1593 : (Jvm.Cond.instanceMethod ({ cls := "PennyJudgeModel", name := "bare", desc := "()I" } : Jvm.MethodName)) ∈ lw_all := lw_g (lw_at lw_m7 96 rfl) rfl
theorem q1594 : (Jvm.Cond.selects "PennyJudgeModel" ({ cls := "PennyJudgeModel", name := "bare", desc := "()I" } : Jvm.MethodName) ({ cls := "PennyJudgeModel", name := "bare", desc := "()I" } : Jvm.MethodName)) ∈ lw_all := lw_g (lw_at lw_m7 97 rfl) rfl
theorem q1595 : (Jvm.Cond.code ({ cls := "PennyJudgeModel", name := "bare", desc := "()I" } : Jvm.MethodName) prog_23_method_11_code (2 : Nat) (Option.some Jvm.ClassFile.FieldType.int)) ∈ lw_all := lw_g (lw_at lw_m7 98 rfl) rfl
theorem q1597 : (Jvm.Cond.instanceMethod ({ cls := "PennyJudgeModel", name := "weight", desc := "(II)I" } : Jvm.MethodName)) ∈ lw_all := lw_g (lw_at lw_m7 100 rfl) rfl
theorem q1598 : (Jvm.Cond.selects "PennyJudgeModel" ({ cls := "PennyJudgeModel", name := "weight", desc := "(II)I" } : Jvm.MethodName) ({ cls := "PennyJudgeModel", name := "weight", desc := "(II)I" } : Jvm.MethodName)) ∈ lw_all := lw_g (lw_at lw_m7 101 rfl) rfl
theorem q1599 : (Jvm.Cond.code ({ cls := "PennyJudgeModel", name := "weight", desc := "(II)I" } : Jvm.MethodName) prog_23_method_12_code (3 : Nat) (Option.some Jvm.ClassFile.FieldType.int)) ∈ lw_all := lw_g (lw_at lw_m7 102 rfl) rfl
theorem q1601 : (Jvm.Cond.instanceMethod ({ cls := "PennyJudgeModel", name := "program", desc := "()I" } : Jvm.MethodName)) ∈ lw_all := lw_g (lw_at lw_m7 104 rfl) rfl
theorem q1602 : (Jvm.Cond.selects "PennyJudgeModel" ({ cls := "PennyJudgeModel", name := "program", desc := "()I" } : Jvm.MethodName) ({ cls := "PennyJudgeModel", name := "program", desc := "()I" } : Jvm.MethodName)) ∈ lw_all := lw_g (lw_at lw_m7 105 rfl) rfl
theorem q1603 : (Jvm.Cond.code ({ cls := "PennyJudgeModel", name := "program", desc := "()I" } : Jvm.MethodName) prog_23_method_13_code (1 : Nat) (Option.some Jvm.ClassFile.FieldType.int)) ∈ lw_all := lw_g (lw_at lw_m7 106 rfl) rfl
theorem q1605 : (Jvm.Cond.instanceMethod ({ cls := "PennyJudgeModel", name := "act", desc := "(IIIII)I" } : Jvm.MethodName)) ∈ lw_all := lw_g (lw_at lw_m7 108 rfl) rfl
theorem q1606 : (Jvm.Cond.selects "PennyJudgeModel" ({ cls := "PennyJudgeModel", name := "act", desc := "(IIIII)I" } : Jvm.MethodName) ({ cls := "PennyJudgeModel", name := "act", desc := "(IIIII)I" } : Jvm.MethodName)) ∈ lw_all := lw_g (lw_at lw_m7 109 rfl) rfl
theorem q1607 : (Jvm.Cond.code ({ cls := "PennyJudgeModel", name := "act", desc := "(IIIII)I" } : Jvm.MethodName) prog_23_method_16_code (7 : Nat) (Option.some Jvm.ClassFile.FieldType.int)) ∈ lw_all := lw_g (lw_at lw_m7 110 rfl) rfl
theorem q1608 : (Jvm.Cond.methodLink "PennyJudgeModel" (172 : Nat) ({ cls := "PennyJudgeModel", name := "isProgram", desc := "(I)Z" } : Jvm.MethodName)) ∈ lw_all := lw_g (lw_at lw_m7 111 rfl) rfl
theorem q1609 : (Jvm.Cond.privateMethod ({ cls := "PennyJudgeModel", name := "isProgram", desc := "(I)Z" } : Jvm.MethodName)) ∈ lw_tbl := lw_at lw_m7 112 rfl
theorem q1610 : (Jvm.Cond.instanceMethod ({ cls := "PennyJudgeModel", name := "isProgram", desc := "(I)Z" } : Jvm.MethodName)) ∈ lw_all := lw_g (lw_at lw_m7 113 rfl) rfl
theorem q1611 : (Jvm.Cond.code ({ cls := "PennyJudgeModel", name := "isProgram", desc := "(I)Z" } : Jvm.MethodName) prog_23_method_14_code (2 : Nat) (Option.some Jvm.ClassFile.FieldType.boolean)) ∈ lw_all := lw_g (lw_at lw_m7 114 rfl) rfl
theorem q1612 : (Jvm.Cond.methodLink "PennyJudgeModel" (176 : Nat) ({ cls := "PennyJudgeModel", name := "fits", desc := "(III)Z" } : Jvm.MethodName)) ∈ lw_all := lw_g (lw_at lw_m7 115 rfl) rfl
theorem q1613 : (Jvm.Cond.static ({ cls := "PennyJudgeModel", name := "fits", desc := "(III)Z" } : Jvm.MethodName)) ∈ lw_all := lw_g (lw_at lw_m7 116 rfl) rfl
theorem q1614 : (Jvm.Cond.code ({ cls := "PennyJudgeModel", name := "fits", desc := "(III)Z" } : Jvm.MethodName) prog_23_method_15_code (4 : Nat) (Option.some Jvm.ClassFile.FieldType.boolean)) ∈ lw_all := lw_g (lw_at lw_m7 117 rfl) rfl
theorem q1615 : (Jvm.Cond.constant "PennyJudgeModel" (171 : Nat) (1000000 : Int32)) ∈ lw_all := lw_g (lw_at lw_m7 118 rfl) rfl
theorem q1617 : (Jvm.Cond.instanceMethod ({ cls := "PennyJudgeModel", name := "set", desc := "(IIII)I" } : Jvm.MethodName)) ∈ lw_all := lw_g (lw_at lw_m7 120 rfl) rfl
theorem q1618 : (Jvm.Cond.selects "PennyJudgeModel" ({ cls := "PennyJudgeModel", name := "set", desc := "(IIII)I" } : Jvm.MethodName) ({ cls := "PennyJudgeModel", name := "set", desc := "(IIII)I" } : Jvm.MethodName)) ∈ lw_all := lw_g (lw_at lw_m7 121 rfl) rfl
theorem q1619 : (Jvm.Cond.code ({ cls := "PennyJudgeModel", name := "set", desc := "(IIII)I" } : Jvm.MethodName) prog_23_method_18_code (5 : Nat) (Option.some Jvm.ClassFile.FieldType.int)) ∈ lw_all := lw_g (lw_at lw_m7 122 rfl) rfl
theorem q1620 : (Jvm.Cond.methodLink "PennyJudgeModel" (179 : Nat) ({ cls := "PennyJudgeModel", name := "isAct", desc := "(II)Z" } : Jvm.MethodName)) ∈ lw_all := lw_g (lw_at lw_m7 123 rfl) rfl
theorem q1621 : (Jvm.Cond.privateMethod ({ cls := "PennyJudgeModel", name := "isAct", desc := "(II)Z" } : Jvm.MethodName)) ∈ lw_tbl := lw_at lw_m7 124 rfl
theorem q1622 : (Jvm.Cond.instanceMethod ({ cls := "PennyJudgeModel", name := "isAct", desc := "(II)Z" } : Jvm.MethodName)) ∈ lw_all := lw_g (lw_at lw_m7 125 rfl) rfl
theorem q1623 : (Jvm.Cond.code ({ cls := "PennyJudgeModel", name := "isAct", desc := "(II)Z" } : Jvm.MethodName) prog_23_method_17_code (3 : Nat) (Option.some Jvm.ClassFile.FieldType.boolean)) ∈ lw_all := lw_g (lw_at lw_m7 126 rfl) rfl
theorem q1625 : (Jvm.Cond.instanceMethod ({ cls := "PennyJudgeModel", name := "told", desc := "(III)I" } : Jvm.MethodName)) ∈ lw_all := lw_g (lw_at lw_m7 128 rfl) rfl
theorem q1626 : (Jvm.Cond.selects "PennyJudgeModel" ({ cls := "PennyJudgeModel", name := "told", desc := "(III)I" } : Jvm.MethodName) ({ cls := "PennyJudgeModel", name := "told", desc := "(III)I" } : Jvm.MethodName)) ∈ lw_all := lw_g (lw_at lw_m7 129 rfl) rfl
theorem q1627 : (Jvm.Cond.code ({ cls := "PennyJudgeModel", name := "told", desc := "(III)I" } : Jvm.MethodName) prog_23_method_19_code (5 : Nat) (Option.some Jvm.ClassFile.FieldType.int)) ∈ lw_all := lw_g (lw_at lw_m7 130 rfl) rfl
theorem q1629 : (Jvm.Cond.instanceMethod ({ cls := "PennyJudgeModel", name := "run", desc := "(I)I" } : Jvm.MethodName)) ∈ lw_all := lw_g (lw_at lw_m7 132 rfl) rfl
theorem q1630 : (Jvm.Cond.selects "PennyJudgeModel" ({ cls := "PennyJudgeModel", name := "run", desc := "(I)I" } : Jvm.MethodName) ({ cls := "PennyJudgeModel", name := "run", desc := "(I)I" } : Jvm.MethodName)) ∈ lw_all := lw_g (lw_at lw_m7 133 rfl) rfl
theorem q1631 : (Jvm.Cond.code ({ cls := "PennyJudgeModel", name := "run", desc := "(I)I" } : Jvm.MethodName) prog_23_method_41_code (2 : Nat) (Option.some Jvm.ClassFile.FieldType.int)) ∈ lw_all := lw_g (lw_at lw_m7 134 rfl) rfl
theorem q1632 : (Jvm.Cond.methodLink "PennyJudgeModel" (280 : Nat) ({ cls := "PennyJudgeModel", name := "runsReal", desc := "(I)I" } : Jvm.MethodName)) ∈ lw_all := lw_g (lw_at lw_m7 135 rfl) rfl
theorem q1633 : (Jvm.Cond.privateMethod ({ cls := "PennyJudgeModel", name := "runsReal", desc := "(I)I" } : Jvm.MethodName)) ∈ lw_tbl := lw_at lw_m7 136 rfl
theorem q1634 : (Jvm.Cond.instanceMethod ({ cls := "PennyJudgeModel", name := "runsReal", desc := "(I)I" } : Jvm.MethodName)) ∈ lw_all := lw_g (lw_at lw_m7 137 rfl) rfl
theorem q1635 : (Jvm.Cond.code ({ cls := "PennyJudgeModel", name := "runsReal", desc := "(I)I" } : Jvm.MethodName) prog_23_method_40_code (3 : Nat) (Option.some Jvm.ClassFile.FieldType.int)) ∈ lw_all := lw_g (lw_at lw_m7 138 rfl) rfl
theorem q1636 : (Jvm.Cond.methodLink "PennyJudgeModel" (277 : Nat) ({ cls := "PennyJudgeModel", name := "runs", desc := "(I)I" } : Jvm.MethodName)) ∈ lw_all := lw_g (lw_at lw_m7 139 rfl) rfl
theorem q1637 : (Jvm.Cond.privateMethod ({ cls := "PennyJudgeModel", name := "runs", desc := "(I)I" } : Jvm.MethodName)) ∈ lw_tbl := lw_at lw_m7 140 rfl
theorem q1638 : (Jvm.Cond.instanceMethod ({ cls := "PennyJudgeModel", name := "runs", desc := "(I)I" } : Jvm.MethodName)) ∈ lw_all := lw_g (lw_at lw_m7 141 rfl) rfl
theorem q1639 : (Jvm.Cond.code ({ cls := "PennyJudgeModel", name := "runs", desc := "(I)I" } : Jvm.MethodName) prog_23_method_39_code (9 : Nat) (Option.some Jvm.ClassFile.FieldType.int)) ∈ lw_all := lw_g (lw_at lw_m7 142 rfl) rfl
theorem q1640 : (Jvm.Cond.methodLink "PennyJudgeModel" (274 : Nat) ({ cls := "PennyJudgeModel", name := "does", desc := "(II)V" } : Jvm.MethodName)) ∈ lw_all := lw_g (lw_at lw_m7 143 rfl) rfl
theorem q1641 : (Jvm.Cond.privateMethod ({ cls := "PennyJudgeModel", name := "does", desc := "(II)V" } : Jvm.MethodName)) ∈ lw_tbl := lw_at lw_m7 144 rfl
theorem q1642 : (Jvm.Cond.instanceMethod ({ cls := "PennyJudgeModel", name := "does", desc := "(II)V" } : Jvm.MethodName)) ∈ lw_all := lw_g (lw_at lw_m7 145 rfl) rfl
theorem q1643 : (Jvm.Cond.code ({ cls := "PennyJudgeModel", name := "does", desc := "(II)V" } : Jvm.MethodName) prog_23_method_38_code (10 : Nat) (Option.none : Option Jvm.ClassFile.FieldType)) ∈ lw_all := lw_g (lw_at lw_m7 146 rfl) rfl
theorem q1644 : (Jvm.Cond.methodLink "PennyJudgeModel" (216 : Nat) ({ cls := "PennyJudgeModel", name := "plain", desc := "(IJ)V" } : Jvm.MethodName)) ∈ lw_all := lw_g (lw_at lw_m7 147 rfl) rfl
theorem q1645 : (Jvm.Cond.privateMethod ({ cls := "PennyJudgeModel", name := "plain", desc := "(IJ)V" } : Jvm.MethodName)) ∈ lw_tbl := lw_at lw_m7 148 rfl
theorem q1646 : (Jvm.Cond.instanceMethod ({ cls := "PennyJudgeModel", name := "plain", desc := "(IJ)V" } : Jvm.MethodName)) ∈ lw_all := lw_g (lw_at lw_m7 149 rfl) rfl
theorem q1647 : (Jvm.Cond.code ({ cls := "PennyJudgeModel", name := "plain", desc := "(IJ)V" } : Jvm.MethodName) prog_23_method_25_code (4 : Nat) (Option.none : Option Jvm.ClassFile.FieldType)) ∈ lw_all := lw_g (lw_at lw_m7 150 rfl) rfl
theorem q1648 : (Jvm.Cond.methodLink "PennyJudgeModel" (205 : Nat) ({ cls := "PennyJudgeModel", name := "becomesWhole", desc := "(IJ)Z" } : Jvm.MethodName)) ∈ lw_all := lw_g (lw_at lw_m7 151 rfl) rfl
theorem q1649 : (Jvm.Cond.privateMethod ({ cls := "PennyJudgeModel", name := "becomesWhole", desc := "(IJ)Z" } : Jvm.MethodName)) ∈ lw_tbl := lw_at lw_m7 152 rfl
theorem q1650 : (Jvm.Cond.instanceMethod ({ cls := "PennyJudgeModel", name := "becomesWhole", desc := "(IJ)Z" } : Jvm.MethodName)) ∈ lw_all := lw_g (lw_at lw_m7 153 rfl) rfl
theorem q1651 : (Jvm.Cond.code ({ cls := "PennyJudgeModel", name := "becomesWhole", desc := "(IJ)Z" } : Jvm.MethodName) prog_23_method_24_code (4 : Nat) (Option.some Jvm.ClassFile.FieldType.boolean)) ∈ lw_all := lw_g (lw_at lw_m7 154 rfl) rfl
theorem q1652 : (Jvm.Cond.methodLink "PennyJudgeModel" (201 : Nat) ({ cls := "PennyJudgeModel", name := "becomes", desc := "(IJJ)Z" } : Jvm.MethodName)) ∈ lw_all := lw_g (lw_at lw_m7 155 rfl) rfl
theorem q1653 : (Jvm.Cond.privateMethod ({ cls := "PennyJudgeModel", name := "becomes", desc := "(IJJ)Z" } : Jvm.MethodName)) ∈ lw_tbl := lw_at lw_m7 156 rfl
theorem q1654 : (Jvm.Cond.instanceMethod ({ cls := "PennyJudgeModel", name := "becomes", desc := "(IJJ)Z" } : Jvm.MethodName)) ∈ lw_all := lw_g (lw_at lw_m7 157 rfl) rfl
theorem q1655 : (Jvm.Cond.code ({ cls := "PennyJudgeModel", name := "becomes", desc := "(IJJ)Z" } : Jvm.MethodName) prog_23_method_23_code (12 : Nat) (Option.some Jvm.ClassFile.FieldType.boolean)) ∈ lw_all := lw_g (lw_at lw_m7 158 rfl) rfl
theorem q1656 : (Jvm.Cond.methodLink "PennyJudgeModel" (189 : Nat) ({ cls := "PennyJudgeModel", name := "common", desc := "(JJ)J" } : Jvm.MethodName)) ∈ lw_all := lw_g (lw_at lw_m7 159 rfl) rfl
theorem q1657 : (Jvm.Cond.static ({ cls := "PennyJudgeModel", name := "common", desc := "(JJ)J" } : Jvm.MethodName)) ∈ lw_all := lw_g (lw_at lw_m7 160 rfl) rfl
theorem q1658 : (Jvm.Cond.code ({ cls := "PennyJudgeModel", name := "common", desc := "(JJ)J" } : Jvm.MethodName) prog_23_method_20_code (10 : Nat) (Option.some Jvm.ClassFile.FieldType.long)) ∈ lw_all := lw_g (lw_at lw_m7 161 rfl) rfl
theorem q1659 : (Jvm.Cond.constantLong "PennyJudgeModel" (192 : Nat) (1099511627776 : Int64)) ∈ lw_all := lw_g (lw_at lw_m7 162 rfl) rfl
theorem q1660 : (Jvm.Cond.constantLong "PennyJudgeModel" (194 : Nat) (-1099511627776 : Int64)) ∈ lw_all := lw_g (lw_at lw_m7 163 rfl) rfl
theorem q1661 : (Jvm.Cond.constantLong "PennyJudgeModel" (196 : Nat) (1048576 : Int64)) ∈ lw_all := lw_g (lw_at lw_m7 164 rfl) rfl
theorem q1662 : (Jvm.Cond.methodLink "PennyJudgeModel" (238 : Nat) ({ cls := "PennyJudgeModel", name := "taxes", desc := "(IIIZ)V" } : Jvm.MethodName)) ∈ lw_all := lw_g (lw_at lw_m7 165 rfl) rfl
theorem q1663 : (Jvm.Cond.privateMethod ({ cls := "PennyJudgeModel", name := "taxes", desc := "(IIIZ)V" } : Jvm.MethodName)) ∈ lw_tbl := lw_at lw_m7 166 rfl
theorem q1664 : (Jvm.Cond.instanceMethod ({ cls := "PennyJudgeModel", name := "taxes", desc := "(IIIZ)V" } : Jvm.MethodName)) ∈ lw_all := lw_g (lw_at lw_m7 167 rfl) rfl
theorem q1665 : (Jvm.Cond.code ({ cls := "PennyJudgeModel", name := "taxes", desc := "(IIIZ)V" } : Jvm.MethodName) prog_23_method_26_code (12 : Nat) (Option.none : Option Jvm.ClassFile.FieldType)) ∈ lw_all := lw_g (lw_at lw_m7 168 rfl) rfl
theorem q1666 : (Jvm.Cond.methodLink "PennyJudgeModel" (212 : Nat) ({ cls := "PennyJudgeModel", name := "times", desc := "(JJI)J" } : Jvm.MethodName)) ∈ lw_all := lw_g (lw_at lw_m7 169 rfl) rfl
theorem q1667 : (Jvm.Cond.static ({ cls := "PennyJudgeModel", name := "times", desc := "(JJI)J" } : Jvm.MethodName)) ∈ lw_all := lw_g (lw_at lw_m7 170 rfl) rfl
theorem q1668 : (Jvm.Cond.code ({ cls := "PennyJudgeModel", name := "times", desc := "(JJI)J" } : Jvm.MethodName) prog_23_method_22_code (9 : Nat) (Option.some Jvm.ClassFile.FieldType.long)) ∈ lw_all := lw_g (lw_at lw_m7 171 rfl) rfl
theorem q1669 : (Jvm.Cond.methodLink "PennyJudgeModel" (183 : Nat) ({ cls := "PennyJudgeModel", name := "floor", desc := "(JJ)J" } : Jvm.MethodName)) ∈ lw_all := lw_g (lw_at lw_m7 172 rfl) rfl
theorem q1670 : (Jvm.Cond.static ({ cls := "PennyJudgeModel", name := "floor", desc := "(JJ)J" } : Jvm.MethodName)) ∈ lw_all := lw_g (lw_at lw_m7 173 rfl) rfl
theorem q1671 : (Jvm.Cond.code ({ cls := "PennyJudgeModel", name := "floor", desc := "(JJ)J" } : Jvm.MethodName) prog_23_method_21_code (6 : Nat) (Option.some Jvm.ClassFile.FieldType.long)) ∈ lw_all := lw_g (lw_at lw_m7 174 rfl) rfl
theorem q1672 : (Jvm.Cond.constantLong "PennyJudgeModel" (187 : Nat) (2 : Int64)) ∈ lw_all := lw_g (lw_at lw_m7 175 rfl) rfl
theorem q1673 : (Jvm.Cond.methodLink "PennyJudgeModel" (242 : Nat) ({ cls := "PennyJudgeModel", name := "rates", desc := "(III)V" } : Jvm.MethodName)) ∈ lw_all := lw_g (lw_at lw_m7 176 rfl) rfl
theorem q1674 : (Jvm.Cond.privateMethod ({ cls := "PennyJudgeModel", name := "rates", desc := "(III)V" } : Jvm.MethodName)) ∈ lw_tbl := lw_at lw_m7 177 rfl
theorem q1675 : (Jvm.Cond.instanceMethod ({ cls := "PennyJudgeModel", name := "rates", desc := "(III)V" } : Jvm.MethodName)) ∈ lw_all := lw_g (lw_at lw_m7 178 rfl) rfl
theorem q1676 : (Jvm.Cond.code ({ cls := "PennyJudgeModel", name := "rates", desc := "(III)V" } : Jvm.MethodName) prog_23_method_32_code (6 : Nat) (Option.none : Option Jvm.ClassFile.FieldType)) ∈ lw_all := lw_g (lw_at lw_m7 179 rfl) rfl
theorem q1677 : (Jvm.Cond.methodLink "PennyJudgeModel" (246 : Nat) ({ cls := "PennyJudgeModel", name := "adds", desc := "(III)V" } : Jvm.MethodName)) ∈ lw_all := lw_g (lw_at lw_m7 180 rfl) rfl
theorem q1678 : (Jvm.Cond.privateMethod ({ cls := "PennyJudgeModel", name := "adds", desc := "(III)V" } : Jvm.MethodName)) ∈ lw_tbl := lw_at lw_m7 181 rfl
theorem q1679 : (Jvm.Cond.instanceMethod ({ cls := "PennyJudgeModel", name := "adds", desc := "(III)V" } : Jvm.MethodName)) ∈ lw_all := lw_g (lw_at lw_m7 182 rfl) rfl
theorem q1680 : (Jvm.Cond.code ({ cls := "PennyJudgeModel", name := "adds", desc := "(III)V" } : Jvm.MethodName) prog_23_method_33_code (9 : Nat) (Option.none : Option Jvm.ClassFile.FieldType)) ∈ lw_all := lw_g (lw_at lw_m7 183 rfl) rfl
theorem q1681 : (Jvm.Cond.methodLink "PennyJudgeModel" (249 : Nat) ({ cls := "PennyJudgeModel", name := "splits", desc := "(JII)V" } : Jvm.MethodName)) ∈ lw_all := lw_g (lw_at lw_m7 184 rfl) rfl
theorem q1682 : (Jvm.Cond.privateMethod ({ cls := "PennyJudgeModel", name := "splits", desc := "(JII)V" } : Jvm.MethodName)) ∈ lw_tbl := lw_at lw_m7 185 rfl
theorem q1683 : (Jvm.Cond.instanceMethod ({ cls := "PennyJudgeModel", name := "splits", desc := "(JII)V" } : Jvm.MethodName)) ∈ lw_all := lw_g (lw_at lw_m7 186 rfl) rfl
theorem q1684 : (Jvm.Cond.code ({ cls := "PennyJudgeModel", name := "splits", desc := "(JII)V" } : Jvm.MethodName) prog_23_method_31_code (16 : Nat) (Option.none : Option Jvm.ClassFile.FieldType)) ∈ lw_all := lw_g (lw_at lw_m7 187 rfl) rfl
theorem q1685 : (Jvm.Cond.methodLink "PennyJudgeModel" (223 : Nat) ({ cls := "PennyJudgeModel", name := "partsOf", desc := "(I)I" } : Jvm.MethodName)) ∈ lw_all := lw_g (lw_at lw_m7 188 rfl) rfl
theorem q1686 : (Jvm.Cond.privateMethod ({ cls := "PennyJudgeModel", name := "partsOf", desc := "(I)I" } : Jvm.MethodName)) ∈ lw_tbl := lw_at lw_m7 189 rfl
theorem q1687 : (Jvm.Cond.instanceMethod ({ cls := "PennyJudgeModel", name := "partsOf", desc := "(I)I" } : Jvm.MethodName)) ∈ lw_all := lw_g (lw_at lw_m7 190 rfl) rfl
theorem q1688 : (Jvm.Cond.code ({ cls := "PennyJudgeModel", name := "partsOf", desc := "(I)I" } : Jvm.MethodName) prog_23_method_29_code (2 : Nat) (Option.some Jvm.ClassFile.FieldType.int)) ∈ lw_all := lw_g (lw_at lw_m7 191 rfl) rfl
theorem q1689 : (Jvm.Cond.methodLink "PennyJudgeModel" (220 : Nat) ({ cls := "PennyJudgeModel", name := "isEven", desc := "(I)Z" } : Jvm.MethodName)) ∈ lw_all := lw_g (lw_at lw_m7 192 rfl) rfl
theorem q1690 : (Jvm.Cond.privateMethod ({ cls := "PennyJudgeModel", name := "isEven", desc := "(I)Z" } : Jvm.MethodName)) ∈ lw_tbl := lw_at lw_m7 193 rfl
theorem q1691 : (Jvm.Cond.instanceMethod ({ cls := "PennyJudgeModel", name := "isEven", desc := "(I)Z" } : Jvm.MethodName)) ∈ lw_all := lw_g (lw_at lw_m7 194 rfl) rfl
theorem q1692 : (Jvm.Cond.code ({ cls := "PennyJudgeModel", name := "isEven", desc := "(I)Z" } : Jvm.MethodName) prog_23_method_28_code (4 : Nat) (Option.some Jvm.ClassFile.FieldType.boolean)) ∈ lw_all := lw_g (lw_at lw_m7 195 rfl) rfl
theorem q1693 : (Jvm.Cond.methodLink "PennyJudgeModel" (231 : Nat) ({ cls := "PennyJudgeModel", name := "allWeights", desc := "(I)J" } : Jvm.MethodName)) ∈ lw_all := lw_g (lw_at lw_m7 196 rfl) rfl
theorem q1694 : (Jvm.Cond.privateMethod ({ cls := "PennyJudgeModel", name := "allWeights", desc := "(I)J" } : Jvm.MethodName)) ∈ lw_tbl := lw_at lw_m7 197 rfl
theorem q1695 : (Jvm.Cond.instanceMethod ({ cls := "PennyJudgeModel", name := "allWeights", desc := "(I)J" } : Jvm.MethodName)) ∈ lw_all := lw_g (lw_at lw_m7 198 rfl) rfl
theorem q1696 : (Jvm.Cond.code ({ cls := "PennyJudgeModel", name := "allWeights", desc := "(I)J" } : Jvm.MethodName) prog_23_method_30_code (5 : Nat) (Option.some Jvm.ClassFile.FieldType.long)) ∈ lw_all := lw_g (lw_at lw_m7 199 rfl) rfl
theorem q1697 : (Jvm.Cond.methodLink "PennyJudgeModel" (227 : Nat) ({ cls := "PennyJudgeModel", name := "weighed", desc := "(II)J" } : Jvm.MethodName)) ∈ lw_all := lw_g (lw_at lw_m7 200 rfl) rfl
theorem q1698 : (Jvm.Cond.privateMethod ({ cls := "PennyJudgeModel", name := "weighed", desc := "(II)J" } : Jvm.MethodName)) ∈ lw_tbl := lw_at lw_m7 201 rfl
theorem q1699 : (Jvm.Cond.instanceMethod ({ cls := "PennyJudgeModel", name := "weighed", desc := "(II)J" } : Jvm.MethodName)) ∈ lw_all := lw_g (lw_at lw_m7 202 rfl) rfl
theorem q1700 : (Jvm.Cond.code ({ cls := "PennyJudgeModel", name := "weighed", desc := "(II)J" } : Jvm.MethodName) prog_23_method_27_code (3 : Nat) (Option.some Jvm.ClassFile.FieldType.long)) ∈ lw_all := lw_g (lw_at lw_m7 203 rfl) rfl
theorem q1701 : (Jvm.Cond.methodLink "PennyJudgeModel" (260 : Nat) ({ cls := "PennyJudgeModel", name := "carries", desc := "(II)V" } : Jvm.MethodName)) ∈ lw_all := lw_g (lw_at lw_m7 204 rfl) rfl
theorem q1702 : (Jvm.Cond.privateMethod ({ cls := "PennyJudgeModel", name := "carries", desc := "(II)V" } : Jvm.MethodName)) ∈ lw_tbl := lw_at lw_m7 205 rfl
theorem q1703 : (Jvm.Cond.instanceMethod ({ cls := "PennyJudgeModel", name := "carries", desc := "(II)V" } : Jvm.MethodName)) ∈ lw_all := lw_g (lw_at lw_m7 206 rfl) rfl
theorem q1704 : (Jvm.Cond.code ({ cls := "PennyJudgeModel", name := "carries", desc := "(II)V" } : Jvm.MethodName) prog_23_method_34_code (21 : Nat) (Option.none : Option Jvm.ClassFile.FieldType)) ∈ lw_all := lw_g (lw_at lw_m7 207 rfl) rfl
theorem q1705 : (Jvm.Cond.methodLink "PennyJudgeModel" (264 : Nat) ({ cls := "PennyJudgeModel", name := "caps", desc := "(IIJ)V" } : Jvm.MethodName)) ∈ lw_all := lw_g (lw_at lw_m7 208 rfl) rfl
theorem q1706 : (Jvm.Cond.privateMethod ({ cls := "PennyJudgeModel", name := "caps", desc := "(IIJ)V" } : Jvm.MethodName)) ∈ lw_tbl := lw_at lw_m7 209 rfl
theorem q1707 : (Jvm.Cond.instanceMethod ({ cls := "PennyJudgeModel", name := "caps", desc := "(IIJ)V" } : Jvm.MethodName)) ∈ lw_all := lw_g (lw_at lw_m7 210 rfl) rfl
theorem q1708 : (Jvm.Cond.code ({ cls := "PennyJudgeModel", name := "caps", desc := "(IIJ)V" } : Jvm.MethodName) prog_23_method_36_code (7 : Nat) (Option.none : Option Jvm.ClassFile.FieldType)) ∈ lw_all := lw_g (lw_at lw_m7 211 rfl) rfl
theorem q1709 : (Jvm.Cond.methodLink "PennyJudgeModel" (268 : Nat) ({ cls := "PennyJudgeModel", name := "books", desc := "(III)V" } : Jvm.MethodName)) ∈ lw_all := lw_g (lw_at lw_m7 212 rfl) rfl
theorem q1710 : (Jvm.Cond.privateMethod ({ cls := "PennyJudgeModel", name := "books", desc := "(III)V" } : Jvm.MethodName)) ∈ lw_tbl := lw_at lw_m7 213 rfl
theorem q1711 : (Jvm.Cond.instanceMethod ({ cls := "PennyJudgeModel", name := "books", desc := "(III)V" } : Jvm.MethodName)) ∈ lw_all := lw_g (lw_at lw_m7 214 rfl) rfl
theorem q1712 : (Jvm.Cond.code ({ cls := "PennyJudgeModel", name := "books", desc := "(III)V" } : Jvm.MethodName) prog_23_method_35_code (5 : Nat) (Option.none : Option Jvm.ClassFile.FieldType)) ∈ lw_all := lw_g (lw_at lw_m7 215 rfl) rfl
theorem q1713 : (Jvm.Cond.methodLink "PennyJudgeModel" (271 : Nat) ({ cls := "PennyJudgeModel", name := "days", desc := "(III)V" } : Jvm.MethodName)) ∈ lw_all := lw_g (lw_at lw_m7 216 rfl) rfl
theorem q1714 : (Jvm.Cond.privateMethod ({ cls := "PennyJudgeModel", name := "days", desc := "(III)V" } : Jvm.MethodName)) ∈ lw_tbl := lw_at lw_m7 217 rfl
theorem q1715 : (Jvm.Cond.instanceMethod ({ cls := "PennyJudgeModel", name := "days", desc := "(III)V" } : Jvm.MethodName)) ∈ lw_all := lw_g (lw_at lw_m7 218 rfl) rfl
theorem q1716 : (Jvm.Cond.code ({ cls := "PennyJudgeModel", name := "days", desc := "(III)V" } : Jvm.MethodName) prog_23_method_37_code (9 : Nat) (Option.none : Option Jvm.ClassFile.FieldType)) ∈ lw_all := lw_g (lw_at lw_m7 219 rfl) rfl
theorem q1718 : (Jvm.Cond.instanceMethod ({ cls := "PennyJudgeModel", name := "years", desc := "(II)I" } : Jvm.MethodName)) ∈ lw_all := lw_g (lw_at lw_m7 221 rfl) rfl
theorem q1719 : (Jvm.Cond.selects "PennyJudgeModel" ({ cls := "PennyJudgeModel", name := "years", desc := "(II)I" } : Jvm.MethodName) ({ cls := "PennyJudgeModel", name := "years", desc := "(II)I" } : Jvm.MethodName)) ∈ lw_all := lw_g (lw_at lw_m7 222 rfl) rfl
theorem q1720 : (Jvm.Cond.code ({ cls := "PennyJudgeModel", name := "years", desc := "(II)I" } : Jvm.MethodName) prog_23_method_42_code (4 : Nat) (Option.some Jvm.ClassFile.FieldType.int)) ∈ lw_all := lw_g (lw_at lw_m7 223 rfl) rfl
theorem q1722 : (Jvm.Cond.instanceMethod ({ cls := "PennyJudgeModel", name := "failed", desc := "()I" } : Jvm.MethodName)) ∈ lw_all := lw_g (lw_at lw_m7 225 rfl) rfl
theorem q1723 : (Jvm.Cond.selects "PennyJudgeModel" ({ cls := "PennyJudgeModel", name := "failed", desc := "()I" } : Jvm.MethodName) ({ cls := "PennyJudgeModel", name := "failed", desc := "()I" } : Jvm.MethodName)) ∈ lw_all := lw_g (lw_at lw_m7 226 rfl) rfl
theorem q1724 : (Jvm.Cond.code ({ cls := "PennyJudgeModel", name := "failed", desc := "()I" } : Jvm.MethodName) prog_23_method_43_code (1 : Nat) (Option.some Jvm.ClassFile.FieldType.int)) ∈ lw_all := lw_g (lw_at lw_m7 227 rfl) rfl
theorem q1726 : (Jvm.Cond.instanceMethod ({ cls := "PennyJudgeModel", name := "account", desc := "(I)J" } : Jvm.MethodName)) ∈ lw_all := lw_g (lw_at lw_m7 229 rfl) rfl
theorem q1727 : (Jvm.Cond.selects "PennyJudgeModel" ({ cls := "PennyJudgeModel", name := "account", desc := "(I)J" } : Jvm.MethodName) ({ cls := "PennyJudgeModel", name := "account", desc := "(I)J" } : Jvm.MethodName)) ∈ lw_all := lw_g (lw_at lw_m7 230 rfl) rfl
theorem q1728 : (Jvm.Cond.code ({ cls := "PennyJudgeModel", name := "account", desc := "(I)J" } : Jvm.MethodName) prog_23_method_45_code (2 : Nat) (Option.some Jvm.ClassFile.FieldType.long)) ∈ lw_all := lw_g (lw_at lw_m7 231 rfl) rfl
theorem q1729 : (Jvm.Cond.methodLink "PennyJudgeModel" (283 : Nat) ({ cls := "PennyJudgeModel", name := "isRefused", desc := "(Z)Z" } : Jvm.MethodName)) ∈ lw_all := lw_g (lw_at lw_m7 232 rfl) rfl
theorem q1730 : (Jvm.Cond.privateMethod ({ cls := "PennyJudgeModel", name := "isRefused", desc := "(Z)Z" } : Jvm.MethodName)) ∈ lw_tbl := lw_at lw_m7 233 rfl
theorem q1731 : (Jvm.Cond.instanceMethod ({ cls := "PennyJudgeModel", name := "isRefused", desc := "(Z)Z" } : Jvm.MethodName)) ∈ lw_all := lw_g (lw_at lw_m7 234 rfl) rfl
theorem q1732 : (Jvm.Cond.code ({ cls := "PennyJudgeModel", name := "isRefused", desc := "(Z)Z" } : Jvm.MethodName) prog_23_method_44_code (2 : Nat) (Option.some Jvm.ClassFile.FieldType.boolean)) ∈ lw_all := lw_g (lw_at lw_m7 235 rfl) rfl
theorem q1734 : (Jvm.Cond.instanceMethod ({ cls := "PennyJudgeModel", name := "slot", desc := "(II)J" } : Jvm.MethodName)) ∈ lw_all := lw_g (lw_at lw_m7 237 rfl) rfl
theorem q1735 : (Jvm.Cond.selects "PennyJudgeModel" ({ cls := "PennyJudgeModel", name := "slot", desc := "(II)J" } : Jvm.MethodName) ({ cls := "PennyJudgeModel", name := "slot", desc := "(II)J" } : Jvm.MethodName)) ∈ lw_all := lw_g (lw_at lw_m7 238 rfl) rfl
theorem q1736 : (Jvm.Cond.code ({ cls := "PennyJudgeModel", name := "slot", desc := "(II)J" } : Jvm.MethodName) prog_23_method_46_code (3 : Nat) (Option.some Jvm.ClassFile.FieldType.long)) ∈ lw_all := lw_g (lw_at lw_m7 239 rfl) rfl
theorem q1738 : (Jvm.Cond.instanceMethod ({ cls := "PennyJudgeModel", name := "part", desc := "(I)J" } : Jvm.MethodName)) ∈ lw_all := lw_g (lw_at lw_m8 1 rfl) rfl
theorem q1739 : (Jvm.Cond.selects "PennyJudgeModel" ({ cls := "PennyJudgeModel", name := "part", desc := "(I)J" } : Jvm.MethodName) ({ cls := "PennyJudgeModel", name := "part", desc := "(I)J" } : Jvm.MethodName)) ∈ lw_all := lw_g (lw_at lw_m8 2 rfl) rfl
theorem q1740 : (Jvm.Cond.code ({ cls := "PennyJudgeModel", name := "part", desc := "(I)J" } : Jvm.MethodName) prog_23_method_47_code (2 : Nat) (Option.some Jvm.ClassFile.FieldType.long)) ∈ lw_all := lw_g (lw_at lw_m8 3 rfl) rfl
theorem q1742 : (Jvm.Cond.instanceMethod ({ cls := "PennyJudgeModel", name := "got", desc := "(I)J" } : Jvm.MethodName)) ∈ lw_all := lw_g (lw_at lw_m8 5 rfl) rfl
theorem q1743 : (Jvm.Cond.selects "PennyJudgeModel" ({ cls := "PennyJudgeModel", name := "got", desc := "(I)J" } : Jvm.MethodName) ({ cls := "PennyJudgeModel", name := "got", desc := "(I)J" } : Jvm.MethodName)) ∈ lw_all := lw_g (lw_at lw_m8 6 rfl) rfl
theorem q1744 : (Jvm.Cond.code ({ cls := "PennyJudgeModel", name := "got", desc := "(I)J" } : Jvm.MethodName) prog_23_method_48_code (2 : Nat) (Option.some Jvm.ClassFile.FieldType.long)) ∈ lw_all := lw_g (lw_at lw_m8 7 rfl) rfl
theorem q1746 : (Jvm.Cond.instanceMethod ({ cls := "PennyJudgeModel", name := "carried", desc := "(II)J" } : Jvm.MethodName)) ∈ lw_all := lw_g (lw_at lw_m8 9 rfl) rfl
theorem q1747 : (Jvm.Cond.selects "PennyJudgeModel" ({ cls := "PennyJudgeModel", name := "carried", desc := "(II)J" } : Jvm.MethodName) ({ cls := "PennyJudgeModel", name := "carried", desc := "(II)J" } : Jvm.MethodName)) ∈ lw_all := lw_g (lw_at lw_m8 10 rfl) rfl
theorem q1748 : (Jvm.Cond.code ({ cls := "PennyJudgeModel", name := "carried", desc := "(II)J" } : Jvm.MethodName) prog_23_method_49_code (3 : Nat) (Option.some Jvm.ClassFile.FieldType.long)) ∈ lw_all := lw_g (lw_at lw_m8 11 rfl) rfl
theorem q1750 : (Jvm.Cond.instanceMethod ({ cls := "PennyJudgeModel", name := "least", desc := "(IIIII)I" } : Jvm.MethodName)) ∈ lw_all := lw_g (lw_at lw_m8 13 rfl) rfl
theorem q1751 : (Jvm.Cond.selects "PennyJudgeModel" ({ cls := "PennyJudgeModel", name := "least", desc := "(IIIII)I" } : Jvm.MethodName) ({ cls := "PennyJudgeModel", name := "least", desc := "(IIIII)I" } : Jvm.MethodName)) ∈ lw_all := lw_g (lw_at lw_m8 14 rfl) rfl
theorem q1752 : (Jvm.Cond.code ({ cls := "PennyJudgeModel", name := "least", desc := "(IIIII)I" } : Jvm.MethodName) prog_23_method_64_code (6 : Nat) (Option.some Jvm.ClassFile.FieldType.int)) ∈ lw_all := lw_g (lw_at lw_m8 15 rfl) rfl
theorem q1753 : (Jvm.Cond.methodLink "PennyJudgeModel" (354 : Nat) ({ cls := "PennyJudgeModel", name := "isSpan", desc := "(III)Z" } : Jvm.MethodName)) ∈ lw_all := lw_g (lw_at lw_m8 16 rfl) rfl
theorem q1754 : (Jvm.Cond.static ({ cls := "PennyJudgeModel", name := "isSpan", desc := "(III)Z" } : Jvm.MethodName)) ∈ lw_all := lw_g (lw_at lw_m8 17 rfl) rfl
theorem q1755 : (Jvm.Cond.code ({ cls := "PennyJudgeModel", name := "isSpan", desc := "(III)Z" } : Jvm.MethodName) prog_23_method_62_code (3 : Nat) (Option.some Jvm.ClassFile.FieldType.boolean)) ∈ lw_all := lw_g (lw_at lw_m8 18 rfl) rfl
theorem q1756 : (Jvm.Cond.constant "PennyJudgeModel" (348 : Nat) (-1000000 : Int32)) ∈ lw_all := lw_g (lw_at lw_m8 19 rfl) rfl
theorem q1757 : (Jvm.Cond.methodLink "PennyJudgeModel" (357 : Nat) ({ cls := "PennyJudgeModel", name := "leastOf", desc := "(IIIII)I" } : Jvm.MethodName)) ∈ lw_all := lw_g (lw_at lw_m8 20 rfl) rfl
theorem q1758 : (Jvm.Cond.privateMethod ({ cls := "PennyJudgeModel", name := "leastOf", desc := "(IIIII)I" } : Jvm.MethodName)) ∈ lw_tbl := lw_at lw_m8 21 rfl
theorem q1759 : (Jvm.Cond.instanceMethod ({ cls := "PennyJudgeModel", name := "leastOf", desc := "(IIIII)I" } : Jvm.MethodName)) ∈ lw_all := lw_g (lw_at lw_m8 22 rfl) rfl
theorem q1760 : (Jvm.Cond.code ({ cls := "PennyJudgeModel", name := "leastOf", desc := "(IIIII)I" } : Jvm.MethodName) prog_23_method_63_code (7 : Nat) (Option.some Jvm.ClassFile.FieldType.int)) ∈ lw_all := lw_g (lw_at lw_m8 23 rfl) rfl
theorem q1761 : (Jvm.Cond.methodLink "PennyJudgeModel" (349 : Nat) ({ cls := "PennyJudgeModel", name := "breaks", desc := "(IIII)Z" } : Jvm.MethodName)) ∈ lw_all := lw_g (lw_at lw_m8 24 rfl) rfl
theorem q1762 : (Jvm.Cond.privateMethod ({ cls := "PennyJudgeModel", name := "breaks", desc := "(IIII)Z" } : Jvm.MethodName)) ∈ lw_tbl := lw_at lw_m8 25 rfl
theorem q1763 : (Jvm.Cond.instanceMethod ({ cls := "PennyJudgeModel", name := "breaks", desc := "(IIII)Z" } : Jvm.MethodName)) ∈ lw_all := lw_g (lw_at lw_m8 26 rfl) rfl
theorem q1764 : (Jvm.Cond.code ({ cls := "PennyJudgeModel", name := "breaks", desc := "(IIII)Z" } : Jvm.MethodName) prog_23_method_55_code (9 : Nat) (Option.some Jvm.ClassFile.FieldType.boolean)) ∈ lw_all := lw_g (lw_at lw_m8 27 rfl) rfl
theorem q1765 : (Jvm.Cond.methodLink "PennyJudgeModel" (290 : Nat) ({ cls := "PennyJudgeModel", name := "triesAmount", desc := "(II)Z" } : Jvm.MethodName)) ∈ lw_all := lw_g (lw_at lw_m8 28 rfl) rfl
theorem q1766 : (Jvm.Cond.privateMethod ({ cls := "PennyJudgeModel", name := "triesAmount", desc := "(II)Z" } : Jvm.MethodName)) ∈ lw_tbl := lw_at lw_m8 29 rfl
theorem q1767 : (Jvm.Cond.instanceMethod ({ cls := "PennyJudgeModel", name := "triesAmount", desc := "(II)Z" } : Jvm.MethodName)) ∈ lw_all := lw_g (lw_at lw_m8 30 rfl) rfl
theorem q1768 : (Jvm.Cond.code ({ cls := "PennyJudgeModel", name := "triesAmount", desc := "(II)Z" } : Jvm.MethodName) prog_23_method_51_code (3 : Nat) (Option.some Jvm.ClassFile.FieldType.boolean)) ∈ lw_all := lw_g (lw_at lw_m8 31 rfl) rfl
theorem q1769 : (Jvm.Cond.methodLink "PennyJudgeModel" (287 : Nat) ({ cls := "PennyJudgeModel", name := "tries", desc := "(I)Z" } : Jvm.MethodName)) ∈ lw_all := lw_g (lw_at lw_m8 32 rfl) rfl
theorem q1770 : (Jvm.Cond.privateMethod ({ cls := "PennyJudgeModel", name := "tries", desc := "(I)Z" } : Jvm.MethodName)) ∈ lw_tbl := lw_at lw_m8 33 rfl
theorem q1771 : (Jvm.Cond.instanceMethod ({ cls := "PennyJudgeModel", name := "tries", desc := "(I)Z" } : Jvm.MethodName)) ∈ lw_all := lw_g (lw_at lw_m8 34 rfl) rfl
theorem q1772 : (Jvm.Cond.code ({ cls := "PennyJudgeModel", name := "tries", desc := "(I)Z" } : Jvm.MethodName) prog_23_method_50_code (3 : Nat) (Option.some Jvm.ClassFile.FieldType.boolean)) ∈ lw_all := lw_g (lw_at lw_m8 35 rfl) rfl
theorem q1773 : (Jvm.Cond.methodLink "PennyJudgeModel" (293 : Nat) ({ cls := "PennyJudgeModel", name := "notes", desc := "()V" } : Jvm.MethodName)) ∈ lw_all := lw_g (lw_at lw_m8 36 rfl) rfl
theorem q1774 : (Jvm.Cond.privateMethod ({ cls := "PennyJudgeModel", name := "notes", desc := "()V" } : Jvm.MethodName)) ∈ lw_tbl := lw_at lw_m8 37 rfl
theorem q1775 : (Jvm.Cond.instanceMethod ({ cls := "PennyJudgeModel", name := "notes", desc := "()V" } : Jvm.MethodName)) ∈ lw_all := lw_g (lw_at lw_m8 38 rfl) rfl
theorem q1776 : (Jvm.Cond.code ({ cls := "PennyJudgeModel", name := "notes", desc := "()V" } : Jvm.MethodName) prog_23_method_52_code (2 : Nat) (Option.none : Option Jvm.ClassFile.FieldType)) ∈ lw_all := lw_g (lw_at lw_m8 39 rfl) rfl
theorem q1777 : (Jvm.Cond.constantLong "PennyJudgeModel" (296 : Nat) (-1 : Int64)) ∈ lw_all := lw_g (lw_at lw_m8 40 rfl) rfl
theorem q1778 : (Jvm.Cond.methodLink "PennyJudgeModel" (298 : Nat) ({ cls := "PennyJudgeModel", name := "differs", desc := "(J)Z" } : Jvm.MethodName)) ∈ lw_all := lw_g (lw_at lw_m8 41 rfl) rfl
theorem q1779 : (Jvm.Cond.privateMethod ({ cls := "PennyJudgeModel", name := "differs", desc := "(J)Z" } : Jvm.MethodName)) ∈ lw_tbl := lw_at lw_m8 42 rfl
theorem q1780 : (Jvm.Cond.instanceMethod ({ cls := "PennyJudgeModel", name := "differs", desc := "(J)Z" } : Jvm.MethodName)) ∈ lw_all := lw_g (lw_at lw_m8 43 rfl) rfl
theorem q1781 : (Jvm.Cond.code ({ cls := "PennyJudgeModel", name := "differs", desc := "(J)Z" } : Jvm.MethodName) prog_23_method_53_code (5 : Nat) (Option.some Jvm.ClassFile.FieldType.boolean)) ∈ lw_all := lw_g (lw_at lw_m8 44 rfl) rfl
theorem q1782 : (Jvm.Cond.methodLink "PennyJudgeModel" (301 : Nat) ({ cls := "PennyJudgeModel", name := "isUnfair", desc := "()Z" } : Jvm.MethodName)) ∈ lw_all := lw_g (lw_at lw_m8 45 rfl) rfl
theorem q1783 : (Jvm.Cond.privateMethod ({ cls := "PennyJudgeModel", name := "isUnfair", desc := "()Z" } : Jvm.MethodName)) ∈ lw_tbl := lw_at lw_m8 46 rfl
theorem q1784 : (Jvm.Cond.instanceMethod ({ cls := "PennyJudgeModel", name := "isUnfair", desc := "()Z" } : Jvm.MethodName)) ∈ lw_all := lw_g (lw_at lw_m8 47 rfl) rfl
theorem q1785 : (Jvm.Cond.code ({ cls := "PennyJudgeModel", name := "isUnfair", desc := "()Z" } : Jvm.MethodName) prog_23_method_54_code (7 : Nat) (Option.some Jvm.ClassFile.FieldType.boolean)) ∈ lw_all := lw_g (lw_at lw_m8 48 rfl) rfl
theorem q1786 : (Jvm.Cond.methodLink "PennyJudgeModel" (305 : Nat) ({ cls := "PennyJudgeModel", name := "floats", desc := "(II)V" } : Jvm.MethodName)) ∈ lw_all := lw_g (lw_at lw_m8 49 rfl) rfl
theorem q1787 : (Jvm.Cond.privateMethod ({ cls := "PennyJudgeModel", name := "floats", desc := "(II)V" } : Jvm.MethodName)) ∈ lw_tbl := lw_at lw_m8 50 rfl
theorem q1788 : (Jvm.Cond.instanceMethod ({ cls := "PennyJudgeModel", name := "floats", desc := "(II)V" } : Jvm.MethodName)) ∈ lw_all := lw_g (lw_at lw_m8 51 rfl) rfl
theorem q1789 : (Jvm.Cond.code ({ cls := "PennyJudgeModel", name := "floats", desc := "(II)V" } : Jvm.MethodName) prog_23_method_61_code (4 : Nat) (Option.none : Option Jvm.ClassFile.FieldType)) ∈ lw_all := lw_g (lw_at lw_m8 52 rfl) rfl
theorem q1790 : (Jvm.Cond.methodLink "PennyJudgeModel" (344 : Nat) ({ cls := "PennyJudgeModel", name := "doesF", desc := "(ID)V" } : Jvm.MethodName)) ∈ lw_all := lw_g (lw_at lw_m8 53 rfl) rfl
theorem q1791 : (Jvm.Cond.privateMethod ({ cls := "PennyJudgeModel", name := "doesF", desc := "(ID)V" } : Jvm.MethodName)) ∈ lw_tbl := lw_at lw_m8 54 rfl
theorem q1792 : (Jvm.Cond.instanceMethod ({ cls := "PennyJudgeModel", name := "doesF", desc := "(ID)V" } : Jvm.MethodName)) ∈ lw_all := lw_g (lw_at lw_m8 55 rfl) rfl
theorem q1793 : (Jvm.Cond.code ({ cls := "PennyJudgeModel", name := "doesF", desc := "(ID)V" } : Jvm.MethodName) prog_23_method_59_code (11 : Nat) (Option.none : Option Jvm.ClassFile.FieldType)) ∈ lw_all := lw_g (lw_at lw_m8 56 rfl) rfl
theorem q1794 : (Jvm.Cond.methodLink "PennyJudgeModel" (321 : Nat) ({ cls := "PennyJudgeModel", name := "rateF", desc := "(I)D" } : Jvm.MethodName)) ∈ lw_all := lw_g (lw_at lw_m8 57 rfl) rfl
theorem q1795 : (Jvm.Cond.privateMethod ({ cls := "PennyJudgeModel", name := "rateF", desc := "(I)D" } : Jvm.MethodName)) ∈ lw_tbl := lw_at lw_m8 58 rfl
theorem q1796 : (Jvm.Cond.instanceMethod ({ cls := "PennyJudgeModel", name := "rateF", desc := "(I)D" } : Jvm.MethodName)) ∈ lw_all := lw_g (lw_at lw_m8 59 rfl) rfl
theorem q1797 : (Jvm.Cond.code ({ cls := "PennyJudgeModel", name := "rateF", desc := "(I)D" } : Jvm.MethodName) prog_23_method_57_code (2 : Nat) (Option.some Jvm.ClassFile.FieldType.double)) ∈ lw_all := lw_g (lw_at lw_m8 60 rfl) rfl
theorem q1798 : (Jvm.Cond.methodLink "PennyJudgeModel" (325 : Nat) ({ cls := "PennyJudgeModel", name := "roundedF", desc := "(DDI)D" } : Jvm.MethodName)) ∈ lw_all := lw_g (lw_at lw_m8 61 rfl) rfl
theorem q1799 : (Jvm.Cond.static ({ cls := "PennyJudgeModel", name := "roundedF", desc := "(DDI)D" } : Jvm.MethodName)) ∈ lw_all := lw_g (lw_at lw_m8 62 rfl) rfl
theorem q1800 : (Jvm.Cond.code ({ cls := "PennyJudgeModel", name := "roundedF", desc := "(DDI)D" } : Jvm.MethodName) prog_23_method_56_code (9 : Nat) (Option.some Jvm.ClassFile.FieldType.double)) ∈ lw_all := lw_g (lw_at lw_m8 63 rfl) rfl
theorem q1801 : (Jvm.Cond.constantDouble "PennyJudgeModel" (308 : Nat) (4602678819172646912 : UInt64)) ∈ lw_all := lw_g (lw_at lw_m8 64 rfl) rfl
theorem q1802 : (Jvm.Cond.methodLink "PennyJudgeModel" (310 : Nat) ({ cls := "java/lang/Math", name := "floor", desc := "(D)D" } : Jvm.MethodName)) ∈ lw_all := lw_g (lw_at lw_m8 65 rfl) rfl
theorem q1803 : (Jvm.Cond.methodLink "PennyJudgeModel" (315 : Nat) ({ cls := "java/lang/Math", name := "ceil", desc := "(D)D" } : Jvm.MethodName)) ∈ lw_all := lw_g (lw_at lw_m8 66 rfl) rfl
theorem q1804 : (Jvm.Cond.methodLink "PennyJudgeModel" (318 : Nat) ({ cls := "java/lang/Math", name := "rint", desc := "(D)D" } : Jvm.MethodName)) ∈ lw_all := lw_g (lw_at lw_m8 67 rfl) rfl
theorem q1805 : (Jvm.Cond.methodLink "PennyJudgeModel" (329 : Nat) ({ cls := "PennyJudgeModel", name := "splitsF", desc := "(III)V" } : Jvm.MethodName)) ∈ lw_all := lw_g (lw_at lw_m8 68 rfl) rfl
theorem q1806 : (Jvm.Cond.privateMethod ({ cls := "PennyJudgeModel", name := "splitsF", desc := "(III)V" } : Jvm.MethodName)) ∈ lw_tbl := lw_at lw_m8 69 rfl
theorem q1807 : (Jvm.Cond.instanceMethod ({ cls := "PennyJudgeModel", name := "splitsF", desc := "(III)V" } : Jvm.MethodName)) ∈ lw_all := lw_g (lw_at lw_m8 70 rfl) rfl
theorem q1808 : (Jvm.Cond.code ({ cls := "PennyJudgeModel", name := "splitsF", desc := "(III)V" } : Jvm.MethodName) prog_23_method_58_code (7 : Nat) (Option.none : Option Jvm.ClassFile.FieldType)) ∈ lw_all := lw_g (lw_at lw_m8 71 rfl) rfl
theorem q1809 : (Jvm.Cond.methodLink "PennyJudgeModel" (336 : Nat) ({ cls := "PennyJudgeModel", name := "keepsF", desc := "(I)V" } : Jvm.MethodName)) ∈ lw_all := lw_g (lw_at lw_m8 72 rfl) rfl
theorem q1810 : (Jvm.Cond.privateMethod ({ cls := "PennyJudgeModel", name := "keepsF", desc := "(I)V" } : Jvm.MethodName)) ∈ lw_tbl := lw_at lw_m8 73 rfl
theorem q1811 : (Jvm.Cond.instanceMethod ({ cls := "PennyJudgeModel", name := "keepsF", desc := "(I)V" } : Jvm.MethodName)) ∈ lw_all := lw_g (lw_at lw_m8 74 rfl) rfl
theorem q1812 : (Jvm.Cond.code ({ cls := "PennyJudgeModel", name := "keepsF", desc := "(I)V" } : Jvm.MethodName) prog_23_method_60_code (2 : Nat) (Option.none : Option Jvm.ClassFile.FieldType)) ∈ lw_all := lw_g (lw_at lw_m8 75 rfl) rfl
theorem q1813 : (Jvm.Cond.constantDouble "PennyJudgeModel" (340 : Nat) (4832362400168542208 : UInt64)) ∈ lw_all := lw_g (lw_at lw_m8 76 rfl) rfl
theorem q1814 : (Jvm.Cond.constantDouble "PennyJudgeModel" (342 : Nat) (14055734437023318016 : UInt64)) ∈ lw_all := lw_g (lw_at lw_m8 77 rfl) rfl
theorem q1815 : (Jvm.Cond.constant "PennyJudgeModel" (353 : Nat) (9999999 : Int32)) ∈ lw_all := lw_g (lw_at lw_m8 78 rfl) rfl
theorem q1817 : (Jvm.Cond.instanceMethod ({ cls := "PennyJudgeModel", name := "order", desc := "(I)I" } : Jvm.MethodName)) ∈ lw_all := lw_g (lw_at lw_m8 80 rfl) rfl
theorem q1818 : (Jvm.Cond.selects "PennyJudgeModel" ({ cls := "PennyJudgeModel", name := "order", desc := "(I)I" } : Jvm.MethodName) ({ cls := "PennyJudgeModel", name := "order", desc := "(I)I" } : Jvm.MethodName)) ∈ lw_all := lw_g (lw_at lw_m8 81 rfl) rfl
theorem q1819 : (Jvm.Cond.code ({ cls := "PennyJudgeModel", name := "order", desc := "(I)I" } : Jvm.MethodName) prog_23_method_67_code (6 : Nat) (Option.some Jvm.ClassFile.FieldType.int)) ∈ lw_all := lw_g (lw_at lw_m8 82 rfl) rfl
theorem q1820 : (Jvm.Cond.methodLink "PennyJudgeModel" (361 : Nat) ({ cls := "PennyJudgeModel", name := "triesOrder", desc := "(I)Z" } : Jvm.MethodName)) ∈ lw_all := lw_g (lw_at lw_m8 83 rfl) rfl
theorem q1821 : (Jvm.Cond.privateMethod ({ cls := "PennyJudgeModel", name := "triesOrder", desc := "(I)Z" } : Jvm.MethodName)) ∈ lw_tbl := lw_at lw_m8 84 rfl
theorem q1822 : (Jvm.Cond.instanceMethod ({ cls := "PennyJudgeModel", name := "triesOrder", desc := "(I)Z" } : Jvm.MethodName)) ∈ lw_all := lw_g (lw_at lw_m8 85 rfl) rfl
theorem q1823 : (Jvm.Cond.code ({ cls := "PennyJudgeModel", name := "triesOrder", desc := "(I)Z" } : Jvm.MethodName) prog_23_method_66_code (3 : Nat) (Option.some Jvm.ClassFile.FieldType.boolean)) ∈ lw_all := lw_g (lw_at lw_m8 86 rfl) rfl
theorem q1824 : (Jvm.Cond.methodLink "PennyJudgeModel" (364 : Nat) ({ cls := "PennyJudgeModel", name := "steps", desc := "()Z" } : Jvm.MethodName)) ∈ lw_all := lw_g (lw_at lw_m8 87 rfl) rfl
theorem q1825 : (Jvm.Cond.privateMethod ({ cls := "PennyJudgeModel", name := "steps", desc := "()Z" } : Jvm.MethodName)) ∈ lw_tbl := lw_at lw_m8 88 rfl
theorem q1826 : (Jvm.Cond.instanceMethod ({ cls := "PennyJudgeModel", name := "steps", desc := "()Z" } : Jvm.MethodName)) ∈ lw_all := lw_g (lw_at lw_m8 89 rfl) rfl
theorem q1827 : (Jvm.Cond.code ({ cls := "PennyJudgeModel", name := "steps", desc := "()Z" } : Jvm.MethodName) prog_23_method_65_code (6 : Nat) (Option.some Jvm.ClassFile.FieldType.boolean)) ∈ lw_all := lw_g (lw_at lw_m8 90 rfl) rfl
theorem q1829 : (Jvm.Cond.instanceMethod ({ cls := "PennyJudgeModel", name := "drift", desc := "(IIIII)I" } : Jvm.MethodName)) ∈ lw_all := lw_g (lw_at lw_m8 92 rfl) rfl
theorem q1830 : (Jvm.Cond.selects "PennyJudgeModel" ({ cls := "PennyJudgeModel", name := "drift", desc := "(IIIII)I" } : Jvm.MethodName) ({ cls := "PennyJudgeModel", name := "drift", desc := "(IIIII)I" } : Jvm.MethodName)) ∈ lw_all := lw_g (lw_at lw_m8 93 rfl) rfl
theorem q1831 : (Jvm.Cond.code ({ cls := "PennyJudgeModel", name := "drift", desc := "(IIIII)I" } : Jvm.MethodName) prog_23_method_68_code (18 : Nat) (Option.some Jvm.ClassFile.FieldType.int)) ∈ lw_all := lw_g (lw_at lw_m8 94 rfl) rfl
theorem q1833 : (Jvm.Cond.instanceMethod ({ cls := "PennyJudgeModel", name := "mend", desc := "(IIII)I" } : Jvm.MethodName)) ∈ lw_all := lw_g (lw_at lw_m8 96 rfl) rfl
theorem q1834 : (Jvm.Cond.selects "PennyJudgeModel" ({ cls := "PennyJudgeModel", name := "mend", desc := "(IIII)I" } : Jvm.MethodName) ({ cls := "PennyJudgeModel", name := "mend", desc := "(IIII)I" } : Jvm.MethodName)) ∈ lw_all := lw_g (lw_at lw_m8 97 rfl) rfl
theorem q1835 : (Jvm.Cond.code ({ cls := "PennyJudgeModel", name := "mend", desc := "(IIII)I" } : Jvm.MethodName) prog_23_method_71_code (10 : Nat) (Option.some Jvm.ClassFile.FieldType.int)) ∈ lw_all := lw_g (lw_at lw_m8 98 rfl) rfl
theorem q1836 : (Jvm.Cond.methodLink "PennyJudgeModel" (367 : Nat) ({ cls := "PennyJudgeModel", name := "hasChoice", desc := "(I)Z" } : Jvm.MethodName)) ∈ lw_all := lw_g (lw_at lw_m8 99 rfl) rfl
theorem q1837 : (Jvm.Cond.privateMethod ({ cls := "PennyJudgeModel", name := "hasChoice", desc := "(I)Z" } : Jvm.MethodName)) ∈ lw_tbl := lw_at lw_m8 100 rfl
theorem q1838 : (Jvm.Cond.instanceMethod ({ cls := "PennyJudgeModel", name := "hasChoice", desc := "(I)Z" } : Jvm.MethodName)) ∈ lw_all := lw_g (lw_at lw_m8 101 rfl) rfl
theorem q1839 : (Jvm.Cond.code ({ cls := "PennyJudgeModel", name := "hasChoice", desc := "(I)Z" } : Jvm.MethodName) prog_23_method_69_code (2 : Nat) (Option.some Jvm.ClassFile.FieldType.boolean)) ∈ lw_all := lw_g (lw_at lw_m8 102 rfl) rfl
theorem q1840 : (Jvm.Cond.methodLink "PennyJudgeModel" (370 : Nat) ({ cls := "PennyJudgeModel", name := "chooses", desc := "(II)V" } : Jvm.MethodName)) ∈ lw_all := lw_g (lw_at lw_m8 103 rfl) rfl
theorem q1841 : (Jvm.Cond.privateMethod ({ cls := "PennyJudgeModel", name := "chooses", desc := "(II)V" } : Jvm.MethodName)) ∈ lw_tbl := lw_at lw_m8 104 rfl
theorem q1842 : (Jvm.Cond.instanceMethod ({ cls := "PennyJudgeModel", name := "chooses", desc := "(II)V" } : Jvm.MethodName)) ∈ lw_all := lw_g (lw_at lw_m8 105 rfl) rfl
theorem q1843 : (Jvm.Cond.code ({ cls := "PennyJudgeModel", name := "chooses", desc := "(II)V" } : Jvm.MethodName) prog_23_method_70_code (3 : Nat) (Option.none : Option Jvm.ClassFile.FieldType)) ∈ lw_all := lw_g (lw_at lw_m8 106 rfl) rfl
theorem q1845 : (Jvm.Cond.instanceMethod ({ cls := "PennyJudgeModel", name := "same", desc := "(II)I" } : Jvm.MethodName)) ∈ lw_all := lw_g (lw_at lw_m8 108 rfl) rfl
theorem q1846 : (Jvm.Cond.selects "PennyJudgeModel" ({ cls := "PennyJudgeModel", name := "same", desc := "(II)I" } : Jvm.MethodName) ({ cls := "PennyJudgeModel", name := "same", desc := "(II)I" } : Jvm.MethodName)) ∈ lw_all := lw_g (lw_at lw_m8 109 rfl) rfl
theorem q1847 : (Jvm.Cond.code ({ cls := "PennyJudgeModel", name := "same", desc := "(II)I" } : Jvm.MethodName) prog_23_method_72_code (7 : Nat) (Option.some Jvm.ClassFile.FieldType.int)) ∈ lw_all := lw_g (lw_at lw_m8 110 rfl) rfl
theorem q1849 : (Jvm.Cond.instanceMethod ({ cls := "PennyJudgeModel", name := "rounded", desc := "(JIII)J" } : Jvm.MethodName)) ∈ lw_all := lw_g (lw_at lw_m8 112 rfl) rfl
theorem q1850 : (Jvm.Cond.selects "PennyJudgeModel" ({ cls := "PennyJudgeModel", name := "rounded", desc := "(JIII)J" } : Jvm.MethodName) ({ cls := "PennyJudgeModel", name := "rounded", desc := "(JIII)J" } : Jvm.MethodName)) ∈ lw_all := lw_g (lw_at lw_m8 113 rfl) rfl
theorem q1851 : (Jvm.Cond.code ({ cls := "PennyJudgeModel", name := "rounded", desc := "(JIII)J" } : Jvm.MethodName) prog_23_method_73_code (7 : Nat) (Option.some Jvm.ClassFile.FieldType.long)) ∈ lw_all := lw_g (lw_at lw_m8 114 rfl) rfl
theorem q1852 : (Jvm.Cond.constantLong "PennyJudgeModel" (373 : Nat) (-1000000000000 : Int64)) ∈ lw_all := lw_g (lw_at lw_m8 115 rfl) rfl
theorem q1853 : (Jvm.Cond.constantLong "PennyJudgeModel" (375 : Nat) (1000000000000 : Int64)) ∈ lw_all := lw_g (lw_at lw_m8 116 rfl) rfl
theorem q1855 : (Jvm.Cond.instanceMethod ({ cls := "PennyJudgeModel", name := "tape", desc := "(III)I" } : Jvm.MethodName)) ∈ lw_all := lw_g (lw_at lw_m8 118 rfl) rfl
theorem q1856 : (Jvm.Cond.selects "PennyJudgeModel" ({ cls := "PennyJudgeModel", name := "tape", desc := "(III)I" } : Jvm.MethodName) ({ cls := "PennyJudgeModel", name := "tape", desc := "(III)I" } : Jvm.MethodName)) ∈ lw_all := lw_g (lw_at lw_m8 119 rfl) rfl
theorem q1857 : (Jvm.Cond.code ({ cls := "PennyJudgeModel", name := "tape", desc := "(III)I" } : Jvm.MethodName) prog_23_method_75_code (5 : Nat) (Option.some Jvm.ClassFile.FieldType.int)) ∈ lw_all := lw_g (lw_at lw_m8 120 rfl) rfl
theorem q1858 : (Jvm.Cond.methodLink "PennyJudgeModel" (377 : Nat) ({ cls := "PennyJudgeModel", name := "isTape", desc := "(I)Z" } : Jvm.MethodName)) ∈ lw_all := lw_g (lw_at lw_m8 121 rfl) rfl
theorem q1859 : (Jvm.Cond.static ({ cls := "PennyJudgeModel", name := "isTape", desc := "(I)Z" } : Jvm.MethodName)) ∈ lw_all := lw_g (lw_at lw_m8 122 rfl) rfl
theorem q1860 : (Jvm.Cond.code ({ cls := "PennyJudgeModel", name := "isTape", desc := "(I)Z" } : Jvm.MethodName) prog_23_method_74_code (1 : Nat) (Option.some Jvm.ClassFile.FieldType.boolean)) ∈ lw_all := lw_g (lw_at lw_m8 123 rfl) rfl
theorem q1861 : (Jvm.Cond.methodLink "PennyJudgeModel" (380 : Nat) ({ cls := "PennyJudgeModel", name := "refuse", desc := "(I)I" } : Jvm.MethodName)) ∈ lw_all := lw_g (lw_at lw_m8 124 rfl) rfl
theorem q1862 : (Jvm.Cond.privateMethod ({ cls := "PennyJudgeModel", name := "refuse", desc := "(I)I" } : Jvm.MethodName)) ∈ lw_tbl := lw_at lw_m8 125 rfl
theorem q1863 : (Jvm.Cond.instanceMethod ({ cls := "PennyJudgeModel", name := "refuse", desc := "(I)I" } : Jvm.MethodName)) ∈ lw_all := lw_g (lw_at lw_m8 126 rfl) rfl
theorem q1864 : (Jvm.Cond.code ({ cls := "PennyJudgeModel", name := "refuse", desc := "(I)I" } : Jvm.MethodName) prog_23_method_4_code (2 : Nat) (Option.some Jvm.ClassFile.FieldType.int)) ∈ lw_all := lw_g (lw_at lw_m8 127 rfl) rfl
theorem q1866 : (Jvm.Cond.instanceMethod ({ cls := "PennyJudgeModel", name := "image", desc := "(I)I" } : Jvm.MethodName)) ∈ lw_all := lw_g (lw_at lw_m8 129 rfl) rfl
theorem q1867 : (Jvm.Cond.selects "PennyJudgeModel" ({ cls := "PennyJudgeModel", name := "image", desc := "(I)I" } : Jvm.MethodName) ({ cls := "PennyJudgeModel", name := "image", desc := "(I)I" } : Jvm.MethodName)) ∈ lw_all := lw_g (lw_at lw_m8 130 rfl) rfl
theorem q1868 : (Jvm.Cond.code ({ cls := "PennyJudgeModel", name := "image", desc := "(I)I" } : Jvm.MethodName) prog_23_method_76_code (3 : Nat) (Option.some Jvm.ClassFile.FieldType.int)) ∈ lw_all := lw_g (lw_at lw_m8 131 rfl) rfl
theorem q1870 : (Jvm.Cond.instanceMethod ({ cls := "PennyJudgeModel", name := "back", desc := "(I)I" } : Jvm.MethodName)) ∈ lw_all := lw_g (lw_at lw_m8 133 rfl) rfl
theorem q1871 : (Jvm.Cond.selects "PennyJudgeModel" ({ cls := "PennyJudgeModel", name := "back", desc := "(I)I" } : Jvm.MethodName) ({ cls := "PennyJudgeModel", name := "back", desc := "(I)I" } : Jvm.MethodName)) ∈ lw_all := lw_g (lw_at lw_m8 134 rfl) rfl
theorem q1872 : (Jvm.Cond.code ({ cls := "PennyJudgeModel", name := "back", desc := "(I)I" } : Jvm.MethodName) prog_23_method_78_code (4 : Nat) (Option.some Jvm.ClassFile.FieldType.int)) ∈ lw_all := lw_g (lw_at lw_m8 135 rfl) rfl
theorem q1873 : (Jvm.Cond.methodLink "PennyJudgeModel" (383 : Nat) ({ cls := "PennyJudgeModel", name := "lacks", desc := "(I)I" } : Jvm.MethodName)) ∈ lw_all := lw_g (lw_at lw_m8 136 rfl) rfl
theorem q1874 : (Jvm.Cond.privateMethod ({ cls := "PennyJudgeModel", name := "lacks", desc := "(I)I" } : Jvm.MethodName)) ∈ lw_tbl := lw_at lw_m8 137 rfl
theorem q1875 : (Jvm.Cond.instanceMethod ({ cls := "PennyJudgeModel", name := "lacks", desc := "(I)I" } : Jvm.MethodName)) ∈ lw_all := lw_g (lw_at lw_m8 138 rfl) rfl
theorem q1876 : (Jvm.Cond.code ({ cls := "PennyJudgeModel", name := "lacks", desc := "(I)I" } : Jvm.MethodName) prog_23_method_77_code (2 : Nat) (Option.some Jvm.ClassFile.FieldType.int)) ∈ lw_all := lw_g (lw_at lw_m8 139 rfl) rfl
theorem q1878 : (Jvm.Cond.instanceMethod ({ cls := "PennyJudgeModel", name := "toss", desc := "(I)I" } : Jvm.MethodName)) ∈ lw_all := lw_g (lw_at lw_m8 141 rfl) rfl
theorem q1879 : (Jvm.Cond.selects "PennyJudgeModel" ({ cls := "PennyJudgeModel", name := "toss", desc := "(I)I" } : Jvm.MethodName) ({ cls := "PennyJudgeModel", name := "toss", desc := "(I)I" } : Jvm.MethodName)) ∈ lw_all := lw_g (lw_at lw_m8 142 rfl) rfl
theorem q1880 : (Jvm.Cond.code ({ cls := "PennyJudgeModel", name := "toss", desc := "(I)I" } : Jvm.MethodName) prog_23_method_79_code (3 : Nat) (Option.some Jvm.ClassFile.FieldType.int)) ∈ lw_all := lw_g (lw_at lw_m8 143 rfl) rfl
theorem q1882 : (Jvm.Cond.instanceMethod ({ cls := "PennyJudgeModel", name := "load", desc := "(III)I" } : Jvm.MethodName)) ∈ lw_all := lw_g (lw_at lw_m8 145 rfl) rfl
theorem q1883 : (Jvm.Cond.selects "PennyJudgeModel" ({ cls := "PennyJudgeModel", name := "load", desc := "(III)I" } : Jvm.MethodName) ({ cls := "PennyJudgeModel", name := "load", desc := "(III)I" } : Jvm.MethodName)) ∈ lw_all := lw_g (lw_at lw_m8 146 rfl) rfl
theorem q1884 : (Jvm.Cond.code ({ cls := "PennyJudgeModel", name := "load", desc := "(III)I" } : Jvm.MethodName) prog_23_method_80_code (5 : Nat) (Option.some Jvm.ClassFile.FieldType.int)) ∈ lw_all := lw_g (lw_at lw_m8 147 rfl) rfl
theorem q1886 : (Jvm.Cond.instanceMethod ({ cls := "PennyJudgeModel", name := "clear", desc := "(I)I" } : Jvm.MethodName)) ∈ lw_all := lw_g (lw_at lw_m8 149 rfl) rfl
theorem q1887 : (Jvm.Cond.selects "PennyJudgeModel" ({ cls := "PennyJudgeModel", name := "clear", desc := "(I)I" } : Jvm.MethodName) ({ cls := "PennyJudgeModel", name := "clear", desc := "(I)I" } : Jvm.MethodName)) ∈ lw_all := lw_g (lw_at lw_m8 150 rfl) rfl
theorem q1888 : (Jvm.Cond.code ({ cls := "PennyJudgeModel", name := "clear", desc := "(I)I" } : Jvm.MethodName) prog_23_method_81_code (3 : Nat) (Option.some Jvm.ClassFile.FieldType.int)) ∈ lw_all := lw_g (lw_at lw_m8 151 rfl) rfl
theorem q1890 : (Jvm.Cond.instanceMethod ({ cls := "PennyJudgeModel", name := "put", desc := "(IIJ)I" } : Jvm.MethodName)) ∈ lw_all := lw_g (lw_at lw_m8 153 rfl) rfl
theorem q1891 : (Jvm.Cond.selects "PennyJudgeModel" ({ cls := "PennyJudgeModel", name := "put", desc := "(IIJ)I" } : Jvm.MethodName) ({ cls := "PennyJudgeModel", name := "put", desc := "(IIJ)I" } : Jvm.MethodName)) ∈ lw_all := lw_g (lw_at lw_m8 154 rfl) rfl
theorem q1892 : (Jvm.Cond.code ({ cls := "PennyJudgeModel", name := "put", desc := "(IIJ)I" } : Jvm.MethodName) prog_23_method_83_code (5 : Nat) (Option.some Jvm.ClassFile.FieldType.int)) ∈ lw_all := lw_g (lw_at lw_m8 155 rfl) rfl
theorem q1893 : (Jvm.Cond.methodLink "PennyJudgeModel" (386 : Nat) ({ cls := "PennyJudgeModel", name := "narrowed", desc := "(IJ)J" } : Jvm.MethodName)) ∈ lw_all := lw_g (lw_at lw_m8 156 rfl) rfl
theorem q1894 : (Jvm.Cond.static ({ cls := "PennyJudgeModel", name := "narrowed", desc := "(IJ)J" } : Jvm.MethodName)) ∈ lw_all := lw_g (lw_at lw_m8 157 rfl) rfl
theorem q1895 : (Jvm.Cond.code ({ cls := "PennyJudgeModel", name := "narrowed", desc := "(IJ)J" } : Jvm.MethodName) prog_23_method_82_code (3 : Nat) (Option.some Jvm.ClassFile.FieldType.long)) ∈ lw_all := lw_g (lw_at lw_m8 158 rfl) rfl
theorem q1897 : (Jvm.Cond.instanceMethod ({ cls := "PennyJudgeModel", name := "at", desc := "(II)J" } : Jvm.MethodName)) ∈ lw_all := lw_g (lw_at lw_m8 160 rfl) rfl
theorem q1898 : (Jvm.Cond.selects "PennyJudgeModel" ({ cls := "PennyJudgeModel", name := "at", desc := "(II)J" } : Jvm.MethodName) ({ cls := "PennyJudgeModel", name := "at", desc := "(II)J" } : Jvm.MethodName)) ∈ lw_all := lw_g (lw_at lw_m8 161 rfl) rfl
theorem q1899 : (Jvm.Cond.code ({ cls := "PennyJudgeModel", name := "at", desc := "(II)J" } : Jvm.MethodName) prog_23_method_84_code (3 : Nat) (Option.some Jvm.ClassFile.FieldType.long)) ∈ lw_all := lw_g (lw_at lw_m8 162 rfl) rfl
theorem q1901 : (Jvm.Cond.instanceMethod ({ cls := "PennyJudgeModel", name := "copy", desc := "(IIIII)I" } : Jvm.MethodName)) ∈ lw_all := lw_g (lw_at lw_m8 164 rfl) rfl
theorem q1902 : (Jvm.Cond.selects "PennyJudgeModel" ({ cls := "PennyJudgeModel", name := "copy", desc := "(IIIII)I" } : Jvm.MethodName) ({ cls := "PennyJudgeModel", name := "copy", desc := "(IIIII)I" } : Jvm.MethodName)) ∈ lw_all := lw_g (lw_at lw_m8 165 rfl) rfl
theorem q1903 : (Jvm.Cond.code ({ cls := "PennyJudgeModel", name := "copy", desc := "(IIIII)I" } : Jvm.MethodName) prog_23_method_85_code (7 : Nat) (Option.some Jvm.ClassFile.FieldType.int)) ∈ lw_all := lw_g (lw_at lw_m8 166 rfl) rfl
theorem q1905 : (Jvm.Cond.instanceMethod ({ cls := "PennyJudgeModel", name := "count", desc := "(I)I" } : Jvm.MethodName)) ∈ lw_all := lw_g (lw_at lw_m8 168 rfl) rfl
theorem q1906 : (Jvm.Cond.selects "PennyJudgeModel" ({ cls := "PennyJudgeModel", name := "count", desc := "(I)I" } : Jvm.MethodName) ({ cls := "PennyJudgeModel", name := "count", desc := "(I)I" } : Jvm.MethodName)) ∈ lw_all := lw_g (lw_at lw_m8 169 rfl) rfl
theorem q1907 : (Jvm.Cond.code ({ cls := "PennyJudgeModel", name := "count", desc := "(I)I" } : Jvm.MethodName) prog_23_method_86_code (2 : Nat) (Option.some Jvm.ClassFile.FieldType.int)) ∈ lw_all := lw_g (lw_at lw_m8 170 rfl) rfl
theorem in_X4 : ∀ w ∈ wsX40, w ∈ lw_all := lw_in wsX40 [1463, 1465, 1467, 1469, 1471, 1473, 1475, 1477, 1479, 1481, 1483, 1485, 1487, 1489, 1491, 1493, 1495, 1497, 1499, 1501, 1503, 1505, 1507, 1509, 1511, 1513, 1515, 1517, 1519, 1521, 1523, 1525, 1527, 1529, 1531, 1533, 1535, 1537, 1539, 1541, 1543, 1545, 1547, 1549, 1551, 1553, 1555, 1557, 1559, 1561, 1563, 1565] (by decide +kernel) (by decide +kernel)
