/-! PennyJudge -/
set_option maxRecDepth 100000
def RX1 : String := "PennyJudge"
def TX1 : u_T := fun k => match k with
  | 0 => ("PennyJudge", "p", "[I", true)
  | 1 => ("PennyJudge", "q", "[I", true)
  | 2 => ("PennyJudge", "lines", "[I", true)
  | 3 => ("PennyJudge", "lineCount", "I", false)
  | 4 => ("PennyJudge", "weights", "[I", true)
  | 5 => ("PennyJudge", "weightCount", "[I", true)
  | 6 => ("PennyJudge", "programs", "[LPennyJudge$Program;", true)
  | 7 => ("PennyJudge", "programCount", "I", false)
  | 8 => ("PennyJudge", "accounts", "[J", true)
  | 9 => ("PennyJudge", "leaks", "I", false)
  | 10 => ("PennyJudge", "last", "LPennyJudge$Run;", true)
  | 11 => ("PennyJudge", "one", "LPennyJudge$Run;", true)
  | 12 => ("PennyJudge", "two", "LPennyJudge$Run;", true)
  | 13 => ("PennyJudge", "pieces", "[J", true)
  | 14 => ("PennyJudge", "rests", "[J", true)
  | 15 => ("PennyJudge", "failed", "I", false)
  | 16 => ("PennyJudge", "order", "[I", true)
  | 17 => ("PennyJudge", "turned", "[I", true)
  | 18 => ("PennyJudge", "single", "[I", true)
  | 19 => ("PennyJudge", "most", "[I", true)
  | 20 => ("PennyJudge", "least", "[I", true)
  | 21 => ("PennyJudge", "nextMost", "[I", true)
  | 22 => ("PennyJudge", "nextLeast", "[I", true)
  | 23 => ("PennyJudge", "tapes", "[LPennyJudge$Tape;", true)
  | _ => ("PennyJudge", "host", "I", false)
def tyX1 : Nat → FieldType := fun k => match k with
  | 0 => .array .int
  | 1 => .array .int
  | 2 => .array .int
  | 3 => .int
  | 4 => .array .int
  | 5 => .array .int
  | 6 => .array (.object "PennyJudge$Program")
  | 7 => .int
  | 8 => .array .long
  | 9 => .int
  | 10 => .object "PennyJudge$Run"
  | 11 => .object "PennyJudge$Run"
  | 12 => .object "PennyJudge$Run"
  | 13 => .array .long
  | 14 => .array .long
  | 15 => .int
  | 16 => .array .int
  | 17 => .array .int
  | 18 => .array .int
  | 19 => .array .int
  | 20 => .array .int
  | 21 => .array .int
  | 22 => .array .int
  | 23 => .array (.object "PennyJudge$Tape")
  | _ => .int
abbrev wsX10 : List Cond := u_ws RX1 TX1 25
set_option maxRecDepth 100000 in
theorem nmX1 : ∀ a, a < 25 → ∀ b, b < 25 → a ≠ b → (TX1 a).2.1 ≠ (TX1 b).2.1 := by decide +kernel
set_option maxRecDepth 100000 in
theorem tyX1_ok : ∀ k, k < 25 → parseFieldDescriptor (TX1 k).2.2.1 = some (tyX1 k) := by decide +kernel
abbrev cX1_init : ByteArray := prog_1_method_9_code
def yX1_init : MethodName := ⟨RX1, "<init>", "()V"⟩
def dkwX1_init_10 : List UInt8 := [182, 0, 156, 87, 177]
abbrev dktX1_init_10 : List UInt8 := dkwX1_init_10 ++ []
def dkwX1_init_9 : List UInt8 := [180, 0, 108, 42, 181, 0, 152, 42, 180, 0, 112, 42, 181, 0, 152, 42, 180, 0, 115, 42, 181, 0, 152, 42]
abbrev dktX1_init_9 : List UInt8 := dkwX1_init_9 ++ dktX1_init_10
def dkwX1_init_8 : List UInt8 := [162, 0, 22, 42, 180, 0, 147, 27, 187, 0, 145, 89, 183, 0, 151, 83, 132, 1, 1, 167, 255, 234, 42]
abbrev dktX1_init_8 : List UInt8 := dkwX1_init_8 ++ dktX1_init_9
def dkwX1_init_7 : List UInt8 := [17, 10, 40, 188, 10, 181, 0, 142, 42, 16, 6, 189, 0, 145, 181, 0, 147, 3, 60, 27, 16, 6]
abbrev dktX1_init_7 : List UInt8 := dkwX1_init_7 ++ dktX1_init_8
def dkwX1_init_6 : List UInt8 := [181, 0, 133, 42, 17, 10, 40, 188, 10, 181, 0, 136, 42, 17, 10, 40, 188, 10, 181, 0, 139, 42]
abbrev dktX1_init_6 : List UInt8 := dkwX1_init_6 ++ dktX1_init_7
def dkwX1_init_5 : List UInt8 := [181, 0, 124, 42, 16, 12, 188, 10, 181, 0, 127, 42, 4, 188, 10, 181, 0, 130, 42, 17, 10, 40, 188, 10]
abbrev dktX1_init_5 : List UInt8 := dkwX1_init_5 ++ dktX1_init_6
def dkwX1_init_4 : List UInt8 := [181, 0, 115, 42, 16, 8, 188, 11, 181, 0, 118, 42, 16, 8, 188, 11, 181, 0, 121, 42, 16, 6, 188, 10]
abbrev dktX1_init_4 : List UInt8 := dkwX1_init_4 ++ dktX1_init_5
def dkwX1_init_3 : List UInt8 := [181, 0, 108, 42, 187, 0, 105, 89, 183, 0, 107, 181, 0, 112, 42, 187, 0, 105, 89, 183, 0, 107]
abbrev dktX1_init_3 : List UInt8 := dkwX1_init_3 ++ dktX1_init_4
def dkwX1_init_2 : List UInt8 := [189, 0, 95, 181, 0, 97, 42, 16, 8, 188, 11, 181, 0, 101, 42, 187, 0, 105, 89, 183, 0, 107]
abbrev dktX1_init_2 : List UInt8 := dkwX1_init_2 ++ dktX1_init_3
def dkwX1_init_1 : List UInt8 := [188, 10, 181, 0, 86, 42, 16, 32, 188, 10, 181, 0, 89, 42, 7, 188, 10, 181, 0, 92, 42, 7]
abbrev dktX1_init_1 : List UInt8 := dkwX1_init_1 ++ dktX1_init_2
def dkwX1_init_0 : List UInt8 := [42, 183, 0, 74, 42, 16, 8, 188, 10, 181, 0, 79, 42, 16, 8, 188, 10, 181, 0, 83, 42, 16, 12]
abbrev dktX1_init_0 : List UInt8 := dkwX1_init_0 ++ dktX1_init_1
theorem dksX1_init_0 : cX1_init.data.toList.drop 0 = dktX1_init_0 := by decide +kernel
theorem dksX1_init_1 : cX1_init.data.toList.drop 23 = dktX1_init_1 := dk_seg dksX1_init_0 23 rfl rfl
theorem dksX1_init_2 : cX1_init.data.toList.drop 45 = dktX1_init_2 := dk_seg dksX1_init_1 22 rfl rfl
theorem dksX1_init_3 : cX1_init.data.toList.drop 67 = dktX1_init_3 := dk_seg dksX1_init_2 22 rfl rfl
theorem dksX1_init_4 : cX1_init.data.toList.drop 89 = dktX1_init_4 := dk_seg dksX1_init_3 22 rfl rfl
theorem dksX1_init_5 : cX1_init.data.toList.drop 113 = dktX1_init_5 := dk_seg dksX1_init_4 24 rfl rfl
theorem dksX1_init_6 : cX1_init.data.toList.drop 137 = dktX1_init_6 := dk_seg dksX1_init_5 24 rfl rfl
theorem dksX1_init_7 : cX1_init.data.toList.drop 159 = dktX1_init_7 := dk_seg dksX1_init_6 22 rfl rfl
theorem dksX1_init_8 : cX1_init.data.toList.drop 181 = dktX1_init_8 := dk_seg dksX1_init_7 22 rfl rfl
theorem dksX1_init_9 : cX1_init.data.toList.drop 204 = dktX1_init_9 := dk_seg dksX1_init_8 23 rfl rfl
theorem dksX1_init_10 : cX1_init.data.toList.drop 228 = dktX1_init_10 := dk_seg dksX1_init_9 24 rfl rfl
theorem dX1_init_0 : decode cX1_init 0 = .ok (.aload_n 0, 1) := dk_42 (dk_at dksX1_init_0 0 rfl rfl)
theorem dX1_init_1 : decode cX1_init 1 = .ok (.invokespecial 74, 3) := dk_183 0 74 (dk_at dksX1_init_0 1 rfl rfl)
theorem dX1_init_4 : decode cX1_init 4 = .ok (.aload_n 0, 1) := dk_42 (dk_at dksX1_init_0 4 rfl rfl)
theorem dX1_init_5 : decode cX1_init 5 = .ok (.bipush 8, 2) := dk_16 8 (dk_at dksX1_init_0 5 rfl rfl)
theorem dX1_init_7 : decode cX1_init 7 = .ok (.newarray .int, 2) := dk_188_10 (dk_at dksX1_init_0 7 rfl rfl)
theorem dX1_init_9 : decode cX1_init 9 = .ok (.putfield 79, 3) := dk_181 0 79 (dk_at dksX1_init_0 9 rfl rfl)
theorem dX1_init_12 : decode cX1_init 12 = .ok (.aload_n 0, 1) := dk_42 (dk_at dksX1_init_0 12 rfl rfl)
theorem dX1_init_13 : decode cX1_init 13 = .ok (.bipush 8, 2) := dk_16 8 (dk_at dksX1_init_0 13 rfl rfl)
theorem dX1_init_15 : decode cX1_init 15 = .ok (.newarray .int, 2) := dk_188_10 (dk_at dksX1_init_0 15 rfl rfl)
theorem dX1_init_17 : decode cX1_init 17 = .ok (.putfield 83, 3) := dk_181 0 83 (dk_at dksX1_init_0 17 rfl rfl)
theorem dX1_init_20 : decode cX1_init 20 = .ok (.aload_n 0, 1) := dk_42 (dk_at dksX1_init_0 20 rfl rfl)
theorem dX1_init_21 : decode cX1_init 21 = .ok (.bipush 12, 2) := dk_16 12 (dk_at dksX1_init_0 21 rfl rfl)
theorem dX1_init_23 : decode cX1_init 23 = .ok (.newarray .int, 2) := dk_188_10 (dk_at dksX1_init_1 0 rfl rfl)
theorem dX1_init_25 : decode cX1_init 25 = .ok (.putfield 86, 3) := dk_181 0 86 (dk_at dksX1_init_1 2 rfl rfl)
theorem dX1_init_28 : decode cX1_init 28 = .ok (.aload_n 0, 1) := dk_42 (dk_at dksX1_init_1 5 rfl rfl)
theorem dX1_init_29 : decode cX1_init 29 = .ok (.bipush 32, 2) := dk_16 32 (dk_at dksX1_init_1 6 rfl rfl)
theorem dX1_init_31 : decode cX1_init 31 = .ok (.newarray .int, 2) := dk_188_10 (dk_at dksX1_init_1 8 rfl rfl)
theorem dX1_init_33 : decode cX1_init 33 = .ok (.putfield 89, 3) := dk_181 0 89 (dk_at dksX1_init_1 10 rfl rfl)
theorem dX1_init_36 : decode cX1_init 36 = .ok (.aload_n 0, 1) := dk_42 (dk_at dksX1_init_1 13 rfl rfl)
theorem dX1_init_37 : decode cX1_init 37 = .ok (.iconst 4, 1) := dk_7 (dk_at dksX1_init_1 14 rfl rfl)
theorem dX1_init_38 : decode cX1_init 38 = .ok (.newarray .int, 2) := dk_188_10 (dk_at dksX1_init_1 15 rfl rfl)
theorem dX1_init_40 : decode cX1_init 40 = .ok (.putfield 92, 3) := dk_181 0 92 (dk_at dksX1_init_1 17 rfl rfl)
theorem dX1_init_43 : decode cX1_init 43 = .ok (.aload_n 0, 1) := dk_42 (dk_at dksX1_init_1 20 rfl rfl)
theorem dX1_init_44 : decode cX1_init 44 = .ok (.iconst 4, 1) := dk_7 (dk_at dksX1_init_1 21 rfl rfl)
theorem dX1_init_45 : decode cX1_init 45 = .ok (.anewarray 95, 3) := dk_189 0 95 (dk_at dksX1_init_2 0 rfl rfl)
theorem dX1_init_48 : decode cX1_init 48 = .ok (.putfield 97, 3) := dk_181 0 97 (dk_at dksX1_init_2 3 rfl rfl)
theorem dX1_init_51 : decode cX1_init 51 = .ok (.aload_n 0, 1) := dk_42 (dk_at dksX1_init_2 6 rfl rfl)
theorem dX1_init_52 : decode cX1_init 52 = .ok (.bipush 8, 2) := dk_16 8 (dk_at dksX1_init_2 7 rfl rfl)
theorem dX1_init_54 : decode cX1_init 54 = .ok (.newarray .long, 2) := dk_188_11 (dk_at dksX1_init_2 9 rfl rfl)
theorem dX1_init_56 : decode cX1_init 56 = .ok (.putfield 101, 3) := dk_181 0 101 (dk_at dksX1_init_2 11 rfl rfl)
theorem dX1_init_59 : decode cX1_init 59 = .ok (.aload_n 0, 1) := dk_42 (dk_at dksX1_init_2 14 rfl rfl)
theorem dX1_init_60 : decode cX1_init 60 = .ok (.new 105, 3) := dk_187 0 105 (dk_at dksX1_init_2 15 rfl rfl)
theorem dX1_init_63 : decode cX1_init 63 = .ok (.dup, 1) := dk_89 (dk_at dksX1_init_2 18 rfl rfl)
theorem dX1_init_64 : decode cX1_init 64 = .ok (.invokespecial 107, 3) := dk_183 0 107 (dk_at dksX1_init_2 19 rfl rfl)
theorem dX1_init_67 : decode cX1_init 67 = .ok (.putfield 108, 3) := dk_181 0 108 (dk_at dksX1_init_3 0 rfl rfl)
theorem dX1_init_70 : decode cX1_init 70 = .ok (.aload_n 0, 1) := dk_42 (dk_at dksX1_init_3 3 rfl rfl)
theorem dX1_init_71 : decode cX1_init 71 = .ok (.new 105, 3) := dk_187 0 105 (dk_at dksX1_init_3 4 rfl rfl)
theorem dX1_init_74 : decode cX1_init 74 = .ok (.dup, 1) := dk_89 (dk_at dksX1_init_3 7 rfl rfl)
theorem dX1_init_75 : decode cX1_init 75 = .ok (.invokespecial 107, 3) := dk_183 0 107 (dk_at dksX1_init_3 8 rfl rfl)
theorem dX1_init_78 : decode cX1_init 78 = .ok (.putfield 112, 3) := dk_181 0 112 (dk_at dksX1_init_3 11 rfl rfl)
theorem dX1_init_81 : decode cX1_init 81 = .ok (.aload_n 0, 1) := dk_42 (dk_at dksX1_init_3 14 rfl rfl)
theorem dX1_init_82 : decode cX1_init 82 = .ok (.new 105, 3) := dk_187 0 105 (dk_at dksX1_init_3 15 rfl rfl)
theorem dX1_init_85 : decode cX1_init 85 = .ok (.dup, 1) := dk_89 (dk_at dksX1_init_3 18 rfl rfl)
theorem dX1_init_86 : decode cX1_init 86 = .ok (.invokespecial 107, 3) := dk_183 0 107 (dk_at dksX1_init_3 19 rfl rfl)
theorem dX1_init_89 : decode cX1_init 89 = .ok (.putfield 115, 3) := dk_181 0 115 (dk_at dksX1_init_4 0 rfl rfl)
theorem dX1_init_92 : decode cX1_init 92 = .ok (.aload_n 0, 1) := dk_42 (dk_at dksX1_init_4 3 rfl rfl)
theorem dX1_init_93 : decode cX1_init 93 = .ok (.bipush 8, 2) := dk_16 8 (dk_at dksX1_init_4 4 rfl rfl)
theorem dX1_init_95 : decode cX1_init 95 = .ok (.newarray .long, 2) := dk_188_11 (dk_at dksX1_init_4 6 rfl rfl)
theorem dX1_init_97 : decode cX1_init 97 = .ok (.putfield 118, 3) := dk_181 0 118 (dk_at dksX1_init_4 8 rfl rfl)
theorem dX1_init_100 : decode cX1_init 100 = .ok (.aload_n 0, 1) := dk_42 (dk_at dksX1_init_4 11 rfl rfl)
theorem dX1_init_101 : decode cX1_init 101 = .ok (.bipush 8, 2) := dk_16 8 (dk_at dksX1_init_4 12 rfl rfl)
theorem dX1_init_103 : decode cX1_init 103 = .ok (.newarray .long, 2) := dk_188_11 (dk_at dksX1_init_4 14 rfl rfl)
theorem dX1_init_105 : decode cX1_init 105 = .ok (.putfield 121, 3) := dk_181 0 121 (dk_at dksX1_init_4 16 rfl rfl)
theorem dX1_init_108 : decode cX1_init 108 = .ok (.aload_n 0, 1) := dk_42 (dk_at dksX1_init_4 19 rfl rfl)
theorem dX1_init_109 : decode cX1_init 109 = .ok (.bipush 6, 2) := dk_16 6 (dk_at dksX1_init_4 20 rfl rfl)
theorem dX1_init_111 : decode cX1_init 111 = .ok (.newarray .int, 2) := dk_188_10 (dk_at dksX1_init_4 22 rfl rfl)
theorem dX1_init_113 : decode cX1_init 113 = .ok (.putfield 124, 3) := dk_181 0 124 (dk_at dksX1_init_5 0 rfl rfl)
theorem dX1_init_116 : decode cX1_init 116 = .ok (.aload_n 0, 1) := dk_42 (dk_at dksX1_init_5 3 rfl rfl)
theorem dX1_init_117 : decode cX1_init 117 = .ok (.bipush 12, 2) := dk_16 12 (dk_at dksX1_init_5 4 rfl rfl)
theorem dX1_init_119 : decode cX1_init 119 = .ok (.newarray .int, 2) := dk_188_10 (dk_at dksX1_init_5 6 rfl rfl)
theorem dX1_init_121 : decode cX1_init 121 = .ok (.putfield 127, 3) := dk_181 0 127 (dk_at dksX1_init_5 8 rfl rfl)
theorem dX1_init_124 : decode cX1_init 124 = .ok (.aload_n 0, 1) := dk_42 (dk_at dksX1_init_5 11 rfl rfl)
theorem dX1_init_125 : decode cX1_init 125 = .ok (.iconst 1, 1) := dk_4 (dk_at dksX1_init_5 12 rfl rfl)
theorem dX1_init_126 : decode cX1_init 126 = .ok (.newarray .int, 2) := dk_188_10 (dk_at dksX1_init_5 13 rfl rfl)
theorem dX1_init_128 : decode cX1_init 128 = .ok (.putfield 130, 3) := dk_181 0 130 (dk_at dksX1_init_5 15 rfl rfl)
theorem dX1_init_131 : decode cX1_init 131 = .ok (.aload_n 0, 1) := dk_42 (dk_at dksX1_init_5 18 rfl rfl)
theorem dX1_init_132 : decode cX1_init 132 = .ok (.sipush 2600, 3) := dk_17 10 40 (dk_at dksX1_init_5 19 rfl rfl)
theorem dX1_init_135 : decode cX1_init 135 = .ok (.newarray .int, 2) := dk_188_10 (dk_at dksX1_init_5 22 rfl rfl)
theorem dX1_init_137 : decode cX1_init 137 = .ok (.putfield 133, 3) := dk_181 0 133 (dk_at dksX1_init_6 0 rfl rfl)
theorem dX1_init_140 : decode cX1_init 140 = .ok (.aload_n 0, 1) := dk_42 (dk_at dksX1_init_6 3 rfl rfl)
theorem dX1_init_141 : decode cX1_init 141 = .ok (.sipush 2600, 3) := dk_17 10 40 (dk_at dksX1_init_6 4 rfl rfl)
theorem dX1_init_144 : decode cX1_init 144 = .ok (.newarray .int, 2) := dk_188_10 (dk_at dksX1_init_6 7 rfl rfl)
theorem dX1_init_146 : decode cX1_init 146 = .ok (.putfield 136, 3) := dk_181 0 136 (dk_at dksX1_init_6 9 rfl rfl)
theorem dX1_init_149 : decode cX1_init 149 = .ok (.aload_n 0, 1) := dk_42 (dk_at dksX1_init_6 12 rfl rfl)
theorem dX1_init_150 : decode cX1_init 150 = .ok (.sipush 2600, 3) := dk_17 10 40 (dk_at dksX1_init_6 13 rfl rfl)
theorem dX1_init_153 : decode cX1_init 153 = .ok (.newarray .int, 2) := dk_188_10 (dk_at dksX1_init_6 16 rfl rfl)
theorem dX1_init_155 : decode cX1_init 155 = .ok (.putfield 139, 3) := dk_181 0 139 (dk_at dksX1_init_6 18 rfl rfl)
theorem dX1_init_158 : decode cX1_init 158 = .ok (.aload_n 0, 1) := dk_42 (dk_at dksX1_init_6 21 rfl rfl)
theorem dX1_init_159 : decode cX1_init 159 = .ok (.sipush 2600, 3) := dk_17 10 40 (dk_at dksX1_init_7 0 rfl rfl)
theorem dX1_init_162 : decode cX1_init 162 = .ok (.newarray .int, 2) := dk_188_10 (dk_at dksX1_init_7 3 rfl rfl)
theorem dX1_init_164 : decode cX1_init 164 = .ok (.putfield 142, 3) := dk_181 0 142 (dk_at dksX1_init_7 5 rfl rfl)
theorem dX1_init_167 : decode cX1_init 167 = .ok (.aload_n 0, 1) := dk_42 (dk_at dksX1_init_7 8 rfl rfl)
theorem dX1_init_168 : decode cX1_init 168 = .ok (.bipush 6, 2) := dk_16 6 (dk_at dksX1_init_7 9 rfl rfl)
theorem dX1_init_170 : decode cX1_init 170 = .ok (.anewarray 145, 3) := dk_189 0 145 (dk_at dksX1_init_7 11 rfl rfl)
theorem dX1_init_173 : decode cX1_init 173 = .ok (.putfield 147, 3) := dk_181 0 147 (dk_at dksX1_init_7 14 rfl rfl)
theorem dX1_init_176 : decode cX1_init 176 = .ok (.iconst 0, 1) := dk_3 (dk_at dksX1_init_7 17 rfl rfl)
theorem dX1_init_177 : decode cX1_init 177 = .ok (.istore_n 1, 1) := dk_60 (dk_at dksX1_init_7 18 rfl rfl)
theorem dX1_init_178 : decode cX1_init 178 = .ok (.iload_n 1, 1) := dk_27 (dk_at dksX1_init_7 19 rfl rfl)
theorem dX1_init_179 : decode cX1_init 179 = .ok (.bipush 6, 2) := dk_16 6 (dk_at dksX1_init_7 20 rfl rfl)
theorem dX1_init_181 : decode cX1_init 181 = .ok (.if_icmp .ge 22, 3) := dk_162 0 22 (dk_at dksX1_init_8 0 rfl rfl)
theorem dX1_init_184 : decode cX1_init 184 = .ok (.aload_n 0, 1) := dk_42 (dk_at dksX1_init_8 3 rfl rfl)
theorem dX1_init_185 : decode cX1_init 185 = .ok (.getfield 147, 3) := dk_180 0 147 (dk_at dksX1_init_8 4 rfl rfl)
theorem dX1_init_188 : decode cX1_init 188 = .ok (.iload_n 1, 1) := dk_27 (dk_at dksX1_init_8 7 rfl rfl)
theorem dX1_init_189 : decode cX1_init 189 = .ok (.new 145, 3) := dk_187 0 145 (dk_at dksX1_init_8 8 rfl rfl)
theorem dX1_init_192 : decode cX1_init 192 = .ok (.dup, 1) := dk_89 (dk_at dksX1_init_8 11 rfl rfl)
theorem dX1_init_193 : decode cX1_init 193 = .ok (.invokespecial 151, 3) := dk_183 0 151 (dk_at dksX1_init_8 12 rfl rfl)
theorem dX1_init_196 : decode cX1_init 196 = .ok (.aastore, 1) := dk_83 (dk_at dksX1_init_8 15 rfl rfl)
theorem dX1_init_197 : decode cX1_init 197 = .ok (.iinc 1 1, 3) := dk_132 1 1 (dk_at dksX1_init_8 16 rfl rfl)
theorem dX1_init_200 : decode cX1_init 200 = .ok (.goto (-22), 3) := dk_167 255 234 (dk_at dksX1_init_8 19 rfl rfl)
theorem dX1_init_203 : decode cX1_init 203 = .ok (.aload_n 0, 1) := dk_42 (dk_at dksX1_init_8 22 rfl rfl)
theorem dX1_init_204 : decode cX1_init 204 = .ok (.getfield 108, 3) := dk_180 0 108 (dk_at dksX1_init_9 0 rfl rfl)
theorem dX1_init_207 : decode cX1_init 207 = .ok (.aload_n 0, 1) := dk_42 (dk_at dksX1_init_9 3 rfl rfl)
theorem dX1_init_208 : decode cX1_init 208 = .ok (.putfield 152, 3) := dk_181 0 152 (dk_at dksX1_init_9 4 rfl rfl)
theorem dX1_init_211 : decode cX1_init 211 = .ok (.aload_n 0, 1) := dk_42 (dk_at dksX1_init_9 7 rfl rfl)
theorem dX1_init_212 : decode cX1_init 212 = .ok (.getfield 112, 3) := dk_180 0 112 (dk_at dksX1_init_9 8 rfl rfl)
theorem dX1_init_215 : decode cX1_init 215 = .ok (.aload_n 0, 1) := dk_42 (dk_at dksX1_init_9 11 rfl rfl)
theorem dX1_init_216 : decode cX1_init 216 = .ok (.putfield 152, 3) := dk_181 0 152 (dk_at dksX1_init_9 12 rfl rfl)
theorem dX1_init_219 : decode cX1_init 219 = .ok (.aload_n 0, 1) := dk_42 (dk_at dksX1_init_9 15 rfl rfl)
theorem dX1_init_220 : decode cX1_init 220 = .ok (.getfield 115, 3) := dk_180 0 115 (dk_at dksX1_init_9 16 rfl rfl)
theorem dX1_init_223 : decode cX1_init 223 = .ok (.aload_n 0, 1) := dk_42 (dk_at dksX1_init_9 19 rfl rfl)
theorem dX1_init_224 : decode cX1_init 224 = .ok (.putfield 152, 3) := dk_181 0 152 (dk_at dksX1_init_9 20 rfl rfl)
theorem dX1_init_227 : decode cX1_init 227 = .ok (.aload_n 0, 1) := dk_42 (dk_at dksX1_init_9 23 rfl rfl)
theorem dX1_init_228 : decode cX1_init 228 = .ok (.invokevirtual 156, 3) := dk_182 0 156 (dk_at dksX1_init_10 0 rfl rfl)
theorem dX1_init_231 : decode cX1_init 231 = .ok (.pop, 1) := dk_87 (dk_at dksX1_init_10 3 rfl rfl)
theorem dX1_init_232 : decode cX1_init 232 = .ok (.return_, 1) := dk_177 (dk_at dksX1_init_10 4 rfl rfl)
abbrev cX1_begin : ByteArray := prog_1_method_10_code
def yX1_begin : MethodName := ⟨RX1, "begin", "()I"⟩
def dkwX1_begin_4 : List UInt8 := [181, 0, 170, 42, 180, 0, 108, 182, 0, 173, 42, 180, 0, 108, 182, 0, 175, 42, 3, 181, 0, 178, 3, 172]
abbrev dktX1_begin_4 : List UInt8 := dkwX1_begin_4 ++ []
def dkwX1_begin_3 : List UInt8 := [132, 1, 1, 167, 255, 219, 42, 3, 181, 0, 160, 42, 3, 181, 0, 164, 42, 3, 181, 0, 167, 42, 16, 254]
abbrev dktX1_begin_3 : List UInt8 := dkwX1_begin_3 ++ dktX1_begin_4
def dkwX1_begin_2 : List UInt8 := [16, 8, 104, 4, 79, 42, 180, 0, 89, 27, 16, 8, 104, 4, 96, 4, 79, 42, 180, 0, 92, 27, 5, 79]
abbrev dktX1_begin_2 : List UInt8 := dkwX1_begin_2 ++ dktX1_begin_3
def dkwX1_begin_1 : List UInt8 := [180, 0, 101, 27, 9, 80, 132, 1, 1, 167, 255, 226, 3, 60, 27, 7, 162, 0, 38, 42, 180, 0, 89, 27]
abbrev dktX1_begin_1 : List UInt8 := dkwX1_begin_1 ++ dktX1_begin_2
def dkwX1_begin_0 : List UInt8 := [3, 60, 27, 16, 8, 162, 0, 30, 42, 180, 0, 79, 27, 3, 79, 42, 180, 0, 83, 27, 4, 79, 42]
abbrev dktX1_begin_0 : List UInt8 := dkwX1_begin_0 ++ dktX1_begin_1
theorem dksX1_begin_0 : cX1_begin.data.toList.drop 0 = dktX1_begin_0 := by decide +kernel
theorem dksX1_begin_1 : cX1_begin.data.toList.drop 23 = dktX1_begin_1 := dk_seg dksX1_begin_0 23 rfl rfl
theorem dksX1_begin_2 : cX1_begin.data.toList.drop 47 = dktX1_begin_2 := dk_seg dksX1_begin_1 24 rfl rfl
theorem dksX1_begin_3 : cX1_begin.data.toList.drop 71 = dktX1_begin_3 := dk_seg dksX1_begin_2 24 rfl rfl
theorem dksX1_begin_4 : cX1_begin.data.toList.drop 95 = dktX1_begin_4 := dk_seg dksX1_begin_3 24 rfl rfl
theorem dX1_begin_0 : decode cX1_begin 0 = .ok (.iconst 0, 1) := dk_3 (dk_at dksX1_begin_0 0 rfl rfl)
theorem dX1_begin_1 : decode cX1_begin 1 = .ok (.istore_n 1, 1) := dk_60 (dk_at dksX1_begin_0 1 rfl rfl)
theorem dX1_begin_2 : decode cX1_begin 2 = .ok (.iload_n 1, 1) := dk_27 (dk_at dksX1_begin_0 2 rfl rfl)
theorem dX1_begin_3 : decode cX1_begin 3 = .ok (.bipush 8, 2) := dk_16 8 (dk_at dksX1_begin_0 3 rfl rfl)
theorem dX1_begin_5 : decode cX1_begin 5 = .ok (.if_icmp .ge 30, 3) := dk_162 0 30 (dk_at dksX1_begin_0 5 rfl rfl)
theorem dX1_begin_8 : decode cX1_begin 8 = .ok (.aload_n 0, 1) := dk_42 (dk_at dksX1_begin_0 8 rfl rfl)
theorem dX1_begin_9 : decode cX1_begin 9 = .ok (.getfield 79, 3) := dk_180 0 79 (dk_at dksX1_begin_0 9 rfl rfl)
theorem dX1_begin_12 : decode cX1_begin 12 = .ok (.iload_n 1, 1) := dk_27 (dk_at dksX1_begin_0 12 rfl rfl)
theorem dX1_begin_13 : decode cX1_begin 13 = .ok (.iconst 0, 1) := dk_3 (dk_at dksX1_begin_0 13 rfl rfl)
theorem dX1_begin_14 : decode cX1_begin 14 = .ok (.iastore, 1) := dk_79 (dk_at dksX1_begin_0 14 rfl rfl)
theorem dX1_begin_15 : decode cX1_begin 15 = .ok (.aload_n 0, 1) := dk_42 (dk_at dksX1_begin_0 15 rfl rfl)
theorem dX1_begin_16 : decode cX1_begin 16 = .ok (.getfield 83, 3) := dk_180 0 83 (dk_at dksX1_begin_0 16 rfl rfl)
theorem dX1_begin_19 : decode cX1_begin 19 = .ok (.iload_n 1, 1) := dk_27 (dk_at dksX1_begin_0 19 rfl rfl)
theorem dX1_begin_20 : decode cX1_begin 20 = .ok (.iconst 1, 1) := dk_4 (dk_at dksX1_begin_0 20 rfl rfl)
theorem dX1_begin_21 : decode cX1_begin 21 = .ok (.iastore, 1) := dk_79 (dk_at dksX1_begin_0 21 rfl rfl)
theorem dX1_begin_22 : decode cX1_begin 22 = .ok (.aload_n 0, 1) := dk_42 (dk_at dksX1_begin_0 22 rfl rfl)
theorem dX1_begin_23 : decode cX1_begin 23 = .ok (.getfield 101, 3) := dk_180 0 101 (dk_at dksX1_begin_1 0 rfl rfl)
theorem dX1_begin_26 : decode cX1_begin 26 = .ok (.iload_n 1, 1) := dk_27 (dk_at dksX1_begin_1 3 rfl rfl)
theorem dX1_begin_27 : decode cX1_begin 27 = .ok (.lconst 0, 1) := dk_9 (dk_at dksX1_begin_1 4 rfl rfl)
theorem dX1_begin_28 : decode cX1_begin 28 = .ok (.lastore, 1) := dk_80 (dk_at dksX1_begin_1 5 rfl rfl)
theorem dX1_begin_29 : decode cX1_begin 29 = .ok (.iinc 1 1, 3) := dk_132 1 1 (dk_at dksX1_begin_1 6 rfl rfl)
theorem dX1_begin_32 : decode cX1_begin 32 = .ok (.goto (-30), 3) := dk_167 255 226 (dk_at dksX1_begin_1 9 rfl rfl)
theorem dX1_begin_35 : decode cX1_begin 35 = .ok (.iconst 0, 1) := dk_3 (dk_at dksX1_begin_1 12 rfl rfl)
theorem dX1_begin_36 : decode cX1_begin 36 = .ok (.istore_n 1, 1) := dk_60 (dk_at dksX1_begin_1 13 rfl rfl)
theorem dX1_begin_37 : decode cX1_begin 37 = .ok (.iload_n 1, 1) := dk_27 (dk_at dksX1_begin_1 14 rfl rfl)
theorem dX1_begin_38 : decode cX1_begin 38 = .ok (.iconst 4, 1) := dk_7 (dk_at dksX1_begin_1 15 rfl rfl)
theorem dX1_begin_39 : decode cX1_begin 39 = .ok (.if_icmp .ge 38, 3) := dk_162 0 38 (dk_at dksX1_begin_1 16 rfl rfl)
theorem dX1_begin_42 : decode cX1_begin 42 = .ok (.aload_n 0, 1) := dk_42 (dk_at dksX1_begin_1 19 rfl rfl)
theorem dX1_begin_43 : decode cX1_begin 43 = .ok (.getfield 89, 3) := dk_180 0 89 (dk_at dksX1_begin_1 20 rfl rfl)
theorem dX1_begin_46 : decode cX1_begin 46 = .ok (.iload_n 1, 1) := dk_27 (dk_at dksX1_begin_1 23 rfl rfl)
theorem dX1_begin_47 : decode cX1_begin 47 = .ok (.bipush 8, 2) := dk_16 8 (dk_at dksX1_begin_2 0 rfl rfl)
theorem dX1_begin_49 : decode cX1_begin 49 = .ok (.imul, 1) := dk_104 (dk_at dksX1_begin_2 2 rfl rfl)
theorem dX1_begin_50 : decode cX1_begin 50 = .ok (.iconst 1, 1) := dk_4 (dk_at dksX1_begin_2 3 rfl rfl)
theorem dX1_begin_51 : decode cX1_begin 51 = .ok (.iastore, 1) := dk_79 (dk_at dksX1_begin_2 4 rfl rfl)
theorem dX1_begin_52 : decode cX1_begin 52 = .ok (.aload_n 0, 1) := dk_42 (dk_at dksX1_begin_2 5 rfl rfl)
theorem dX1_begin_53 : decode cX1_begin 53 = .ok (.getfield 89, 3) := dk_180 0 89 (dk_at dksX1_begin_2 6 rfl rfl)
theorem dX1_begin_56 : decode cX1_begin 56 = .ok (.iload_n 1, 1) := dk_27 (dk_at dksX1_begin_2 9 rfl rfl)
theorem dX1_begin_57 : decode cX1_begin 57 = .ok (.bipush 8, 2) := dk_16 8 (dk_at dksX1_begin_2 10 rfl rfl)
theorem dX1_begin_59 : decode cX1_begin 59 = .ok (.imul, 1) := dk_104 (dk_at dksX1_begin_2 12 rfl rfl)
theorem dX1_begin_60 : decode cX1_begin 60 = .ok (.iconst 1, 1) := dk_4 (dk_at dksX1_begin_2 13 rfl rfl)
theorem dX1_begin_61 : decode cX1_begin 61 = .ok (.iadd, 1) := dk_96 (dk_at dksX1_begin_2 14 rfl rfl)
theorem dX1_begin_62 : decode cX1_begin 62 = .ok (.iconst 1, 1) := dk_4 (dk_at dksX1_begin_2 15 rfl rfl)
theorem dX1_begin_63 : decode cX1_begin 63 = .ok (.iastore, 1) := dk_79 (dk_at dksX1_begin_2 16 rfl rfl)
theorem dX1_begin_64 : decode cX1_begin 64 = .ok (.aload_n 0, 1) := dk_42 (dk_at dksX1_begin_2 17 rfl rfl)
theorem dX1_begin_65 : decode cX1_begin 65 = .ok (.getfield 92, 3) := dk_180 0 92 (dk_at dksX1_begin_2 18 rfl rfl)
theorem dX1_begin_68 : decode cX1_begin 68 = .ok (.iload_n 1, 1) := dk_27 (dk_at dksX1_begin_2 21 rfl rfl)
theorem dX1_begin_69 : decode cX1_begin 69 = .ok (.iconst 2, 1) := dk_5 (dk_at dksX1_begin_2 22 rfl rfl)
theorem dX1_begin_70 : decode cX1_begin 70 = .ok (.iastore, 1) := dk_79 (dk_at dksX1_begin_2 23 rfl rfl)
theorem dX1_begin_71 : decode cX1_begin 71 = .ok (.iinc 1 1, 3) := dk_132 1 1 (dk_at dksX1_begin_3 0 rfl rfl)
theorem dX1_begin_74 : decode cX1_begin 74 = .ok (.goto (-37), 3) := dk_167 255 219 (dk_at dksX1_begin_3 3 rfl rfl)
theorem dX1_begin_77 : decode cX1_begin 77 = .ok (.aload_n 0, 1) := dk_42 (dk_at dksX1_begin_3 6 rfl rfl)
theorem dX1_begin_78 : decode cX1_begin 78 = .ok (.iconst 0, 1) := dk_3 (dk_at dksX1_begin_3 7 rfl rfl)
theorem dX1_begin_79 : decode cX1_begin 79 = .ok (.putfield 160, 3) := dk_181 0 160 (dk_at dksX1_begin_3 8 rfl rfl)
theorem dX1_begin_82 : decode cX1_begin 82 = .ok (.aload_n 0, 1) := dk_42 (dk_at dksX1_begin_3 11 rfl rfl)
theorem dX1_begin_83 : decode cX1_begin 83 = .ok (.iconst 0, 1) := dk_3 (dk_at dksX1_begin_3 12 rfl rfl)
theorem dX1_begin_84 : decode cX1_begin 84 = .ok (.putfield 164, 3) := dk_181 0 164 (dk_at dksX1_begin_3 13 rfl rfl)
theorem dX1_begin_87 : decode cX1_begin 87 = .ok (.aload_n 0, 1) := dk_42 (dk_at dksX1_begin_3 16 rfl rfl)
theorem dX1_begin_88 : decode cX1_begin 88 = .ok (.iconst 0, 1) := dk_3 (dk_at dksX1_begin_3 17 rfl rfl)
theorem dX1_begin_89 : decode cX1_begin 89 = .ok (.putfield 167, 3) := dk_181 0 167 (dk_at dksX1_begin_3 18 rfl rfl)
theorem dX1_begin_92 : decode cX1_begin 92 = .ok (.aload_n 0, 1) := dk_42 (dk_at dksX1_begin_3 21 rfl rfl)
theorem dX1_begin_93 : decode cX1_begin 93 = .ok (.bipush (-2), 2) := dk_16 254 (dk_at dksX1_begin_3 22 rfl rfl)
theorem dX1_begin_95 : decode cX1_begin 95 = .ok (.putfield 170, 3) := dk_181 0 170 (dk_at dksX1_begin_4 0 rfl rfl)
theorem dX1_begin_98 : decode cX1_begin 98 = .ok (.aload_n 0, 1) := dk_42 (dk_at dksX1_begin_4 3 rfl rfl)
theorem dX1_begin_99 : decode cX1_begin 99 = .ok (.getfield 108, 3) := dk_180 0 108 (dk_at dksX1_begin_4 4 rfl rfl)
theorem dX1_begin_102 : decode cX1_begin 102 = .ok (.invokevirtual 173, 3) := dk_182 0 173 (dk_at dksX1_begin_4 7 rfl rfl)
theorem dX1_begin_105 : decode cX1_begin 105 = .ok (.aload_n 0, 1) := dk_42 (dk_at dksX1_begin_4 10 rfl rfl)
theorem dX1_begin_106 : decode cX1_begin 106 = .ok (.getfield 108, 3) := dk_180 0 108 (dk_at dksX1_begin_4 11 rfl rfl)
theorem dX1_begin_109 : decode cX1_begin 109 = .ok (.invokevirtual 175, 3) := dk_182 0 175 (dk_at dksX1_begin_4 14 rfl rfl)
theorem dX1_begin_112 : decode cX1_begin 112 = .ok (.aload_n 0, 1) := dk_42 (dk_at dksX1_begin_4 17 rfl rfl)
theorem dX1_begin_113 : decode cX1_begin 113 = .ok (.iconst 0, 1) := dk_3 (dk_at dksX1_begin_4 18 rfl rfl)
theorem dX1_begin_114 : decode cX1_begin 114 = .ok (.putfield 178, 3) := dk_181 0 178 (dk_at dksX1_begin_4 19 rfl rfl)
theorem dX1_begin_117 : decode cX1_begin 117 = .ok (.iconst 0, 1) := dk_3 (dk_at dksX1_begin_4 22 rfl rfl)
theorem dX1_begin_118 : decode cX1_begin 118 = .ok (.ireturn, 1) := dk_172 (dk_at dksX1_begin_4 23 rfl rfl)
abbrev cX1_rate : ByteArray := prog_1_method_13_code
def yX1_rate : MethodName := ⟨RX1, "rate", "(III)I"⟩
def dkwX1_rate_2 : List UInt8 := [29, 79, 3, 172]
abbrev dktX1_rate_2 : List UInt8 := dkwX1_rate_2 ++ []
def dkwX1_rate_1 : List UInt8 := [161, 0, 10, 29, 17, 3, 232, 164, 0, 5, 2, 172, 42, 180, 0, 79, 27, 28, 79, 42, 180, 0, 83, 27]
abbrev dktX1_rate_1 : List UInt8 := dkwX1_rate_1 ++ dktX1_rate_2
def dkwX1_rate_0 : List UInt8 := [27, 155, 0, 32, 27, 16, 7, 163, 0, 26, 28, 155, 0, 22, 28, 17, 39, 16, 163, 0, 15, 29, 4]
abbrev dktX1_rate_0 : List UInt8 := dkwX1_rate_0 ++ dktX1_rate_1
theorem dksX1_rate_0 : cX1_rate.data.toList.drop 0 = dktX1_rate_0 := by decide +kernel
theorem dksX1_rate_1 : cX1_rate.data.toList.drop 23 = dktX1_rate_1 := dk_seg dksX1_rate_0 23 rfl rfl
theorem dksX1_rate_2 : cX1_rate.data.toList.drop 47 = dktX1_rate_2 := dk_seg dksX1_rate_1 24 rfl rfl
theorem dX1_rate_0 : decode cX1_rate 0 = .ok (.iload_n 1, 1) := dk_27 (dk_at dksX1_rate_0 0 rfl rfl)
theorem dX1_rate_1 : decode cX1_rate 1 = .ok (.ifCond .lt 32, 3) := dk_155 0 32 (dk_at dksX1_rate_0 1 rfl rfl)
theorem dX1_rate_4 : decode cX1_rate 4 = .ok (.iload_n 1, 1) := dk_27 (dk_at dksX1_rate_0 4 rfl rfl)
theorem dX1_rate_5 : decode cX1_rate 5 = .ok (.bipush 7, 2) := dk_16 7 (dk_at dksX1_rate_0 5 rfl rfl)
theorem dX1_rate_7 : decode cX1_rate 7 = .ok (.if_icmp .gt 26, 3) := dk_163 0 26 (dk_at dksX1_rate_0 7 rfl rfl)
theorem dX1_rate_10 : decode cX1_rate 10 = .ok (.iload_n 2, 1) := dk_28 (dk_at dksX1_rate_0 10 rfl rfl)
theorem dX1_rate_11 : decode cX1_rate 11 = .ok (.ifCond .lt 22, 3) := dk_155 0 22 (dk_at dksX1_rate_0 11 rfl rfl)
theorem dX1_rate_14 : decode cX1_rate 14 = .ok (.iload_n 2, 1) := dk_28 (dk_at dksX1_rate_0 14 rfl rfl)
theorem dX1_rate_15 : decode cX1_rate 15 = .ok (.sipush 10000, 3) := dk_17 39 16 (dk_at dksX1_rate_0 15 rfl rfl)
theorem dX1_rate_18 : decode cX1_rate 18 = .ok (.if_icmp .gt 15, 3) := dk_163 0 15 (dk_at dksX1_rate_0 18 rfl rfl)
theorem dX1_rate_21 : decode cX1_rate 21 = .ok (.iload_n 3, 1) := dk_29 (dk_at dksX1_rate_0 21 rfl rfl)
theorem dX1_rate_22 : decode cX1_rate 22 = .ok (.iconst 1, 1) := dk_4 (dk_at dksX1_rate_0 22 rfl rfl)
theorem dX1_rate_23 : decode cX1_rate 23 = .ok (.if_icmp .lt 10, 3) := dk_161 0 10 (dk_at dksX1_rate_1 0 rfl rfl)
theorem dX1_rate_26 : decode cX1_rate 26 = .ok (.iload_n 3, 1) := dk_29 (dk_at dksX1_rate_1 3 rfl rfl)
theorem dX1_rate_27 : decode cX1_rate 27 = .ok (.sipush 1000, 3) := dk_17 3 232 (dk_at dksX1_rate_1 4 rfl rfl)
theorem dX1_rate_30 : decode cX1_rate 30 = .ok (.if_icmp .le 5, 3) := dk_164 0 5 (dk_at dksX1_rate_1 7 rfl rfl)
theorem dX1_rate_33 : decode cX1_rate 33 = .ok (.iconst (-1), 1) := dk_2 (dk_at dksX1_rate_1 10 rfl rfl)
theorem dX1_rate_34 : decode cX1_rate 34 = .ok (.ireturn, 1) := dk_172 (dk_at dksX1_rate_1 11 rfl rfl)
theorem dX1_rate_35 : decode cX1_rate 35 = .ok (.aload_n 0, 1) := dk_42 (dk_at dksX1_rate_1 12 rfl rfl)
theorem dX1_rate_36 : decode cX1_rate 36 = .ok (.getfield 79, 3) := dk_180 0 79 (dk_at dksX1_rate_1 13 rfl rfl)
theorem dX1_rate_39 : decode cX1_rate 39 = .ok (.iload_n 1, 1) := dk_27 (dk_at dksX1_rate_1 16 rfl rfl)
theorem dX1_rate_40 : decode cX1_rate 40 = .ok (.iload_n 2, 1) := dk_28 (dk_at dksX1_rate_1 17 rfl rfl)
theorem dX1_rate_41 : decode cX1_rate 41 = .ok (.iastore, 1) := dk_79 (dk_at dksX1_rate_1 18 rfl rfl)
theorem dX1_rate_42 : decode cX1_rate 42 = .ok (.aload_n 0, 1) := dk_42 (dk_at dksX1_rate_1 19 rfl rfl)
theorem dX1_rate_43 : decode cX1_rate 43 = .ok (.getfield 83, 3) := dk_180 0 83 (dk_at dksX1_rate_1 20 rfl rfl)
theorem dX1_rate_46 : decode cX1_rate 46 = .ok (.iload_n 1, 1) := dk_27 (dk_at dksX1_rate_1 23 rfl rfl)
theorem dX1_rate_47 : decode cX1_rate 47 = .ok (.iload_n 3, 1) := dk_29 (dk_at dksX1_rate_2 0 rfl rfl)
theorem dX1_rate_48 : decode cX1_rate 48 = .ok (.iastore, 1) := dk_79 (dk_at dksX1_rate_2 1 rfl rfl)
theorem dX1_rate_49 : decode cX1_rate 49 = .ok (.iconst 0, 1) := dk_3 (dk_at dksX1_rate_2 2 rfl rfl)
theorem dX1_rate_50 : decode cX1_rate 50 = .ok (.ireturn, 1) := dk_172 (dk_at dksX1_rate_2 3 rfl rfl)
abbrev cX1_line : ByteArray := prog_1_method_14_code
def yX1_line : MethodName := ⟨RX1, "line", "(I)I"⟩
def dkwX1_line_2 : List UInt8 := [180, 0, 160, 172]
abbrev dktX1_line_2 : List UInt8 := dkwX1_line_2 ++ []
def dkwX1_line_1 : List UInt8 := [16, 254, 172, 42, 180, 0, 86, 42, 180, 0, 160, 27, 79, 42, 89, 180, 0, 160, 4, 96, 181, 0, 160, 42]
abbrev dktX1_line_1 : List UInt8 := dkwX1_line_1 ++ dktX1_line_2
def dkwX1_line_0 : List UInt8 := [27, 18, 181, 161, 0, 9, 27, 18, 73, 164, 0, 5, 2, 172, 42, 180, 0, 160, 16, 12, 160, 0, 6]
abbrev dktX1_line_0 : List UInt8 := dkwX1_line_0 ++ dktX1_line_1
theorem dksX1_line_0 : cX1_line.data.toList.drop 0 = dktX1_line_0 := by decide +kernel
theorem dksX1_line_1 : cX1_line.data.toList.drop 23 = dktX1_line_1 := dk_seg dksX1_line_0 23 rfl rfl
theorem dksX1_line_2 : cX1_line.data.toList.drop 47 = dktX1_line_2 := dk_seg dksX1_line_1 24 rfl rfl
theorem dX1_line_0 : decode cX1_line 0 = .ok (.iload_n 1, 1) := dk_27 (dk_at dksX1_line_0 0 rfl rfl)
theorem dX1_line_1 : decode cX1_line 1 = .ok (.ldc 181, 2) := dk_18 181 (dk_at dksX1_line_0 1 rfl rfl)
theorem dX1_line_3 : decode cX1_line 3 = .ok (.if_icmp .lt 9, 3) := dk_161 0 9 (dk_at dksX1_line_0 3 rfl rfl)
theorem dX1_line_6 : decode cX1_line 6 = .ok (.iload_n 1, 1) := dk_27 (dk_at dksX1_line_0 6 rfl rfl)
theorem dX1_line_7 : decode cX1_line 7 = .ok (.ldc 73, 2) := dk_18 73 (dk_at dksX1_line_0 7 rfl rfl)
theorem dX1_line_9 : decode cX1_line 9 = .ok (.if_icmp .le 5, 3) := dk_164 0 5 (dk_at dksX1_line_0 9 rfl rfl)
theorem dX1_line_12 : decode cX1_line 12 = .ok (.iconst (-1), 1) := dk_2 (dk_at dksX1_line_0 12 rfl rfl)
theorem dX1_line_13 : decode cX1_line 13 = .ok (.ireturn, 1) := dk_172 (dk_at dksX1_line_0 13 rfl rfl)
theorem dX1_line_14 : decode cX1_line 14 = .ok (.aload_n 0, 1) := dk_42 (dk_at dksX1_line_0 14 rfl rfl)
theorem dX1_line_15 : decode cX1_line 15 = .ok (.getfield 160, 3) := dk_180 0 160 (dk_at dksX1_line_0 15 rfl rfl)
theorem dX1_line_18 : decode cX1_line 18 = .ok (.bipush 12, 2) := dk_16 12 (dk_at dksX1_line_0 18 rfl rfl)
theorem dX1_line_20 : decode cX1_line 20 = .ok (.if_icmp .ne 6, 3) := dk_160 0 6 (dk_at dksX1_line_0 20 rfl rfl)
theorem dX1_line_23 : decode cX1_line 23 = .ok (.bipush (-2), 2) := dk_16 254 (dk_at dksX1_line_1 0 rfl rfl)
theorem dX1_line_25 : decode cX1_line 25 = .ok (.ireturn, 1) := dk_172 (dk_at dksX1_line_1 2 rfl rfl)
theorem dX1_line_26 : decode cX1_line 26 = .ok (.aload_n 0, 1) := dk_42 (dk_at dksX1_line_1 3 rfl rfl)
theorem dX1_line_27 : decode cX1_line 27 = .ok (.getfield 86, 3) := dk_180 0 86 (dk_at dksX1_line_1 4 rfl rfl)
theorem dX1_line_30 : decode cX1_line 30 = .ok (.aload_n 0, 1) := dk_42 (dk_at dksX1_line_1 7 rfl rfl)
theorem dX1_line_31 : decode cX1_line 31 = .ok (.getfield 160, 3) := dk_180 0 160 (dk_at dksX1_line_1 8 rfl rfl)
theorem dX1_line_34 : decode cX1_line 34 = .ok (.iload_n 1, 1) := dk_27 (dk_at dksX1_line_1 11 rfl rfl)
theorem dX1_line_35 : decode cX1_line 35 = .ok (.iastore, 1) := dk_79 (dk_at dksX1_line_1 12 rfl rfl)
theorem dX1_line_36 : decode cX1_line 36 = .ok (.aload_n 0, 1) := dk_42 (dk_at dksX1_line_1 13 rfl rfl)
theorem dX1_line_37 : decode cX1_line 37 = .ok (.dup, 1) := dk_89 (dk_at dksX1_line_1 14 rfl rfl)
theorem dX1_line_38 : decode cX1_line 38 = .ok (.getfield 160, 3) := dk_180 0 160 (dk_at dksX1_line_1 15 rfl rfl)
theorem dX1_line_41 : decode cX1_line 41 = .ok (.iconst 1, 1) := dk_4 (dk_at dksX1_line_1 18 rfl rfl)
theorem dX1_line_42 : decode cX1_line 42 = .ok (.iadd, 1) := dk_96 (dk_at dksX1_line_1 19 rfl rfl)
theorem dX1_line_43 : decode cX1_line 43 = .ok (.putfield 160, 3) := dk_181 0 160 (dk_at dksX1_line_1 20 rfl rfl)
theorem dX1_line_46 : decode cX1_line 46 = .ok (.aload_n 0, 1) := dk_42 (dk_at dksX1_line_1 23 rfl rfl)
theorem dX1_line_47 : decode cX1_line 47 = .ok (.getfield 160, 3) := dk_180 0 160 (dk_at dksX1_line_2 0 rfl rfl)
theorem dX1_line_50 : decode cX1_line 50 = .ok (.ireturn, 1) := dk_172 (dk_at dksX1_line_2 3 rfl rfl)
abbrev cX1_bare : ByteArray := prog_1_method_15_code
def yX1_bare : MethodName := ⟨RX1, "bare", "()I"⟩
def dkwX1_bare_0 : List UInt8 := [42, 180, 0, 160, 60, 42, 3, 181, 0, 160, 27, 172]
abbrev dktX1_bare_0 : List UInt8 := dkwX1_bare_0 ++ []
theorem dksX1_bare_0 : cX1_bare.data.toList.drop 0 = dktX1_bare_0 := by decide +kernel
theorem dX1_bare_0 : decode cX1_bare 0 = .ok (.aload_n 0, 1) := dk_42 (dk_at dksX1_bare_0 0 rfl rfl)
theorem dX1_bare_1 : decode cX1_bare 1 = .ok (.getfield 160, 3) := dk_180 0 160 (dk_at dksX1_bare_0 1 rfl rfl)
theorem dX1_bare_4 : decode cX1_bare 4 = .ok (.istore_n 1, 1) := dk_60 (dk_at dksX1_bare_0 4 rfl rfl)
theorem dX1_bare_5 : decode cX1_bare 5 = .ok (.aload_n 0, 1) := dk_42 (dk_at dksX1_bare_0 5 rfl rfl)
theorem dX1_bare_6 : decode cX1_bare 6 = .ok (.iconst 0, 1) := dk_3 (dk_at dksX1_bare_0 6 rfl rfl)
theorem dX1_bare_7 : decode cX1_bare 7 = .ok (.putfield 160, 3) := dk_181 0 160 (dk_at dksX1_bare_0 7 rfl rfl)
theorem dX1_bare_10 : decode cX1_bare 10 = .ok (.iload_n 1, 1) := dk_27 (dk_at dksX1_bare_0 10 rfl rfl)
theorem dX1_bare_11 : decode cX1_bare 11 = .ok (.ireturn, 1) := dk_172 (dk_at dksX1_bare_0 11 rfl rfl)
abbrev cX1_weight : ByteArray := prog_1_method_16_code
def yX1_weight : MethodName := ⟨RX1, "weight", "(II)I"⟩
def dkwX1_weight_3 : List UInt8 := [27, 92, 46, 4, 96, 79, 42, 180, 0, 92, 27, 46, 172]
abbrev dktX1_weight_3 : List UInt8 := dkwX1_weight_3 ++ []
def dkwX1_weight_2 : List UInt8 := [16, 254, 172, 42, 180, 0, 89, 27, 16, 8, 104, 42, 180, 0, 92, 27, 46, 96, 28, 79, 42, 180, 0, 92]
abbrev dktX1_weight_2 : List UInt8 := dkwX1_weight_2 ++ dktX1_weight_3
def dkwX1_weight_1 : List UInt8 := [2, 160, 0, 12, 42, 180, 0, 92, 27, 3, 79, 3, 172, 42, 180, 0, 92, 27, 46, 16, 8, 160, 0, 6]
abbrev dktX1_weight_1 : List UInt8 := dkwX1_weight_1 ++ dktX1_weight_2
def dkwX1_weight_0 : List UInt8 := [27, 155, 0, 20, 27, 6, 163, 0, 15, 28, 2, 161, 0, 10, 28, 17, 3, 232, 164, 0, 5, 2, 172, 28]
abbrev dktX1_weight_0 : List UInt8 := dkwX1_weight_0 ++ dktX1_weight_1
theorem dksX1_weight_0 : cX1_weight.data.toList.drop 0 = dktX1_weight_0 := by decide +kernel
theorem dksX1_weight_1 : cX1_weight.data.toList.drop 24 = dktX1_weight_1 := dk_seg dksX1_weight_0 24 rfl rfl
theorem dksX1_weight_2 : cX1_weight.data.toList.drop 48 = dktX1_weight_2 := dk_seg dksX1_weight_1 24 rfl rfl
theorem dksX1_weight_3 : cX1_weight.data.toList.drop 72 = dktX1_weight_3 := dk_seg dksX1_weight_2 24 rfl rfl
theorem dX1_weight_0 : decode cX1_weight 0 = .ok (.iload_n 1, 1) := dk_27 (dk_at dksX1_weight_0 0 rfl rfl)
theorem dX1_weight_1 : decode cX1_weight 1 = .ok (.ifCond .lt 20, 3) := dk_155 0 20 (dk_at dksX1_weight_0 1 rfl rfl)
theorem dX1_weight_4 : decode cX1_weight 4 = .ok (.iload_n 1, 1) := dk_27 (dk_at dksX1_weight_0 4 rfl rfl)
theorem dX1_weight_5 : decode cX1_weight 5 = .ok (.iconst 3, 1) := dk_6 (dk_at dksX1_weight_0 5 rfl rfl)
theorem dX1_weight_6 : decode cX1_weight 6 = .ok (.if_icmp .gt 15, 3) := dk_163 0 15 (dk_at dksX1_weight_0 6 rfl rfl)
theorem dX1_weight_9 : decode cX1_weight 9 = .ok (.iload_n 2, 1) := dk_28 (dk_at dksX1_weight_0 9 rfl rfl)
theorem dX1_weight_10 : decode cX1_weight 10 = .ok (.iconst (-1), 1) := dk_2 (dk_at dksX1_weight_0 10 rfl rfl)
theorem dX1_weight_11 : decode cX1_weight 11 = .ok (.if_icmp .lt 10, 3) := dk_161 0 10 (dk_at dksX1_weight_0 11 rfl rfl)
theorem dX1_weight_14 : decode cX1_weight 14 = .ok (.iload_n 2, 1) := dk_28 (dk_at dksX1_weight_0 14 rfl rfl)
theorem dX1_weight_15 : decode cX1_weight 15 = .ok (.sipush 1000, 3) := dk_17 3 232 (dk_at dksX1_weight_0 15 rfl rfl)
theorem dX1_weight_18 : decode cX1_weight 18 = .ok (.if_icmp .le 5, 3) := dk_164 0 5 (dk_at dksX1_weight_0 18 rfl rfl)
theorem dX1_weight_21 : decode cX1_weight 21 = .ok (.iconst (-1), 1) := dk_2 (dk_at dksX1_weight_0 21 rfl rfl)
theorem dX1_weight_22 : decode cX1_weight 22 = .ok (.ireturn, 1) := dk_172 (dk_at dksX1_weight_0 22 rfl rfl)
theorem dX1_weight_23 : decode cX1_weight 23 = .ok (.iload_n 2, 1) := dk_28 (dk_at dksX1_weight_0 23 rfl rfl)
theorem dX1_weight_24 : decode cX1_weight 24 = .ok (.iconst (-1), 1) := dk_2 (dk_at dksX1_weight_1 0 rfl rfl)
theorem dX1_weight_25 : decode cX1_weight 25 = .ok (.if_icmp .ne 12, 3) := dk_160 0 12 (dk_at dksX1_weight_1 1 rfl rfl)
theorem dX1_weight_28 : decode cX1_weight 28 = .ok (.aload_n 0, 1) := dk_42 (dk_at dksX1_weight_1 4 rfl rfl)
theorem dX1_weight_29 : decode cX1_weight 29 = .ok (.getfield 92, 3) := dk_180 0 92 (dk_at dksX1_weight_1 5 rfl rfl)
theorem dX1_weight_32 : decode cX1_weight 32 = .ok (.iload_n 1, 1) := dk_27 (dk_at dksX1_weight_1 8 rfl rfl)
theorem dX1_weight_33 : decode cX1_weight 33 = .ok (.iconst 0, 1) := dk_3 (dk_at dksX1_weight_1 9 rfl rfl)
theorem dX1_weight_34 : decode cX1_weight 34 = .ok (.iastore, 1) := dk_79 (dk_at dksX1_weight_1 10 rfl rfl)
theorem dX1_weight_35 : decode cX1_weight 35 = .ok (.iconst 0, 1) := dk_3 (dk_at dksX1_weight_1 11 rfl rfl)
theorem dX1_weight_36 : decode cX1_weight 36 = .ok (.ireturn, 1) := dk_172 (dk_at dksX1_weight_1 12 rfl rfl)
theorem dX1_weight_37 : decode cX1_weight 37 = .ok (.aload_n 0, 1) := dk_42 (dk_at dksX1_weight_1 13 rfl rfl)
theorem dX1_weight_38 : decode cX1_weight 38 = .ok (.getfield 92, 3) := dk_180 0 92 (dk_at dksX1_weight_1 14 rfl rfl)
theorem dX1_weight_41 : decode cX1_weight 41 = .ok (.iload_n 1, 1) := dk_27 (dk_at dksX1_weight_1 17 rfl rfl)
theorem dX1_weight_42 : decode cX1_weight 42 = .ok (.iaload, 1) := dk_46 (dk_at dksX1_weight_1 18 rfl rfl)
theorem dX1_weight_43 : decode cX1_weight 43 = .ok (.bipush 8, 2) := dk_16 8 (dk_at dksX1_weight_1 19 rfl rfl)
theorem dX1_weight_45 : decode cX1_weight 45 = .ok (.if_icmp .ne 6, 3) := dk_160 0 6 (dk_at dksX1_weight_1 21 rfl rfl)
theorem dX1_weight_48 : decode cX1_weight 48 = .ok (.bipush (-2), 2) := dk_16 254 (dk_at dksX1_weight_2 0 rfl rfl)
theorem dX1_weight_50 : decode cX1_weight 50 = .ok (.ireturn, 1) := dk_172 (dk_at dksX1_weight_2 2 rfl rfl)
theorem dX1_weight_51 : decode cX1_weight 51 = .ok (.aload_n 0, 1) := dk_42 (dk_at dksX1_weight_2 3 rfl rfl)
theorem dX1_weight_52 : decode cX1_weight 52 = .ok (.getfield 89, 3) := dk_180 0 89 (dk_at dksX1_weight_2 4 rfl rfl)
theorem dX1_weight_55 : decode cX1_weight 55 = .ok (.iload_n 1, 1) := dk_27 (dk_at dksX1_weight_2 7 rfl rfl)
theorem dX1_weight_56 : decode cX1_weight 56 = .ok (.bipush 8, 2) := dk_16 8 (dk_at dksX1_weight_2 8 rfl rfl)
theorem dX1_weight_58 : decode cX1_weight 58 = .ok (.imul, 1) := dk_104 (dk_at dksX1_weight_2 10 rfl rfl)
theorem dX1_weight_59 : decode cX1_weight 59 = .ok (.aload_n 0, 1) := dk_42 (dk_at dksX1_weight_2 11 rfl rfl)
theorem dX1_weight_60 : decode cX1_weight 60 = .ok (.getfield 92, 3) := dk_180 0 92 (dk_at dksX1_weight_2 12 rfl rfl)
theorem dX1_weight_63 : decode cX1_weight 63 = .ok (.iload_n 1, 1) := dk_27 (dk_at dksX1_weight_2 15 rfl rfl)
theorem dX1_weight_64 : decode cX1_weight 64 = .ok (.iaload, 1) := dk_46 (dk_at dksX1_weight_2 16 rfl rfl)
theorem dX1_weight_65 : decode cX1_weight 65 = .ok (.iadd, 1) := dk_96 (dk_at dksX1_weight_2 17 rfl rfl)
theorem dX1_weight_66 : decode cX1_weight 66 = .ok (.iload_n 2, 1) := dk_28 (dk_at dksX1_weight_2 18 rfl rfl)
theorem dX1_weight_67 : decode cX1_weight 67 = .ok (.iastore, 1) := dk_79 (dk_at dksX1_weight_2 19 rfl rfl)
theorem dX1_weight_68 : decode cX1_weight 68 = .ok (.aload_n 0, 1) := dk_42 (dk_at dksX1_weight_2 20 rfl rfl)
theorem dX1_weight_69 : decode cX1_weight 69 = .ok (.getfield 92, 3) := dk_180 0 92 (dk_at dksX1_weight_2 21 rfl rfl)
theorem dX1_weight_72 : decode cX1_weight 72 = .ok (.iload_n 1, 1) := dk_27 (dk_at dksX1_weight_3 0 rfl rfl)
theorem dX1_weight_73 : decode cX1_weight 73 = .ok (.dup2, 1) := dk_92 (dk_at dksX1_weight_3 1 rfl rfl)
theorem dX1_weight_74 : decode cX1_weight 74 = .ok (.iaload, 1) := dk_46 (dk_at dksX1_weight_3 2 rfl rfl)
theorem dX1_weight_75 : decode cX1_weight 75 = .ok (.iconst 1, 1) := dk_4 (dk_at dksX1_weight_3 3 rfl rfl)
theorem dX1_weight_76 : decode cX1_weight 76 = .ok (.iadd, 1) := dk_96 (dk_at dksX1_weight_3 4 rfl rfl)
theorem dX1_weight_77 : decode cX1_weight 77 = .ok (.iastore, 1) := dk_79 (dk_at dksX1_weight_3 5 rfl rfl)
theorem dX1_weight_78 : decode cX1_weight 78 = .ok (.aload_n 0, 1) := dk_42 (dk_at dksX1_weight_3 6 rfl rfl)
theorem dX1_weight_79 : decode cX1_weight 79 = .ok (.getfield 92, 3) := dk_180 0 92 (dk_at dksX1_weight_3 7 rfl rfl)
theorem dX1_weight_82 : decode cX1_weight 82 = .ok (.iload_n 1, 1) := dk_27 (dk_at dksX1_weight_3 10 rfl rfl)
theorem dX1_weight_83 : decode cX1_weight 83 = .ok (.iaload, 1) := dk_46 (dk_at dksX1_weight_3 11 rfl rfl)
theorem dX1_weight_84 : decode cX1_weight 84 = .ok (.ireturn, 1) := dk_172 (dk_at dksX1_weight_3 12 rfl rfl)
abbrev cX1_program : ByteArray := prog_1_method_17_code
def yX1_program : MethodName := ⟨RX1, "program", "()I"⟩
def dkwX1_program_1 : List UInt8 := [183, 0, 182, 83, 42, 89, 180, 0, 164, 4, 96, 181, 0, 164, 42, 180, 0, 164, 4, 100, 172]
abbrev dktX1_program_1 : List UInt8 := dkwX1_program_1 ++ []
def dkwX1_program_0 : List UInt8 := [42, 180, 0, 164, 7, 160, 0, 6, 16, 254, 172, 42, 180, 0, 97, 42, 180, 0, 164, 187, 0, 95, 89]
abbrev dktX1_program_0 : List UInt8 := dkwX1_program_0 ++ dktX1_program_1
theorem dksX1_program_0 : cX1_program.data.toList.drop 0 = dktX1_program_0 := by decide +kernel
theorem dksX1_program_1 : cX1_program.data.toList.drop 23 = dktX1_program_1 := dk_seg dksX1_program_0 23 rfl rfl
theorem dX1_program_0 : decode cX1_program 0 = .ok (.aload_n 0, 1) := dk_42 (dk_at dksX1_program_0 0 rfl rfl)
theorem dX1_program_1 : decode cX1_program 1 = .ok (.getfield 164, 3) := dk_180 0 164 (dk_at dksX1_program_0 1 rfl rfl)
theorem dX1_program_4 : decode cX1_program 4 = .ok (.iconst 4, 1) := dk_7 (dk_at dksX1_program_0 4 rfl rfl)
theorem dX1_program_5 : decode cX1_program 5 = .ok (.if_icmp .ne 6, 3) := dk_160 0 6 (dk_at dksX1_program_0 5 rfl rfl)
theorem dX1_program_8 : decode cX1_program 8 = .ok (.bipush (-2), 2) := dk_16 254 (dk_at dksX1_program_0 8 rfl rfl)
theorem dX1_program_10 : decode cX1_program 10 = .ok (.ireturn, 1) := dk_172 (dk_at dksX1_program_0 10 rfl rfl)
theorem dX1_program_11 : decode cX1_program 11 = .ok (.aload_n 0, 1) := dk_42 (dk_at dksX1_program_0 11 rfl rfl)
theorem dX1_program_12 : decode cX1_program 12 = .ok (.getfield 97, 3) := dk_180 0 97 (dk_at dksX1_program_0 12 rfl rfl)
theorem dX1_program_15 : decode cX1_program 15 = .ok (.aload_n 0, 1) := dk_42 (dk_at dksX1_program_0 15 rfl rfl)
theorem dX1_program_16 : decode cX1_program 16 = .ok (.getfield 164, 3) := dk_180 0 164 (dk_at dksX1_program_0 16 rfl rfl)
theorem dX1_program_19 : decode cX1_program 19 = .ok (.new 95, 3) := dk_187 0 95 (dk_at dksX1_program_0 19 rfl rfl)
theorem dX1_program_22 : decode cX1_program 22 = .ok (.dup, 1) := dk_89 (dk_at dksX1_program_0 22 rfl rfl)
theorem dX1_program_23 : decode cX1_program 23 = .ok (.invokespecial 182, 3) := dk_183 0 182 (dk_at dksX1_program_1 0 rfl rfl)
theorem dX1_program_26 : decode cX1_program 26 = .ok (.aastore, 1) := dk_83 (dk_at dksX1_program_1 3 rfl rfl)
theorem dX1_program_27 : decode cX1_program 27 = .ok (.aload_n 0, 1) := dk_42 (dk_at dksX1_program_1 4 rfl rfl)
theorem dX1_program_28 : decode cX1_program 28 = .ok (.dup, 1) := dk_89 (dk_at dksX1_program_1 5 rfl rfl)
theorem dX1_program_29 : decode cX1_program 29 = .ok (.getfield 164, 3) := dk_180 0 164 (dk_at dksX1_program_1 6 rfl rfl)
theorem dX1_program_32 : decode cX1_program 32 = .ok (.iconst 1, 1) := dk_4 (dk_at dksX1_program_1 9 rfl rfl)
theorem dX1_program_33 : decode cX1_program 33 = .ok (.iadd, 1) := dk_96 (dk_at dksX1_program_1 10 rfl rfl)
theorem dX1_program_34 : decode cX1_program 34 = .ok (.putfield 164, 3) := dk_181 0 164 (dk_at dksX1_program_1 11 rfl rfl)
theorem dX1_program_37 : decode cX1_program 37 = .ok (.aload_n 0, 1) := dk_42 (dk_at dksX1_program_1 14 rfl rfl)
theorem dX1_program_38 : decode cX1_program 38 = .ok (.getfield 164, 3) := dk_180 0 164 (dk_at dksX1_program_1 15 rfl rfl)
theorem dX1_program_41 : decode cX1_program 41 = .ok (.iconst 1, 1) := dk_4 (dk_at dksX1_program_1 18 rfl rfl)
theorem dX1_program_42 : decode cX1_program 42 = .ok (.isub, 1) := dk_100 (dk_at dksX1_program_1 19 rfl rfl)
theorem dX1_program_43 : decode cX1_program 43 = .ok (.ireturn, 1) := dk_172 (dk_at dksX1_program_1 20 rfl rfl)
abbrev cX1_act : ByteArray := prog_1_method_18_code
def yX1_act : MethodName := ⟨RX1, "act", "(IIIII)I"⟩
def dkwX1_act_4 : List UInt8 := [25, 6, 180, 0, 190, 172]
abbrev dktX1_act_4 : List UInt8 := dkwX1_act_4 ++ []
def dkwX1_act_3 : List UInt8 := [180, 0, 190, 28, 29, 21, 4, 21, 5, 184, 0, 197, 83, 25, 6, 89, 180, 0, 190, 4, 96, 181, 0, 190]
abbrev dktX1_act_3 : List UInt8 := dkwX1_act_3 ++ dktX1_act_4
def dkwX1_act_2 : List UInt8 := [58, 6, 25, 6, 180, 0, 190, 16, 20, 160, 0, 6, 16, 254, 172, 25, 6, 180, 0, 193, 25, 6]
abbrev dktX1_act_2 : List UInt8 := dkwX1_act_2 ++ dktX1_act_3
def dkwX1_act_1 : List UInt8 := [16, 7, 163, 0, 14, 28, 21, 4, 21, 5, 184, 0, 187, 154, 0, 5, 2, 172, 42, 180, 0, 97, 27, 50]
abbrev dktX1_act_1 : List UInt8 := dkwX1_act_1 ++ dktX1_act_2
def dkwX1_act_0 : List UInt8 := [42, 27, 182, 0, 183, 153, 0, 34, 28, 155, 0, 30, 28, 16, 12, 163, 0, 24, 29, 155, 0, 20, 29]
abbrev dktX1_act_0 : List UInt8 := dkwX1_act_0 ++ dktX1_act_1
theorem dksX1_act_0 : cX1_act.data.toList.drop 0 = dktX1_act_0 := by decide +kernel
theorem dksX1_act_1 : cX1_act.data.toList.drop 23 = dktX1_act_1 := dk_seg dksX1_act_0 23 rfl rfl
theorem dksX1_act_2 : cX1_act.data.toList.drop 47 = dktX1_act_2 := dk_seg dksX1_act_1 24 rfl rfl
theorem dksX1_act_3 : cX1_act.data.toList.drop 69 = dktX1_act_3 := dk_seg dksX1_act_2 22 rfl rfl
theorem dksX1_act_4 : cX1_act.data.toList.drop 93 = dktX1_act_4 := dk_seg dksX1_act_3 24 rfl rfl
theorem dX1_act_0 : decode cX1_act 0 = .ok (.aload_n 0, 1) := dk_42 (dk_at dksX1_act_0 0 rfl rfl)
theorem dX1_act_1 : decode cX1_act 1 = .ok (.iload_n 1, 1) := dk_27 (dk_at dksX1_act_0 1 rfl rfl)
theorem dX1_act_2 : decode cX1_act 2 = .ok (.invokevirtual 183, 3) := dk_182 0 183 (dk_at dksX1_act_0 2 rfl rfl)
theorem dX1_act_5 : decode cX1_act 5 = .ok (.ifCond .eq 34, 3) := dk_153 0 34 (dk_at dksX1_act_0 5 rfl rfl)
theorem dX1_act_8 : decode cX1_act 8 = .ok (.iload_n 2, 1) := dk_28 (dk_at dksX1_act_0 8 rfl rfl)
theorem dX1_act_9 : decode cX1_act 9 = .ok (.ifCond .lt 30, 3) := dk_155 0 30 (dk_at dksX1_act_0 9 rfl rfl)
theorem dX1_act_12 : decode cX1_act 12 = .ok (.iload_n 2, 1) := dk_28 (dk_at dksX1_act_0 12 rfl rfl)
theorem dX1_act_13 : decode cX1_act 13 = .ok (.bipush 12, 2) := dk_16 12 (dk_at dksX1_act_0 13 rfl rfl)
theorem dX1_act_15 : decode cX1_act 15 = .ok (.if_icmp .gt 24, 3) := dk_163 0 24 (dk_at dksX1_act_0 15 rfl rfl)
theorem dX1_act_18 : decode cX1_act 18 = .ok (.iload_n 3, 1) := dk_29 (dk_at dksX1_act_0 18 rfl rfl)
theorem dX1_act_19 : decode cX1_act 19 = .ok (.ifCond .lt 20, 3) := dk_155 0 20 (dk_at dksX1_act_0 19 rfl rfl)
theorem dX1_act_22 : decode cX1_act 22 = .ok (.iload_n 3, 1) := dk_29 (dk_at dksX1_act_0 22 rfl rfl)
theorem dX1_act_23 : decode cX1_act 23 = .ok (.bipush 7, 2) := dk_16 7 (dk_at dksX1_act_1 0 rfl rfl)
theorem dX1_act_25 : decode cX1_act 25 = .ok (.if_icmp .gt 14, 3) := dk_163 0 14 (dk_at dksX1_act_1 2 rfl rfl)
theorem dX1_act_28 : decode cX1_act 28 = .ok (.iload_n 2, 1) := dk_28 (dk_at dksX1_act_1 5 rfl rfl)
theorem dX1_act_29 : decode cX1_act 29 = .ok (.iload 4, 2) := dk_21 4 (dk_at dksX1_act_1 6 rfl rfl)
theorem dX1_act_31 : decode cX1_act 31 = .ok (.iload 5, 2) := dk_21 5 (dk_at dksX1_act_1 8 rfl rfl)
theorem dX1_act_33 : decode cX1_act 33 = .ok (.invokestatic 187, 3) := dk_184 0 187 (dk_at dksX1_act_1 10 rfl rfl)
theorem dX1_act_36 : decode cX1_act 36 = .ok (.ifCond .ne 5, 3) := dk_154 0 5 (dk_at dksX1_act_1 13 rfl rfl)
theorem dX1_act_39 : decode cX1_act 39 = .ok (.iconst (-1), 1) := dk_2 (dk_at dksX1_act_1 16 rfl rfl)
theorem dX1_act_40 : decode cX1_act 40 = .ok (.ireturn, 1) := dk_172 (dk_at dksX1_act_1 17 rfl rfl)
theorem dX1_act_41 : decode cX1_act 41 = .ok (.aload_n 0, 1) := dk_42 (dk_at dksX1_act_1 18 rfl rfl)
theorem dX1_act_42 : decode cX1_act 42 = .ok (.getfield 97, 3) := dk_180 0 97 (dk_at dksX1_act_1 19 rfl rfl)
theorem dX1_act_45 : decode cX1_act 45 = .ok (.iload_n 1, 1) := dk_27 (dk_at dksX1_act_1 22 rfl rfl)
theorem dX1_act_46 : decode cX1_act 46 = .ok (.aaload, 1) := dk_50 (dk_at dksX1_act_1 23 rfl rfl)
theorem dX1_act_47 : decode cX1_act 47 = .ok (.astore 6, 2) := dk_58 6 (dk_at dksX1_act_2 0 rfl rfl)
theorem dX1_act_49 : decode cX1_act 49 = .ok (.aload 6, 2) := dk_25 6 (dk_at dksX1_act_2 2 rfl rfl)
theorem dX1_act_51 : decode cX1_act 51 = .ok (.getfield 190, 3) := dk_180 0 190 (dk_at dksX1_act_2 4 rfl rfl)
theorem dX1_act_54 : decode cX1_act 54 = .ok (.bipush 20, 2) := dk_16 20 (dk_at dksX1_act_2 7 rfl rfl)
theorem dX1_act_56 : decode cX1_act 56 = .ok (.if_icmp .ne 6, 3) := dk_160 0 6 (dk_at dksX1_act_2 9 rfl rfl)
theorem dX1_act_59 : decode cX1_act 59 = .ok (.bipush (-2), 2) := dk_16 254 (dk_at dksX1_act_2 12 rfl rfl)
theorem dX1_act_61 : decode cX1_act 61 = .ok (.ireturn, 1) := dk_172 (dk_at dksX1_act_2 14 rfl rfl)
theorem dX1_act_62 : decode cX1_act 62 = .ok (.aload 6, 2) := dk_25 6 (dk_at dksX1_act_2 15 rfl rfl)
theorem dX1_act_64 : decode cX1_act 64 = .ok (.getfield 193, 3) := dk_180 0 193 (dk_at dksX1_act_2 17 rfl rfl)
theorem dX1_act_67 : decode cX1_act 67 = .ok (.aload 6, 2) := dk_25 6 (dk_at dksX1_act_2 20 rfl rfl)
theorem dX1_act_69 : decode cX1_act 69 = .ok (.getfield 190, 3) := dk_180 0 190 (dk_at dksX1_act_3 0 rfl rfl)
theorem dX1_act_72 : decode cX1_act 72 = .ok (.iload_n 2, 1) := dk_28 (dk_at dksX1_act_3 3 rfl rfl)
theorem dX1_act_73 : decode cX1_act 73 = .ok (.iload_n 3, 1) := dk_29 (dk_at dksX1_act_3 4 rfl rfl)
theorem dX1_act_74 : decode cX1_act 74 = .ok (.iload 4, 2) := dk_21 4 (dk_at dksX1_act_3 5 rfl rfl)
theorem dX1_act_76 : decode cX1_act 76 = .ok (.iload 5, 2) := dk_21 5 (dk_at dksX1_act_3 7 rfl rfl)
theorem dX1_act_78 : decode cX1_act 78 = .ok (.invokestatic 197, 3) := dk_184 0 197 (dk_at dksX1_act_3 9 rfl rfl)
theorem dX1_act_81 : decode cX1_act 81 = .ok (.aastore, 1) := dk_83 (dk_at dksX1_act_3 12 rfl rfl)
theorem dX1_act_82 : decode cX1_act 82 = .ok (.aload 6, 2) := dk_25 6 (dk_at dksX1_act_3 13 rfl rfl)
theorem dX1_act_84 : decode cX1_act 84 = .ok (.dup, 1) := dk_89 (dk_at dksX1_act_3 15 rfl rfl)
theorem dX1_act_85 : decode cX1_act 85 = .ok (.getfield 190, 3) := dk_180 0 190 (dk_at dksX1_act_3 16 rfl rfl)
theorem dX1_act_88 : decode cX1_act 88 = .ok (.iconst 1, 1) := dk_4 (dk_at dksX1_act_3 19 rfl rfl)
theorem dX1_act_89 : decode cX1_act 89 = .ok (.iadd, 1) := dk_96 (dk_at dksX1_act_3 20 rfl rfl)
theorem dX1_act_90 : decode cX1_act 90 = .ok (.putfield 190, 3) := dk_181 0 190 (dk_at dksX1_act_3 21 rfl rfl)
theorem dX1_act_93 : decode cX1_act 93 = .ok (.aload 6, 2) := dk_25 6 (dk_at dksX1_act_4 0 rfl rfl)
theorem dX1_act_95 : decode cX1_act 95 = .ok (.getfield 190, 3) := dk_180 0 190 (dk_at dksX1_act_4 2 rfl rfl)
theorem dX1_act_98 : decode cX1_act 98 = .ok (.ireturn, 1) := dk_172 (dk_at dksX1_act_4 5 rfl rfl)
abbrev cX1_isProgram : ByteArray := prog_1_method_11_code
def yX1_isProgram : MethodName := ⟨RX1, "isProgram", "(I)Z"⟩
def dkwX1_isProgram_0 : List UInt8 := [27, 155, 0, 15, 27, 42, 180, 0, 164, 162, 0, 7, 4, 167, 0, 4, 3, 172]
abbrev dktX1_isProgram_0 : List UInt8 := dkwX1_isProgram_0 ++ []
theorem dksX1_isProgram_0 : cX1_isProgram.data.toList.drop 0 = dktX1_isProgram_0 := by decide +kernel
theorem dX1_isProgram_0 : decode cX1_isProgram 0 = .ok (.iload_n 1, 1) := dk_27 (dk_at dksX1_isProgram_0 0 rfl rfl)
theorem dX1_isProgram_1 : decode cX1_isProgram 1 = .ok (.ifCond .lt 15, 3) := dk_155 0 15 (dk_at dksX1_isProgram_0 1 rfl rfl)
theorem dX1_isProgram_4 : decode cX1_isProgram 4 = .ok (.iload_n 1, 1) := dk_27 (dk_at dksX1_isProgram_0 4 rfl rfl)
theorem dX1_isProgram_5 : decode cX1_isProgram 5 = .ok (.aload_n 0, 1) := dk_42 (dk_at dksX1_isProgram_0 5 rfl rfl)
theorem dX1_isProgram_6 : decode cX1_isProgram 6 = .ok (.getfield 164, 3) := dk_180 0 164 (dk_at dksX1_isProgram_0 6 rfl rfl)
theorem dX1_isProgram_9 : decode cX1_isProgram 9 = .ok (.if_icmp .ge 7, 3) := dk_162 0 7 (dk_at dksX1_isProgram_0 9 rfl rfl)
theorem dX1_isProgram_12 : decode cX1_isProgram 12 = .ok (.iconst 1, 1) := dk_4 (dk_at dksX1_isProgram_0 12 rfl rfl)
theorem dX1_isProgram_13 : decode cX1_isProgram 13 = .ok (.goto 4, 3) := dk_167 0 4 (dk_at dksX1_isProgram_0 13 rfl rfl)
theorem dX1_isProgram_16 : decode cX1_isProgram 16 = .ok (.iconst 0, 1) := dk_3 (dk_at dksX1_isProgram_0 16 rfl rfl)
theorem dX1_isProgram_17 : decode cX1_isProgram 17 = .ok (.ireturn, 1) := dk_172 (dk_at dksX1_isProgram_0 17 rfl rfl)
abbrev cX1_fits : ByteArray := prog_1_method_8_code
def yX1_fits : MethodName := ⟨RX1, "fits", "(III)Z"⟩
def dkwX1_fits_12 : List UInt8 := [172]
abbrev dktX1_fits_12 : List UInt8 := dkwX1_fits_12 ++ []
def dkwX1_fits_11 : List UInt8 := [3, 16, 7, 184, 0, 69, 153, 0, 17, 28, 4, 16, 30, 184, 0, 69, 153, 0, 7, 4, 167, 0, 4, 3]
abbrev dktX1_fits_11 : List UInt8 := dkwX1_fits_11 ++ dktX1_fits_12
def dkwX1_fits_10 : List UInt8 := [16, 7, 184, 0, 69, 153, 0, 16, 28, 3, 8, 184, 0, 69, 153, 0, 7, 4, 167, 0, 4, 3, 172, 27]
abbrev dktX1_fits_10 : List UInt8 := dkwX1_fits_10 ++ dktX1_fits_11
def dkwX1_fits_9 : List UInt8 := [184, 0, 69, 153, 0, 17, 28, 3, 18, 73, 184, 0, 69, 153, 0, 7, 4, 167, 0, 4, 3, 172, 27, 3]
abbrev dktX1_fits_9 : List UInt8 := dkwX1_fits_9 ++ dktX1_fits_10
def dkwX1_fits_8 : List UInt8 := [3, 16, 7, 184, 0, 69, 153, 0, 11, 28, 154, 0, 7, 4, 167, 0, 4, 3, 172, 27, 3, 4]
abbrev dktX1_fits_8 : List UInt8 := dkwX1_fits_8 ++ dktX1_fits_9
def dkwX1_fits_7 : List UInt8 := [3, 6, 184, 0, 69, 153, 0, 16, 28, 3, 6, 184, 0, 69, 153, 0, 7, 4, 167, 0, 4, 3, 172, 27]
abbrev dktX1_fits_7 : List UInt8 := dkwX1_fits_7 ++ dktX1_fits_8
def dkwX1_fits_6 : List UInt8 := [16, 7, 184, 0, 69, 153, 0, 16, 28, 3, 4, 184, 0, 69, 153, 0, 7, 4, 167, 0, 4, 3, 172, 27]
abbrev dktX1_fits_6 : List UInt8 := dkwX1_fits_6 ++ dktX1_fits_7
def dkwX1_fits_5 : List UInt8 := [184, 0, 69, 153, 0, 17, 28, 4, 16, 100, 184, 0, 69, 153, 0, 7, 4, 167, 0, 4, 3, 172, 27, 3]
abbrev dktX1_fits_5 : List UInt8 := dkwX1_fits_5 ++ dktX1_fits_6
def dkwX1_fits_4 : List UInt8 := [153, 0, 17, 28, 3, 16, 7, 184, 0, 69, 153, 0, 7, 4, 167, 0, 4, 3, 172, 27, 3, 8]
abbrev dktX1_fits_4 : List UInt8 := dkwX1_fits_4 ++ dktX1_fits_5
def dkwX1_fits_3 : List UInt8 := [28, 3, 8, 184, 0, 69, 153, 0, 7, 4, 167, 0, 4, 3, 172, 27, 3, 16, 7, 184, 0, 69]
abbrev dktX1_fits_3 : List UInt8 := dkwX1_fits_3 ++ dktX1_fits_4
def dkwX1_fits_2 : List UInt8 := [27, 154, 0, 11, 28, 154, 0, 7, 4, 167, 0, 4, 3, 172, 27, 3, 16, 7, 184, 0, 69, 153, 0, 16]
abbrev dktX1_fits_2 : List UInt8 := dkwX1_fits_2 ++ dktX1_fits_3
def dkwX1_fits_1 : List UInt8 := [170, 0, 0, 0, 0, 1, 16, 0, 0, 0, 0, 0, 0, 0, 11, 0, 0, 0, 63, 0, 0, 0, 77, 0, 0, 0, 77, 0, 0, 0, 102, 0, 0, 0, 128, 0, 0, 0, 153, 0, 0, 0, 178, 0, 0, 0, 202, 0, 0, 0, 63, 0, 0, 0, 222, 0, 0, 0, 153, 0, 0, 0, 247]
abbrev dktX1_fits_1 : List UInt8 := dkwX1_fits_1 ++ dktX1_fits_2
def dkwX1_fits_0 : List UInt8 := [26]
abbrev dktX1_fits_0 : List UInt8 := dkwX1_fits_0 ++ dktX1_fits_1
theorem dksX1_fits_0 : cX1_fits.data.toList.drop 0 = dktX1_fits_0 := by decide +kernel
theorem dksX1_fits_1 : cX1_fits.data.toList.drop 1 = dktX1_fits_1 := dk_seg dksX1_fits_0 1 rfl rfl
theorem dksX1_fits_2 : cX1_fits.data.toList.drop 64 = dktX1_fits_2 := dk_seg dksX1_fits_1 63 rfl rfl
theorem dksX1_fits_3 : cX1_fits.data.toList.drop 88 = dktX1_fits_3 := dk_seg dksX1_fits_2 24 rfl rfl
theorem dksX1_fits_4 : cX1_fits.data.toList.drop 110 = dktX1_fits_4 := dk_seg dksX1_fits_3 22 rfl rfl
theorem dksX1_fits_5 : cX1_fits.data.toList.drop 132 = dktX1_fits_5 := dk_seg dksX1_fits_4 22 rfl rfl
theorem dksX1_fits_6 : cX1_fits.data.toList.drop 156 = dktX1_fits_6 := dk_seg dksX1_fits_5 24 rfl rfl
theorem dksX1_fits_7 : cX1_fits.data.toList.drop 180 = dktX1_fits_7 := dk_seg dksX1_fits_6 24 rfl rfl
theorem dksX1_fits_8 : cX1_fits.data.toList.drop 204 = dktX1_fits_8 := dk_seg dksX1_fits_7 24 rfl rfl
theorem dksX1_fits_9 : cX1_fits.data.toList.drop 226 = dktX1_fits_9 := dk_seg dksX1_fits_8 22 rfl rfl
theorem dksX1_fits_10 : cX1_fits.data.toList.drop 250 = dktX1_fits_10 := dk_seg dksX1_fits_9 24 rfl rfl
theorem dksX1_fits_11 : cX1_fits.data.toList.drop 274 = dktX1_fits_11 := dk_seg dksX1_fits_10 24 rfl rfl
theorem dksX1_fits_12 : cX1_fits.data.toList.drop 298 = dktX1_fits_12 := dk_seg dksX1_fits_11 24 rfl rfl
theorem dX1_fits_0 : decode cX1_fits 0 = .ok (.iload_n 0, 1) := dk_26 (dk_at dksX1_fits_0 0 rfl rfl)
theorem dX1_fits_1 : decode cX1_fits 1 = .ok (.tableswitch 272 0 11 #[63, 77, 77, 102, 128, 153, 178, 202, 63, 222, 153, 247], 63) := by decide +kernel
theorem dX1_fits_64 : decode cX1_fits 64 = .ok (.iload_n 1, 1) := dk_27 (dk_at dksX1_fits_2 0 rfl rfl)
theorem dX1_fits_65 : decode cX1_fits 65 = .ok (.ifCond .ne 11, 3) := dk_154 0 11 (dk_at dksX1_fits_2 1 rfl rfl)
theorem dX1_fits_68 : decode cX1_fits 68 = .ok (.iload_n 2, 1) := dk_28 (dk_at dksX1_fits_2 4 rfl rfl)
theorem dX1_fits_69 : decode cX1_fits 69 = .ok (.ifCond .ne 7, 3) := dk_154 0 7 (dk_at dksX1_fits_2 5 rfl rfl)
theorem dX1_fits_72 : decode cX1_fits 72 = .ok (.iconst 1, 1) := dk_4 (dk_at dksX1_fits_2 8 rfl rfl)
theorem dX1_fits_73 : decode cX1_fits 73 = .ok (.goto 4, 3) := dk_167 0 4 (dk_at dksX1_fits_2 9 rfl rfl)
theorem dX1_fits_76 : decode cX1_fits 76 = .ok (.iconst 0, 1) := dk_3 (dk_at dksX1_fits_2 12 rfl rfl)
theorem dX1_fits_77 : decode cX1_fits 77 = .ok (.ireturn, 1) := dk_172 (dk_at dksX1_fits_2 13 rfl rfl)
theorem dX1_fits_78 : decode cX1_fits 78 = .ok (.iload_n 1, 1) := dk_27 (dk_at dksX1_fits_2 14 rfl rfl)
theorem dX1_fits_79 : decode cX1_fits 79 = .ok (.iconst 0, 1) := dk_3 (dk_at dksX1_fits_2 15 rfl rfl)
theorem dX1_fits_80 : decode cX1_fits 80 = .ok (.bipush 7, 2) := dk_16 7 (dk_at dksX1_fits_2 16 rfl rfl)
theorem dX1_fits_82 : decode cX1_fits 82 = .ok (.invokestatic 69, 3) := dk_184 0 69 (dk_at dksX1_fits_2 18 rfl rfl)
theorem dX1_fits_85 : decode cX1_fits 85 = .ok (.ifCond .eq 16, 3) := dk_153 0 16 (dk_at dksX1_fits_2 21 rfl rfl)
theorem dX1_fits_88 : decode cX1_fits 88 = .ok (.iload_n 2, 1) := dk_28 (dk_at dksX1_fits_3 0 rfl rfl)
theorem dX1_fits_89 : decode cX1_fits 89 = .ok (.iconst 0, 1) := dk_3 (dk_at dksX1_fits_3 1 rfl rfl)
theorem dX1_fits_90 : decode cX1_fits 90 = .ok (.iconst 5, 1) := dk_8 (dk_at dksX1_fits_3 2 rfl rfl)
theorem dX1_fits_91 : decode cX1_fits 91 = .ok (.invokestatic 69, 3) := dk_184 0 69 (dk_at dksX1_fits_3 3 rfl rfl)
theorem dX1_fits_94 : decode cX1_fits 94 = .ok (.ifCond .eq 7, 3) := dk_153 0 7 (dk_at dksX1_fits_3 6 rfl rfl)
theorem dX1_fits_97 : decode cX1_fits 97 = .ok (.iconst 1, 1) := dk_4 (dk_at dksX1_fits_3 9 rfl rfl)
theorem dX1_fits_98 : decode cX1_fits 98 = .ok (.goto 4, 3) := dk_167 0 4 (dk_at dksX1_fits_3 10 rfl rfl)
theorem dX1_fits_101 : decode cX1_fits 101 = .ok (.iconst 0, 1) := dk_3 (dk_at dksX1_fits_3 13 rfl rfl)
theorem dX1_fits_102 : decode cX1_fits 102 = .ok (.ireturn, 1) := dk_172 (dk_at dksX1_fits_3 14 rfl rfl)
theorem dX1_fits_103 : decode cX1_fits 103 = .ok (.iload_n 1, 1) := dk_27 (dk_at dksX1_fits_3 15 rfl rfl)
theorem dX1_fits_104 : decode cX1_fits 104 = .ok (.iconst 0, 1) := dk_3 (dk_at dksX1_fits_3 16 rfl rfl)
theorem dX1_fits_105 : decode cX1_fits 105 = .ok (.bipush 7, 2) := dk_16 7 (dk_at dksX1_fits_3 17 rfl rfl)
theorem dX1_fits_107 : decode cX1_fits 107 = .ok (.invokestatic 69, 3) := dk_184 0 69 (dk_at dksX1_fits_3 19 rfl rfl)
theorem dX1_fits_110 : decode cX1_fits 110 = .ok (.ifCond .eq 17, 3) := dk_153 0 17 (dk_at dksX1_fits_4 0 rfl rfl)
theorem dX1_fits_113 : decode cX1_fits 113 = .ok (.iload_n 2, 1) := dk_28 (dk_at dksX1_fits_4 3 rfl rfl)
theorem dX1_fits_114 : decode cX1_fits 114 = .ok (.iconst 0, 1) := dk_3 (dk_at dksX1_fits_4 4 rfl rfl)
theorem dX1_fits_115 : decode cX1_fits 115 = .ok (.bipush 7, 2) := dk_16 7 (dk_at dksX1_fits_4 5 rfl rfl)
theorem dX1_fits_117 : decode cX1_fits 117 = .ok (.invokestatic 69, 3) := dk_184 0 69 (dk_at dksX1_fits_4 7 rfl rfl)
theorem dX1_fits_120 : decode cX1_fits 120 = .ok (.ifCond .eq 7, 3) := dk_153 0 7 (dk_at dksX1_fits_4 10 rfl rfl)
theorem dX1_fits_123 : decode cX1_fits 123 = .ok (.iconst 1, 1) := dk_4 (dk_at dksX1_fits_4 13 rfl rfl)
theorem dX1_fits_124 : decode cX1_fits 124 = .ok (.goto 4, 3) := dk_167 0 4 (dk_at dksX1_fits_4 14 rfl rfl)
theorem dX1_fits_127 : decode cX1_fits 127 = .ok (.iconst 0, 1) := dk_3 (dk_at dksX1_fits_4 17 rfl rfl)
theorem dX1_fits_128 : decode cX1_fits 128 = .ok (.ireturn, 1) := dk_172 (dk_at dksX1_fits_4 18 rfl rfl)
theorem dX1_fits_129 : decode cX1_fits 129 = .ok (.iload_n 1, 1) := dk_27 (dk_at dksX1_fits_4 19 rfl rfl)
theorem dX1_fits_130 : decode cX1_fits 130 = .ok (.iconst 0, 1) := dk_3 (dk_at dksX1_fits_4 20 rfl rfl)
theorem dX1_fits_131 : decode cX1_fits 131 = .ok (.iconst 5, 1) := dk_8 (dk_at dksX1_fits_4 21 rfl rfl)
theorem dX1_fits_132 : decode cX1_fits 132 = .ok (.invokestatic 69, 3) := dk_184 0 69 (dk_at dksX1_fits_5 0 rfl rfl)
theorem dX1_fits_135 : decode cX1_fits 135 = .ok (.ifCond .eq 17, 3) := dk_153 0 17 (dk_at dksX1_fits_5 3 rfl rfl)
theorem dX1_fits_138 : decode cX1_fits 138 = .ok (.iload_n 2, 1) := dk_28 (dk_at dksX1_fits_5 6 rfl rfl)
theorem dX1_fits_139 : decode cX1_fits 139 = .ok (.iconst 1, 1) := dk_4 (dk_at dksX1_fits_5 7 rfl rfl)
theorem dX1_fits_140 : decode cX1_fits 140 = .ok (.bipush 100, 2) := dk_16 100 (dk_at dksX1_fits_5 8 rfl rfl)
theorem dX1_fits_142 : decode cX1_fits 142 = .ok (.invokestatic 69, 3) := dk_184 0 69 (dk_at dksX1_fits_5 10 rfl rfl)
theorem dX1_fits_145 : decode cX1_fits 145 = .ok (.ifCond .eq 7, 3) := dk_153 0 7 (dk_at dksX1_fits_5 13 rfl rfl)
theorem dX1_fits_148 : decode cX1_fits 148 = .ok (.iconst 1, 1) := dk_4 (dk_at dksX1_fits_5 16 rfl rfl)
theorem dX1_fits_149 : decode cX1_fits 149 = .ok (.goto 4, 3) := dk_167 0 4 (dk_at dksX1_fits_5 17 rfl rfl)
theorem dX1_fits_152 : decode cX1_fits 152 = .ok (.iconst 0, 1) := dk_3 (dk_at dksX1_fits_5 20 rfl rfl)
theorem dX1_fits_153 : decode cX1_fits 153 = .ok (.ireturn, 1) := dk_172 (dk_at dksX1_fits_5 21 rfl rfl)
theorem dX1_fits_154 : decode cX1_fits 154 = .ok (.iload_n 1, 1) := dk_27 (dk_at dksX1_fits_5 22 rfl rfl)
theorem dX1_fits_155 : decode cX1_fits 155 = .ok (.iconst 0, 1) := dk_3 (dk_at dksX1_fits_5 23 rfl rfl)
theorem dX1_fits_156 : decode cX1_fits 156 = .ok (.bipush 7, 2) := dk_16 7 (dk_at dksX1_fits_6 0 rfl rfl)
theorem dX1_fits_158 : decode cX1_fits 158 = .ok (.invokestatic 69, 3) := dk_184 0 69 (dk_at dksX1_fits_6 2 rfl rfl)
theorem dX1_fits_161 : decode cX1_fits 161 = .ok (.ifCond .eq 16, 3) := dk_153 0 16 (dk_at dksX1_fits_6 5 rfl rfl)
theorem dX1_fits_164 : decode cX1_fits 164 = .ok (.iload_n 2, 1) := dk_28 (dk_at dksX1_fits_6 8 rfl rfl)
theorem dX1_fits_165 : decode cX1_fits 165 = .ok (.iconst 0, 1) := dk_3 (dk_at dksX1_fits_6 9 rfl rfl)
theorem dX1_fits_166 : decode cX1_fits 166 = .ok (.iconst 1, 1) := dk_4 (dk_at dksX1_fits_6 10 rfl rfl)
theorem dX1_fits_167 : decode cX1_fits 167 = .ok (.invokestatic 69, 3) := dk_184 0 69 (dk_at dksX1_fits_6 11 rfl rfl)
theorem dX1_fits_170 : decode cX1_fits 170 = .ok (.ifCond .eq 7, 3) := dk_153 0 7 (dk_at dksX1_fits_6 14 rfl rfl)
theorem dX1_fits_173 : decode cX1_fits 173 = .ok (.iconst 1, 1) := dk_4 (dk_at dksX1_fits_6 17 rfl rfl)
theorem dX1_fits_174 : decode cX1_fits 174 = .ok (.goto 4, 3) := dk_167 0 4 (dk_at dksX1_fits_6 18 rfl rfl)
theorem dX1_fits_177 : decode cX1_fits 177 = .ok (.iconst 0, 1) := dk_3 (dk_at dksX1_fits_6 21 rfl rfl)
theorem dX1_fits_178 : decode cX1_fits 178 = .ok (.ireturn, 1) := dk_172 (dk_at dksX1_fits_6 22 rfl rfl)
theorem dX1_fits_179 : decode cX1_fits 179 = .ok (.iload_n 1, 1) := dk_27 (dk_at dksX1_fits_6 23 rfl rfl)
theorem dX1_fits_180 : decode cX1_fits 180 = .ok (.iconst 0, 1) := dk_3 (dk_at dksX1_fits_7 0 rfl rfl)
theorem dX1_fits_181 : decode cX1_fits 181 = .ok (.iconst 3, 1) := dk_6 (dk_at dksX1_fits_7 1 rfl rfl)
theorem dX1_fits_182 : decode cX1_fits 182 = .ok (.invokestatic 69, 3) := dk_184 0 69 (dk_at dksX1_fits_7 2 rfl rfl)
theorem dX1_fits_185 : decode cX1_fits 185 = .ok (.ifCond .eq 16, 3) := dk_153 0 16 (dk_at dksX1_fits_7 5 rfl rfl)
theorem dX1_fits_188 : decode cX1_fits 188 = .ok (.iload_n 2, 1) := dk_28 (dk_at dksX1_fits_7 8 rfl rfl)
theorem dX1_fits_189 : decode cX1_fits 189 = .ok (.iconst 0, 1) := dk_3 (dk_at dksX1_fits_7 9 rfl rfl)
theorem dX1_fits_190 : decode cX1_fits 190 = .ok (.iconst 3, 1) := dk_6 (dk_at dksX1_fits_7 10 rfl rfl)
theorem dX1_fits_191 : decode cX1_fits 191 = .ok (.invokestatic 69, 3) := dk_184 0 69 (dk_at dksX1_fits_7 11 rfl rfl)
theorem dX1_fits_194 : decode cX1_fits 194 = .ok (.ifCond .eq 7, 3) := dk_153 0 7 (dk_at dksX1_fits_7 14 rfl rfl)
theorem dX1_fits_197 : decode cX1_fits 197 = .ok (.iconst 1, 1) := dk_4 (dk_at dksX1_fits_7 17 rfl rfl)
theorem dX1_fits_198 : decode cX1_fits 198 = .ok (.goto 4, 3) := dk_167 0 4 (dk_at dksX1_fits_7 18 rfl rfl)
theorem dX1_fits_201 : decode cX1_fits 201 = .ok (.iconst 0, 1) := dk_3 (dk_at dksX1_fits_7 21 rfl rfl)
theorem dX1_fits_202 : decode cX1_fits 202 = .ok (.ireturn, 1) := dk_172 (dk_at dksX1_fits_7 22 rfl rfl)
theorem dX1_fits_203 : decode cX1_fits 203 = .ok (.iload_n 1, 1) := dk_27 (dk_at dksX1_fits_7 23 rfl rfl)
theorem dX1_fits_204 : decode cX1_fits 204 = .ok (.iconst 0, 1) := dk_3 (dk_at dksX1_fits_8 0 rfl rfl)
theorem dX1_fits_205 : decode cX1_fits 205 = .ok (.bipush 7, 2) := dk_16 7 (dk_at dksX1_fits_8 1 rfl rfl)
theorem dX1_fits_207 : decode cX1_fits 207 = .ok (.invokestatic 69, 3) := dk_184 0 69 (dk_at dksX1_fits_8 3 rfl rfl)
theorem dX1_fits_210 : decode cX1_fits 210 = .ok (.ifCond .eq 11, 3) := dk_153 0 11 (dk_at dksX1_fits_8 6 rfl rfl)
theorem dX1_fits_213 : decode cX1_fits 213 = .ok (.iload_n 2, 1) := dk_28 (dk_at dksX1_fits_8 9 rfl rfl)
theorem dX1_fits_214 : decode cX1_fits 214 = .ok (.ifCond .ne 7, 3) := dk_154 0 7 (dk_at dksX1_fits_8 10 rfl rfl)
theorem dX1_fits_217 : decode cX1_fits 217 = .ok (.iconst 1, 1) := dk_4 (dk_at dksX1_fits_8 13 rfl rfl)
theorem dX1_fits_218 : decode cX1_fits 218 = .ok (.goto 4, 3) := dk_167 0 4 (dk_at dksX1_fits_8 14 rfl rfl)
theorem dX1_fits_221 : decode cX1_fits 221 = .ok (.iconst 0, 1) := dk_3 (dk_at dksX1_fits_8 17 rfl rfl)
theorem dX1_fits_222 : decode cX1_fits 222 = .ok (.ireturn, 1) := dk_172 (dk_at dksX1_fits_8 18 rfl rfl)
theorem dX1_fits_223 : decode cX1_fits 223 = .ok (.iload_n 1, 1) := dk_27 (dk_at dksX1_fits_8 19 rfl rfl)
theorem dX1_fits_224 : decode cX1_fits 224 = .ok (.iconst 0, 1) := dk_3 (dk_at dksX1_fits_8 20 rfl rfl)
theorem dX1_fits_225 : decode cX1_fits 225 = .ok (.iconst 1, 1) := dk_4 (dk_at dksX1_fits_8 21 rfl rfl)
theorem dX1_fits_226 : decode cX1_fits 226 = .ok (.invokestatic 69, 3) := dk_184 0 69 (dk_at dksX1_fits_9 0 rfl rfl)
theorem dX1_fits_229 : decode cX1_fits 229 = .ok (.ifCond .eq 17, 3) := dk_153 0 17 (dk_at dksX1_fits_9 3 rfl rfl)
theorem dX1_fits_232 : decode cX1_fits 232 = .ok (.iload_n 2, 1) := dk_28 (dk_at dksX1_fits_9 6 rfl rfl)
theorem dX1_fits_233 : decode cX1_fits 233 = .ok (.iconst 0, 1) := dk_3 (dk_at dksX1_fits_9 7 rfl rfl)
theorem dX1_fits_234 : decode cX1_fits 234 = .ok (.ldc 73, 2) := dk_18 73 (dk_at dksX1_fits_9 8 rfl rfl)
theorem dX1_fits_236 : decode cX1_fits 236 = .ok (.invokestatic 69, 3) := dk_184 0 69 (dk_at dksX1_fits_9 10 rfl rfl)
theorem dX1_fits_239 : decode cX1_fits 239 = .ok (.ifCond .eq 7, 3) := dk_153 0 7 (dk_at dksX1_fits_9 13 rfl rfl)
theorem dX1_fits_242 : decode cX1_fits 242 = .ok (.iconst 1, 1) := dk_4 (dk_at dksX1_fits_9 16 rfl rfl)
theorem dX1_fits_243 : decode cX1_fits 243 = .ok (.goto 4, 3) := dk_167 0 4 (dk_at dksX1_fits_9 17 rfl rfl)
theorem dX1_fits_246 : decode cX1_fits 246 = .ok (.iconst 0, 1) := dk_3 (dk_at dksX1_fits_9 20 rfl rfl)
theorem dX1_fits_247 : decode cX1_fits 247 = .ok (.ireturn, 1) := dk_172 (dk_at dksX1_fits_9 21 rfl rfl)
theorem dX1_fits_248 : decode cX1_fits 248 = .ok (.iload_n 1, 1) := dk_27 (dk_at dksX1_fits_9 22 rfl rfl)
theorem dX1_fits_249 : decode cX1_fits 249 = .ok (.iconst 0, 1) := dk_3 (dk_at dksX1_fits_9 23 rfl rfl)
theorem dX1_fits_250 : decode cX1_fits 250 = .ok (.bipush 7, 2) := dk_16 7 (dk_at dksX1_fits_10 0 rfl rfl)
theorem dX1_fits_252 : decode cX1_fits 252 = .ok (.invokestatic 69, 3) := dk_184 0 69 (dk_at dksX1_fits_10 2 rfl rfl)
theorem dX1_fits_255 : decode cX1_fits 255 = .ok (.ifCond .eq 16, 3) := dk_153 0 16 (dk_at dksX1_fits_10 5 rfl rfl)
theorem dX1_fits_258 : decode cX1_fits 258 = .ok (.iload_n 2, 1) := dk_28 (dk_at dksX1_fits_10 8 rfl rfl)
theorem dX1_fits_259 : decode cX1_fits 259 = .ok (.iconst 0, 1) := dk_3 (dk_at dksX1_fits_10 9 rfl rfl)
theorem dX1_fits_260 : decode cX1_fits 260 = .ok (.iconst 5, 1) := dk_8 (dk_at dksX1_fits_10 10 rfl rfl)
theorem dX1_fits_261 : decode cX1_fits 261 = .ok (.invokestatic 69, 3) := dk_184 0 69 (dk_at dksX1_fits_10 11 rfl rfl)
theorem dX1_fits_264 : decode cX1_fits 264 = .ok (.ifCond .eq 7, 3) := dk_153 0 7 (dk_at dksX1_fits_10 14 rfl rfl)
theorem dX1_fits_267 : decode cX1_fits 267 = .ok (.iconst 1, 1) := dk_4 (dk_at dksX1_fits_10 17 rfl rfl)
theorem dX1_fits_268 : decode cX1_fits 268 = .ok (.goto 4, 3) := dk_167 0 4 (dk_at dksX1_fits_10 18 rfl rfl)
theorem dX1_fits_271 : decode cX1_fits 271 = .ok (.iconst 0, 1) := dk_3 (dk_at dksX1_fits_10 21 rfl rfl)
theorem dX1_fits_272 : decode cX1_fits 272 = .ok (.ireturn, 1) := dk_172 (dk_at dksX1_fits_10 22 rfl rfl)
theorem dX1_fits_273 : decode cX1_fits 273 = .ok (.iload_n 1, 1) := dk_27 (dk_at dksX1_fits_10 23 rfl rfl)
theorem dX1_fits_274 : decode cX1_fits 274 = .ok (.iconst 0, 1) := dk_3 (dk_at dksX1_fits_11 0 rfl rfl)
theorem dX1_fits_275 : decode cX1_fits 275 = .ok (.bipush 7, 2) := dk_16 7 (dk_at dksX1_fits_11 1 rfl rfl)
theorem dX1_fits_277 : decode cX1_fits 277 = .ok (.invokestatic 69, 3) := dk_184 0 69 (dk_at dksX1_fits_11 3 rfl rfl)
theorem dX1_fits_280 : decode cX1_fits 280 = .ok (.ifCond .eq 17, 3) := dk_153 0 17 (dk_at dksX1_fits_11 6 rfl rfl)
theorem dX1_fits_283 : decode cX1_fits 283 = .ok (.iload_n 2, 1) := dk_28 (dk_at dksX1_fits_11 9 rfl rfl)
theorem dX1_fits_284 : decode cX1_fits 284 = .ok (.iconst 1, 1) := dk_4 (dk_at dksX1_fits_11 10 rfl rfl)
theorem dX1_fits_285 : decode cX1_fits 285 = .ok (.bipush 30, 2) := dk_16 30 (dk_at dksX1_fits_11 11 rfl rfl)
theorem dX1_fits_287 : decode cX1_fits 287 = .ok (.invokestatic 69, 3) := dk_184 0 69 (dk_at dksX1_fits_11 13 rfl rfl)
theorem dX1_fits_290 : decode cX1_fits 290 = .ok (.ifCond .eq 7, 3) := dk_153 0 7 (dk_at dksX1_fits_11 16 rfl rfl)
theorem dX1_fits_293 : decode cX1_fits 293 = .ok (.iconst 1, 1) := dk_4 (dk_at dksX1_fits_11 19 rfl rfl)
theorem dX1_fits_294 : decode cX1_fits 294 = .ok (.goto 4, 3) := dk_167 0 4 (dk_at dksX1_fits_11 20 rfl rfl)
theorem dX1_fits_297 : decode cX1_fits 297 = .ok (.iconst 0, 1) := dk_3 (dk_at dksX1_fits_11 23 rfl rfl)
theorem dX1_fits_298 : decode cX1_fits 298 = .ok (.ireturn, 1) := dk_172 (dk_at dksX1_fits_12 0 rfl rfl)
abbrev cX1_within : ByteArray := prog_1_method_7_code
def yX1_within : MethodName := ⟨RX1, "within", "(III)Z"⟩
def dkwX1_within_0 : List UInt8 := [26, 27, 161, 0, 12, 26, 28, 163, 0, 7, 4, 167, 0, 4, 3, 172]
abbrev dktX1_within_0 : List UInt8 := dkwX1_within_0 ++ []
theorem dksX1_within_0 : cX1_within.data.toList.drop 0 = dktX1_within_0 := by decide +kernel
theorem dX1_within_0 : decode cX1_within 0 = .ok (.iload_n 0, 1) := dk_26 (dk_at dksX1_within_0 0 rfl rfl)
theorem dX1_within_1 : decode cX1_within 1 = .ok (.iload_n 1, 1) := dk_27 (dk_at dksX1_within_0 1 rfl rfl)
theorem dX1_within_2 : decode cX1_within 2 = .ok (.if_icmp .lt 12, 3) := dk_161 0 12 (dk_at dksX1_within_0 2 rfl rfl)
theorem dX1_within_5 : decode cX1_within 5 = .ok (.iload_n 0, 1) := dk_26 (dk_at dksX1_within_0 5 rfl rfl)
theorem dX1_within_6 : decode cX1_within 6 = .ok (.iload_n 2, 1) := dk_28 (dk_at dksX1_within_0 6 rfl rfl)
theorem dX1_within_7 : decode cX1_within 7 = .ok (.if_icmp .gt 7, 3) := dk_163 0 7 (dk_at dksX1_within_0 7 rfl rfl)
theorem dX1_within_10 : decode cX1_within 10 = .ok (.iconst 1, 1) := dk_4 (dk_at dksX1_within_0 10 rfl rfl)
theorem dX1_within_11 : decode cX1_within 11 = .ok (.goto 4, 3) := dk_167 0 4 (dk_at dksX1_within_0 11 rfl rfl)
theorem dX1_within_14 : decode cX1_within 14 = .ok (.iconst 0, 1) := dk_3 (dk_at dksX1_within_0 14 rfl rfl)
theorem dX1_within_15 : decode cX1_within 15 = .ok (.ireturn, 1) := dk_172 (dk_at dksX1_within_0 15 rfl rfl)
abbrev cX1_made : ByteArray := prog_1_method_6_code
def yX1_made : MethodName := ⟨RX1, "made", "(IIII)LPennyJudge$Act;"⟩
def dkwX1_made_8 : List UInt8 := [187, 0, 66, 89, 26, 27, 28, 29, 183, 0, 68, 176]
abbrev dktX1_made_8 : List UInt8 := dkwX1_made_8 ++ []
def dkwX1_made_7 : List UInt8 := [187, 0, 60, 89, 26, 27, 28, 29, 183, 0, 62, 176, 187, 0, 63, 89, 26, 27, 28, 29, 183, 0, 65, 176]
abbrev dktX1_made_7 : List UInt8 := dkwX1_made_7 ++ dktX1_made_8
def dkwX1_made_6 : List UInt8 := [187, 0, 54, 89, 26, 27, 28, 29, 183, 0, 56, 176, 187, 0, 57, 89, 26, 27, 28, 29, 183, 0, 59, 176]
abbrev dktX1_made_6 : List UInt8 := dkwX1_made_6 ++ dktX1_made_7
def dkwX1_made_5 : List UInt8 := [187, 0, 48, 89, 26, 27, 28, 29, 183, 0, 50, 176, 187, 0, 51, 89, 26, 27, 28, 29, 183, 0, 53, 176]
abbrev dktX1_made_5 : List UInt8 := dkwX1_made_5 ++ dktX1_made_6
def dkwX1_made_4 : List UInt8 := [187, 0, 42, 89, 26, 27, 28, 29, 183, 0, 44, 176, 187, 0, 45, 89, 26, 27, 28, 29, 183, 0, 47, 176]
abbrev dktX1_made_4 : List UInt8 := dkwX1_made_4 ++ dktX1_made_5
def dkwX1_made_3 : List UInt8 := [187, 0, 36, 89, 26, 27, 28, 29, 183, 0, 38, 176, 187, 0, 39, 89, 26, 27, 28, 29, 183, 0, 41, 176]
abbrev dktX1_made_3 : List UInt8 := dkwX1_made_3 ++ dktX1_made_4
def dkwX1_made_2 : List UInt8 := [187, 0, 27, 89, 26, 27, 28, 29, 183, 0, 29, 176, 187, 0, 33, 89, 26, 27, 28, 29, 183, 0, 35, 176]
abbrev dktX1_made_2 : List UInt8 := dkwX1_made_2 ++ dktX1_made_3
def dkwX1_made_1 : List UInt8 := [170, 0, 0, 0, 0, 0, 207, 0, 0, 0, 0, 0, 0, 0, 11, 0, 0, 0, 63, 0, 0, 0, 75, 0, 0, 0, 87, 0, 0, 0, 99, 0, 0, 0, 111, 0, 0, 0, 123, 0, 0, 0, 135, 0, 0, 0, 147, 0, 0, 0, 159, 0, 0, 0, 171, 0, 0, 0, 183, 0, 0, 0, 195]
abbrev dktX1_made_1 : List UInt8 := dkwX1_made_1 ++ dktX1_made_2
def dkwX1_made_0 : List UInt8 := [26]
abbrev dktX1_made_0 : List UInt8 := dkwX1_made_0 ++ dktX1_made_1
theorem dksX1_made_0 : cX1_made.data.toList.drop 0 = dktX1_made_0 := by decide +kernel
theorem dksX1_made_1 : cX1_made.data.toList.drop 1 = dktX1_made_1 := dk_seg dksX1_made_0 1 rfl rfl
theorem dksX1_made_2 : cX1_made.data.toList.drop 64 = dktX1_made_2 := dk_seg dksX1_made_1 63 rfl rfl
theorem dksX1_made_3 : cX1_made.data.toList.drop 88 = dktX1_made_3 := dk_seg dksX1_made_2 24 rfl rfl
theorem dksX1_made_4 : cX1_made.data.toList.drop 112 = dktX1_made_4 := dk_seg dksX1_made_3 24 rfl rfl
theorem dksX1_made_5 : cX1_made.data.toList.drop 136 = dktX1_made_5 := dk_seg dksX1_made_4 24 rfl rfl
theorem dksX1_made_6 : cX1_made.data.toList.drop 160 = dktX1_made_6 := dk_seg dksX1_made_5 24 rfl rfl
theorem dksX1_made_7 : cX1_made.data.toList.drop 184 = dktX1_made_7 := dk_seg dksX1_made_6 24 rfl rfl
theorem dksX1_made_8 : cX1_made.data.toList.drop 208 = dktX1_made_8 := dk_seg dksX1_made_7 24 rfl rfl
theorem dX1_made_0 : decode cX1_made 0 = .ok (.iload_n 0, 1) := dk_26 (dk_at dksX1_made_0 0 rfl rfl)
theorem dX1_made_1 : decode cX1_made 1 = .ok (.tableswitch 207 0 11 #[63, 75, 87, 99, 111, 123, 135, 147, 159, 171, 183, 195], 63) := by decide +kernel
theorem dX1_made_64 : decode cX1_made 64 = .ok (.new 27, 3) := dk_187 0 27 (dk_at dksX1_made_2 0 rfl rfl)
theorem dX1_made_67 : decode cX1_made 67 = .ok (.dup, 1) := dk_89 (dk_at dksX1_made_2 3 rfl rfl)
theorem dX1_made_68 : decode cX1_made 68 = .ok (.iload_n 0, 1) := dk_26 (dk_at dksX1_made_2 4 rfl rfl)
theorem dX1_made_69 : decode cX1_made 69 = .ok (.iload_n 1, 1) := dk_27 (dk_at dksX1_made_2 5 rfl rfl)
theorem dX1_made_70 : decode cX1_made 70 = .ok (.iload_n 2, 1) := dk_28 (dk_at dksX1_made_2 6 rfl rfl)
theorem dX1_made_71 : decode cX1_made 71 = .ok (.iload_n 3, 1) := dk_29 (dk_at dksX1_made_2 7 rfl rfl)
theorem dX1_made_72 : decode cX1_made 72 = .ok (.invokespecial 29, 3) := dk_183 0 29 (dk_at dksX1_made_2 8 rfl rfl)
theorem dX1_made_75 : decode cX1_made 75 = .ok (.areturn, 1) := dk_176 (dk_at dksX1_made_2 11 rfl rfl)
theorem dX1_made_76 : decode cX1_made 76 = .ok (.new 33, 3) := dk_187 0 33 (dk_at dksX1_made_2 12 rfl rfl)
theorem dX1_made_79 : decode cX1_made 79 = .ok (.dup, 1) := dk_89 (dk_at dksX1_made_2 15 rfl rfl)
theorem dX1_made_80 : decode cX1_made 80 = .ok (.iload_n 0, 1) := dk_26 (dk_at dksX1_made_2 16 rfl rfl)
theorem dX1_made_81 : decode cX1_made 81 = .ok (.iload_n 1, 1) := dk_27 (dk_at dksX1_made_2 17 rfl rfl)
theorem dX1_made_82 : decode cX1_made 82 = .ok (.iload_n 2, 1) := dk_28 (dk_at dksX1_made_2 18 rfl rfl)
theorem dX1_made_83 : decode cX1_made 83 = .ok (.iload_n 3, 1) := dk_29 (dk_at dksX1_made_2 19 rfl rfl)
theorem dX1_made_84 : decode cX1_made 84 = .ok (.invokespecial 35, 3) := dk_183 0 35 (dk_at dksX1_made_2 20 rfl rfl)
theorem dX1_made_87 : decode cX1_made 87 = .ok (.areturn, 1) := dk_176 (dk_at dksX1_made_2 23 rfl rfl)
theorem dX1_made_88 : decode cX1_made 88 = .ok (.new 36, 3) := dk_187 0 36 (dk_at dksX1_made_3 0 rfl rfl)
theorem dX1_made_91 : decode cX1_made 91 = .ok (.dup, 1) := dk_89 (dk_at dksX1_made_3 3 rfl rfl)
theorem dX1_made_92 : decode cX1_made 92 = .ok (.iload_n 0, 1) := dk_26 (dk_at dksX1_made_3 4 rfl rfl)
theorem dX1_made_93 : decode cX1_made 93 = .ok (.iload_n 1, 1) := dk_27 (dk_at dksX1_made_3 5 rfl rfl)
theorem dX1_made_94 : decode cX1_made 94 = .ok (.iload_n 2, 1) := dk_28 (dk_at dksX1_made_3 6 rfl rfl)
theorem dX1_made_95 : decode cX1_made 95 = .ok (.iload_n 3, 1) := dk_29 (dk_at dksX1_made_3 7 rfl rfl)
theorem dX1_made_96 : decode cX1_made 96 = .ok (.invokespecial 38, 3) := dk_183 0 38 (dk_at dksX1_made_3 8 rfl rfl)
theorem dX1_made_99 : decode cX1_made 99 = .ok (.areturn, 1) := dk_176 (dk_at dksX1_made_3 11 rfl rfl)
theorem dX1_made_100 : decode cX1_made 100 = .ok (.new 39, 3) := dk_187 0 39 (dk_at dksX1_made_3 12 rfl rfl)
theorem dX1_made_103 : decode cX1_made 103 = .ok (.dup, 1) := dk_89 (dk_at dksX1_made_3 15 rfl rfl)
theorem dX1_made_104 : decode cX1_made 104 = .ok (.iload_n 0, 1) := dk_26 (dk_at dksX1_made_3 16 rfl rfl)
theorem dX1_made_105 : decode cX1_made 105 = .ok (.iload_n 1, 1) := dk_27 (dk_at dksX1_made_3 17 rfl rfl)
theorem dX1_made_106 : decode cX1_made 106 = .ok (.iload_n 2, 1) := dk_28 (dk_at dksX1_made_3 18 rfl rfl)
theorem dX1_made_107 : decode cX1_made 107 = .ok (.iload_n 3, 1) := dk_29 (dk_at dksX1_made_3 19 rfl rfl)
theorem dX1_made_108 : decode cX1_made 108 = .ok (.invokespecial 41, 3) := dk_183 0 41 (dk_at dksX1_made_3 20 rfl rfl)
theorem dX1_made_111 : decode cX1_made 111 = .ok (.areturn, 1) := dk_176 (dk_at dksX1_made_3 23 rfl rfl)
theorem dX1_made_112 : decode cX1_made 112 = .ok (.new 42, 3) := dk_187 0 42 (dk_at dksX1_made_4 0 rfl rfl)
theorem dX1_made_115 : decode cX1_made 115 = .ok (.dup, 1) := dk_89 (dk_at dksX1_made_4 3 rfl rfl)
theorem dX1_made_116 : decode cX1_made 116 = .ok (.iload_n 0, 1) := dk_26 (dk_at dksX1_made_4 4 rfl rfl)
theorem dX1_made_117 : decode cX1_made 117 = .ok (.iload_n 1, 1) := dk_27 (dk_at dksX1_made_4 5 rfl rfl)
theorem dX1_made_118 : decode cX1_made 118 = .ok (.iload_n 2, 1) := dk_28 (dk_at dksX1_made_4 6 rfl rfl)
theorem dX1_made_119 : decode cX1_made 119 = .ok (.iload_n 3, 1) := dk_29 (dk_at dksX1_made_4 7 rfl rfl)
theorem dX1_made_120 : decode cX1_made 120 = .ok (.invokespecial 44, 3) := dk_183 0 44 (dk_at dksX1_made_4 8 rfl rfl)
theorem dX1_made_123 : decode cX1_made 123 = .ok (.areturn, 1) := dk_176 (dk_at dksX1_made_4 11 rfl rfl)
theorem dX1_made_124 : decode cX1_made 124 = .ok (.new 45, 3) := dk_187 0 45 (dk_at dksX1_made_4 12 rfl rfl)
theorem dX1_made_127 : decode cX1_made 127 = .ok (.dup, 1) := dk_89 (dk_at dksX1_made_4 15 rfl rfl)
theorem dX1_made_128 : decode cX1_made 128 = .ok (.iload_n 0, 1) := dk_26 (dk_at dksX1_made_4 16 rfl rfl)
theorem dX1_made_129 : decode cX1_made 129 = .ok (.iload_n 1, 1) := dk_27 (dk_at dksX1_made_4 17 rfl rfl)
theorem dX1_made_130 : decode cX1_made 130 = .ok (.iload_n 2, 1) := dk_28 (dk_at dksX1_made_4 18 rfl rfl)
theorem dX1_made_131 : decode cX1_made 131 = .ok (.iload_n 3, 1) := dk_29 (dk_at dksX1_made_4 19 rfl rfl)
theorem dX1_made_132 : decode cX1_made 132 = .ok (.invokespecial 47, 3) := dk_183 0 47 (dk_at dksX1_made_4 20 rfl rfl)
theorem dX1_made_135 : decode cX1_made 135 = .ok (.areturn, 1) := dk_176 (dk_at dksX1_made_4 23 rfl rfl)
theorem dX1_made_136 : decode cX1_made 136 = .ok (.new 48, 3) := dk_187 0 48 (dk_at dksX1_made_5 0 rfl rfl)
theorem dX1_made_139 : decode cX1_made 139 = .ok (.dup, 1) := dk_89 (dk_at dksX1_made_5 3 rfl rfl)
theorem dX1_made_140 : decode cX1_made 140 = .ok (.iload_n 0, 1) := dk_26 (dk_at dksX1_made_5 4 rfl rfl)
theorem dX1_made_141 : decode cX1_made 141 = .ok (.iload_n 1, 1) := dk_27 (dk_at dksX1_made_5 5 rfl rfl)
theorem dX1_made_142 : decode cX1_made 142 = .ok (.iload_n 2, 1) := dk_28 (dk_at dksX1_made_5 6 rfl rfl)
theorem dX1_made_143 : decode cX1_made 143 = .ok (.iload_n 3, 1) := dk_29 (dk_at dksX1_made_5 7 rfl rfl)
theorem dX1_made_144 : decode cX1_made 144 = .ok (.invokespecial 50, 3) := dk_183 0 50 (dk_at dksX1_made_5 8 rfl rfl)
theorem dX1_made_147 : decode cX1_made 147 = .ok (.areturn, 1) := dk_176 (dk_at dksX1_made_5 11 rfl rfl)
theorem dX1_made_148 : decode cX1_made 148 = .ok (.new 51, 3) := dk_187 0 51 (dk_at dksX1_made_5 12 rfl rfl)
theorem dX1_made_151 : decode cX1_made 151 = .ok (.dup, 1) := dk_89 (dk_at dksX1_made_5 15 rfl rfl)
theorem dX1_made_152 : decode cX1_made 152 = .ok (.iload_n 0, 1) := dk_26 (dk_at dksX1_made_5 16 rfl rfl)
theorem dX1_made_153 : decode cX1_made 153 = .ok (.iload_n 1, 1) := dk_27 (dk_at dksX1_made_5 17 rfl rfl)
theorem dX1_made_154 : decode cX1_made 154 = .ok (.iload_n 2, 1) := dk_28 (dk_at dksX1_made_5 18 rfl rfl)
theorem dX1_made_155 : decode cX1_made 155 = .ok (.iload_n 3, 1) := dk_29 (dk_at dksX1_made_5 19 rfl rfl)
theorem dX1_made_156 : decode cX1_made 156 = .ok (.invokespecial 53, 3) := dk_183 0 53 (dk_at dksX1_made_5 20 rfl rfl)
theorem dX1_made_159 : decode cX1_made 159 = .ok (.areturn, 1) := dk_176 (dk_at dksX1_made_5 23 rfl rfl)
theorem dX1_made_160 : decode cX1_made 160 = .ok (.new 54, 3) := dk_187 0 54 (dk_at dksX1_made_6 0 rfl rfl)
theorem dX1_made_163 : decode cX1_made 163 = .ok (.dup, 1) := dk_89 (dk_at dksX1_made_6 3 rfl rfl)
theorem dX1_made_164 : decode cX1_made 164 = .ok (.iload_n 0, 1) := dk_26 (dk_at dksX1_made_6 4 rfl rfl)
theorem dX1_made_165 : decode cX1_made 165 = .ok (.iload_n 1, 1) := dk_27 (dk_at dksX1_made_6 5 rfl rfl)
theorem dX1_made_166 : decode cX1_made 166 = .ok (.iload_n 2, 1) := dk_28 (dk_at dksX1_made_6 6 rfl rfl)
theorem dX1_made_167 : decode cX1_made 167 = .ok (.iload_n 3, 1) := dk_29 (dk_at dksX1_made_6 7 rfl rfl)
theorem dX1_made_168 : decode cX1_made 168 = .ok (.invokespecial 56, 3) := dk_183 0 56 (dk_at dksX1_made_6 8 rfl rfl)
theorem dX1_made_171 : decode cX1_made 171 = .ok (.areturn, 1) := dk_176 (dk_at dksX1_made_6 11 rfl rfl)
theorem dX1_made_172 : decode cX1_made 172 = .ok (.new 57, 3) := dk_187 0 57 (dk_at dksX1_made_6 12 rfl rfl)
theorem dX1_made_175 : decode cX1_made 175 = .ok (.dup, 1) := dk_89 (dk_at dksX1_made_6 15 rfl rfl)
theorem dX1_made_176 : decode cX1_made 176 = .ok (.iload_n 0, 1) := dk_26 (dk_at dksX1_made_6 16 rfl rfl)
theorem dX1_made_177 : decode cX1_made 177 = .ok (.iload_n 1, 1) := dk_27 (dk_at dksX1_made_6 17 rfl rfl)
theorem dX1_made_178 : decode cX1_made 178 = .ok (.iload_n 2, 1) := dk_28 (dk_at dksX1_made_6 18 rfl rfl)
theorem dX1_made_179 : decode cX1_made 179 = .ok (.iload_n 3, 1) := dk_29 (dk_at dksX1_made_6 19 rfl rfl)
theorem dX1_made_180 : decode cX1_made 180 = .ok (.invokespecial 59, 3) := dk_183 0 59 (dk_at dksX1_made_6 20 rfl rfl)
theorem dX1_made_183 : decode cX1_made 183 = .ok (.areturn, 1) := dk_176 (dk_at dksX1_made_6 23 rfl rfl)
theorem dX1_made_184 : decode cX1_made 184 = .ok (.new 60, 3) := dk_187 0 60 (dk_at dksX1_made_7 0 rfl rfl)
theorem dX1_made_187 : decode cX1_made 187 = .ok (.dup, 1) := dk_89 (dk_at dksX1_made_7 3 rfl rfl)
theorem dX1_made_188 : decode cX1_made 188 = .ok (.iload_n 0, 1) := dk_26 (dk_at dksX1_made_7 4 rfl rfl)
theorem dX1_made_189 : decode cX1_made 189 = .ok (.iload_n 1, 1) := dk_27 (dk_at dksX1_made_7 5 rfl rfl)
theorem dX1_made_190 : decode cX1_made 190 = .ok (.iload_n 2, 1) := dk_28 (dk_at dksX1_made_7 6 rfl rfl)
theorem dX1_made_191 : decode cX1_made 191 = .ok (.iload_n 3, 1) := dk_29 (dk_at dksX1_made_7 7 rfl rfl)
theorem dX1_made_192 : decode cX1_made 192 = .ok (.invokespecial 62, 3) := dk_183 0 62 (dk_at dksX1_made_7 8 rfl rfl)
theorem dX1_made_195 : decode cX1_made 195 = .ok (.areturn, 1) := dk_176 (dk_at dksX1_made_7 11 rfl rfl)
theorem dX1_made_196 : decode cX1_made 196 = .ok (.new 63, 3) := dk_187 0 63 (dk_at dksX1_made_7 12 rfl rfl)
theorem dX1_made_199 : decode cX1_made 199 = .ok (.dup, 1) := dk_89 (dk_at dksX1_made_7 15 rfl rfl)
theorem dX1_made_200 : decode cX1_made 200 = .ok (.iload_n 0, 1) := dk_26 (dk_at dksX1_made_7 16 rfl rfl)
theorem dX1_made_201 : decode cX1_made 201 = .ok (.iload_n 1, 1) := dk_27 (dk_at dksX1_made_7 17 rfl rfl)
theorem dX1_made_202 : decode cX1_made 202 = .ok (.iload_n 2, 1) := dk_28 (dk_at dksX1_made_7 18 rfl rfl)
theorem dX1_made_203 : decode cX1_made 203 = .ok (.iload_n 3, 1) := dk_29 (dk_at dksX1_made_7 19 rfl rfl)
theorem dX1_made_204 : decode cX1_made 204 = .ok (.invokespecial 65, 3) := dk_183 0 65 (dk_at dksX1_made_7 20 rfl rfl)
theorem dX1_made_207 : decode cX1_made 207 = .ok (.areturn, 1) := dk_176 (dk_at dksX1_made_7 23 rfl rfl)
theorem dX1_made_208 : decode cX1_made 208 = .ok (.new 66, 3) := dk_187 0 66 (dk_at dksX1_made_8 0 rfl rfl)
theorem dX1_made_211 : decode cX1_made 211 = .ok (.dup, 1) := dk_89 (dk_at dksX1_made_8 3 rfl rfl)
theorem dX1_made_212 : decode cX1_made 212 = .ok (.iload_n 0, 1) := dk_26 (dk_at dksX1_made_8 4 rfl rfl)
theorem dX1_made_213 : decode cX1_made 213 = .ok (.iload_n 1, 1) := dk_27 (dk_at dksX1_made_8 5 rfl rfl)
theorem dX1_made_214 : decode cX1_made 214 = .ok (.iload_n 2, 1) := dk_28 (dk_at dksX1_made_8 6 rfl rfl)
theorem dX1_made_215 : decode cX1_made 215 = .ok (.iload_n 3, 1) := dk_29 (dk_at dksX1_made_8 7 rfl rfl)
theorem dX1_made_216 : decode cX1_made 216 = .ok (.invokespecial 68, 3) := dk_183 0 68 (dk_at dksX1_made_8 8 rfl rfl)
theorem dX1_made_219 : decode cX1_made 219 = .ok (.areturn, 1) := dk_176 (dk_at dksX1_made_8 11 rfl rfl)
abbrev cX1_set : ByteArray := prog_1_method_19_code
def yX1_set : MethodName := ⟨RX1, "set", "(IIII)I"⟩
def dkwX1_set_3 : List UInt8 := [172]
abbrev dktX1_set_3 : List UInt8 := dkwX1_set_3 ++ []
def dkwX1_set_2 : List UInt8 := [21, 4, 184, 0, 187, 154, 0, 5, 2, 172, 25, 5, 29, 181, 0, 206, 25, 5, 21, 4, 181, 0, 209, 3]
abbrev dktX1_set_2 : List UInt8 := dkwX1_set_2 ++ dktX1_set_3
def dkwX1_set_1 : List UInt8 := [161, 0, 5, 2, 172, 42, 180, 0, 97, 27, 50, 180, 0, 193, 28, 50, 58, 5, 25, 5, 180, 0, 201, 29]
abbrev dktX1_set_1 : List UInt8 := dkwX1_set_1 ++ dktX1_set_2
def dkwX1_set_0 : List UInt8 := [42, 27, 182, 0, 183, 153, 0, 20, 28, 155, 0, 16, 28, 42, 180, 0, 97, 27, 50, 180, 0, 190]
abbrev dktX1_set_0 : List UInt8 := dkwX1_set_0 ++ dktX1_set_1
theorem dksX1_set_0 : cX1_set.data.toList.drop 0 = dktX1_set_0 := by decide +kernel
theorem dksX1_set_1 : cX1_set.data.toList.drop 22 = dktX1_set_1 := dk_seg dksX1_set_0 22 rfl rfl
theorem dksX1_set_2 : cX1_set.data.toList.drop 46 = dktX1_set_2 := dk_seg dksX1_set_1 24 rfl rfl
theorem dksX1_set_3 : cX1_set.data.toList.drop 70 = dktX1_set_3 := dk_seg dksX1_set_2 24 rfl rfl
theorem dX1_set_0 : decode cX1_set 0 = .ok (.aload_n 0, 1) := dk_42 (dk_at dksX1_set_0 0 rfl rfl)
theorem dX1_set_1 : decode cX1_set 1 = .ok (.iload_n 1, 1) := dk_27 (dk_at dksX1_set_0 1 rfl rfl)
theorem dX1_set_2 : decode cX1_set 2 = .ok (.invokevirtual 183, 3) := dk_182 0 183 (dk_at dksX1_set_0 2 rfl rfl)
theorem dX1_set_5 : decode cX1_set 5 = .ok (.ifCond .eq 20, 3) := dk_153 0 20 (dk_at dksX1_set_0 5 rfl rfl)
theorem dX1_set_8 : decode cX1_set 8 = .ok (.iload_n 2, 1) := dk_28 (dk_at dksX1_set_0 8 rfl rfl)
theorem dX1_set_9 : decode cX1_set 9 = .ok (.ifCond .lt 16, 3) := dk_155 0 16 (dk_at dksX1_set_0 9 rfl rfl)
theorem dX1_set_12 : decode cX1_set 12 = .ok (.iload_n 2, 1) := dk_28 (dk_at dksX1_set_0 12 rfl rfl)
theorem dX1_set_13 : decode cX1_set 13 = .ok (.aload_n 0, 1) := dk_42 (dk_at dksX1_set_0 13 rfl rfl)
theorem dX1_set_14 : decode cX1_set 14 = .ok (.getfield 97, 3) := dk_180 0 97 (dk_at dksX1_set_0 14 rfl rfl)
theorem dX1_set_17 : decode cX1_set 17 = .ok (.iload_n 1, 1) := dk_27 (dk_at dksX1_set_0 17 rfl rfl)
theorem dX1_set_18 : decode cX1_set 18 = .ok (.aaload, 1) := dk_50 (dk_at dksX1_set_0 18 rfl rfl)
theorem dX1_set_19 : decode cX1_set 19 = .ok (.getfield 190, 3) := dk_180 0 190 (dk_at dksX1_set_0 19 rfl rfl)
theorem dX1_set_22 : decode cX1_set 22 = .ok (.if_icmp .lt 5, 3) := dk_161 0 5 (dk_at dksX1_set_1 0 rfl rfl)
theorem dX1_set_25 : decode cX1_set 25 = .ok (.iconst (-1), 1) := dk_2 (dk_at dksX1_set_1 3 rfl rfl)
theorem dX1_set_26 : decode cX1_set 26 = .ok (.ireturn, 1) := dk_172 (dk_at dksX1_set_1 4 rfl rfl)
theorem dX1_set_27 : decode cX1_set 27 = .ok (.aload_n 0, 1) := dk_42 (dk_at dksX1_set_1 5 rfl rfl)
theorem dX1_set_28 : decode cX1_set 28 = .ok (.getfield 97, 3) := dk_180 0 97 (dk_at dksX1_set_1 6 rfl rfl)
theorem dX1_set_31 : decode cX1_set 31 = .ok (.iload_n 1, 1) := dk_27 (dk_at dksX1_set_1 9 rfl rfl)
theorem dX1_set_32 : decode cX1_set 32 = .ok (.aaload, 1) := dk_50 (dk_at dksX1_set_1 10 rfl rfl)
theorem dX1_set_33 : decode cX1_set 33 = .ok (.getfield 193, 3) := dk_180 0 193 (dk_at dksX1_set_1 11 rfl rfl)
theorem dX1_set_36 : decode cX1_set 36 = .ok (.iload_n 2, 1) := dk_28 (dk_at dksX1_set_1 14 rfl rfl)
theorem dX1_set_37 : decode cX1_set 37 = .ok (.aaload, 1) := dk_50 (dk_at dksX1_set_1 15 rfl rfl)
theorem dX1_set_38 : decode cX1_set 38 = .ok (.astore 5, 2) := dk_58 5 (dk_at dksX1_set_1 16 rfl rfl)
theorem dX1_set_40 : decode cX1_set 40 = .ok (.aload 5, 2) := dk_25 5 (dk_at dksX1_set_1 18 rfl rfl)
theorem dX1_set_42 : decode cX1_set 42 = .ok (.getfield 201, 3) := dk_180 0 201 (dk_at dksX1_set_1 20 rfl rfl)
theorem dX1_set_45 : decode cX1_set 45 = .ok (.iload_n 3, 1) := dk_29 (dk_at dksX1_set_1 23 rfl rfl)
theorem dX1_set_46 : decode cX1_set 46 = .ok (.iload 4, 2) := dk_21 4 (dk_at dksX1_set_2 0 rfl rfl)
theorem dX1_set_48 : decode cX1_set 48 = .ok (.invokestatic 187, 3) := dk_184 0 187 (dk_at dksX1_set_2 2 rfl rfl)
theorem dX1_set_51 : decode cX1_set 51 = .ok (.ifCond .ne 5, 3) := dk_154 0 5 (dk_at dksX1_set_2 5 rfl rfl)
theorem dX1_set_54 : decode cX1_set 54 = .ok (.iconst (-1), 1) := dk_2 (dk_at dksX1_set_2 8 rfl rfl)
theorem dX1_set_55 : decode cX1_set 55 = .ok (.ireturn, 1) := dk_172 (dk_at dksX1_set_2 9 rfl rfl)
theorem dX1_set_56 : decode cX1_set 56 = .ok (.aload 5, 2) := dk_25 5 (dk_at dksX1_set_2 10 rfl rfl)
theorem dX1_set_58 : decode cX1_set 58 = .ok (.iload_n 3, 1) := dk_29 (dk_at dksX1_set_2 12 rfl rfl)
theorem dX1_set_59 : decode cX1_set 59 = .ok (.putfield 206, 3) := dk_181 0 206 (dk_at dksX1_set_2 13 rfl rfl)
theorem dX1_set_62 : decode cX1_set 62 = .ok (.aload 5, 2) := dk_25 5 (dk_at dksX1_set_2 16 rfl rfl)
theorem dX1_set_64 : decode cX1_set 64 = .ok (.iload 4, 2) := dk_21 4 (dk_at dksX1_set_2 18 rfl rfl)
theorem dX1_set_66 : decode cX1_set 66 = .ok (.putfield 209, 3) := dk_181 0 209 (dk_at dksX1_set_2 20 rfl rfl)
theorem dX1_set_69 : decode cX1_set 69 = .ok (.iconst 0, 1) := dk_3 (dk_at dksX1_set_2 23 rfl rfl)
theorem dX1_set_70 : decode cX1_set 70 = .ok (.ireturn, 1) := dk_172 (dk_at dksX1_set_3 0 rfl rfl)
abbrev cX1_told : ByteArray := prog_1_method_20_code
def yX1_told : MethodName := ⟨RX1, "told", "(III)I"⟩
def dkwX1_told_4 : List UInt8 := [2, 172]
abbrev dktX1_told_4 : List UInt8 := dkwX1_told_4 ++ []
def dkwX1_told_3 : List UInt8 := [25, 4, 180, 0, 201, 172, 25, 4, 180, 0, 212, 172, 25, 4, 180, 0, 206, 172, 25, 4, 180, 0, 209, 172]
abbrev dktX1_told_3 : List UInt8 := dkwX1_told_3 ++ dktX1_told_4
def dkwX1_told_2 : List UInt8 := [170, 0, 0, 0, 0, 0, 55, 0, 0, 0, 0, 0, 0, 0, 3, 0, 0, 0, 31, 0, 0, 0, 37, 0, 0, 0, 43, 0, 0, 0, 49]
abbrev dktX1_told_2 : List UInt8 := dkwX1_told_2 ++ dktX1_told_3
def dkwX1_told_1 : List UInt8 := [161, 0, 5, 2, 172, 42, 180, 0, 97, 27, 50, 180, 0, 193, 28, 50, 58, 4, 29]
abbrev dktX1_told_1 : List UInt8 := dkwX1_told_1 ++ dktX1_told_2
def dkwX1_told_0 : List UInt8 := [42, 27, 182, 0, 183, 153, 0, 20, 28, 155, 0, 16, 28, 42, 180, 0, 97, 27, 50, 180, 0, 190]
abbrev dktX1_told_0 : List UInt8 := dkwX1_told_0 ++ dktX1_told_1
theorem dksX1_told_0 : cX1_told.data.toList.drop 0 = dktX1_told_0 := by decide +kernel
theorem dksX1_told_1 : cX1_told.data.toList.drop 22 = dktX1_told_1 := dk_seg dksX1_told_0 22 rfl rfl
theorem dksX1_told_2 : cX1_told.data.toList.drop 41 = dktX1_told_2 := dk_seg dksX1_told_1 19 rfl rfl
theorem dksX1_told_3 : cX1_told.data.toList.drop 72 = dktX1_told_3 := dk_seg dksX1_told_2 31 rfl rfl
theorem dksX1_told_4 : cX1_told.data.toList.drop 96 = dktX1_told_4 := dk_seg dksX1_told_3 24 rfl rfl
theorem dX1_told_0 : decode cX1_told 0 = .ok (.aload_n 0, 1) := dk_42 (dk_at dksX1_told_0 0 rfl rfl)
theorem dX1_told_1 : decode cX1_told 1 = .ok (.iload_n 1, 1) := dk_27 (dk_at dksX1_told_0 1 rfl rfl)
theorem dX1_told_2 : decode cX1_told 2 = .ok (.invokevirtual 183, 3) := dk_182 0 183 (dk_at dksX1_told_0 2 rfl rfl)
theorem dX1_told_5 : decode cX1_told 5 = .ok (.ifCond .eq 20, 3) := dk_153 0 20 (dk_at dksX1_told_0 5 rfl rfl)
theorem dX1_told_8 : decode cX1_told 8 = .ok (.iload_n 2, 1) := dk_28 (dk_at dksX1_told_0 8 rfl rfl)
theorem dX1_told_9 : decode cX1_told 9 = .ok (.ifCond .lt 16, 3) := dk_155 0 16 (dk_at dksX1_told_0 9 rfl rfl)
theorem dX1_told_12 : decode cX1_told 12 = .ok (.iload_n 2, 1) := dk_28 (dk_at dksX1_told_0 12 rfl rfl)
theorem dX1_told_13 : decode cX1_told 13 = .ok (.aload_n 0, 1) := dk_42 (dk_at dksX1_told_0 13 rfl rfl)
theorem dX1_told_14 : decode cX1_told 14 = .ok (.getfield 97, 3) := dk_180 0 97 (dk_at dksX1_told_0 14 rfl rfl)
theorem dX1_told_17 : decode cX1_told 17 = .ok (.iload_n 1, 1) := dk_27 (dk_at dksX1_told_0 17 rfl rfl)
theorem dX1_told_18 : decode cX1_told 18 = .ok (.aaload, 1) := dk_50 (dk_at dksX1_told_0 18 rfl rfl)
theorem dX1_told_19 : decode cX1_told 19 = .ok (.getfield 190, 3) := dk_180 0 190 (dk_at dksX1_told_0 19 rfl rfl)
theorem dX1_told_22 : decode cX1_told 22 = .ok (.if_icmp .lt 5, 3) := dk_161 0 5 (dk_at dksX1_told_1 0 rfl rfl)
theorem dX1_told_25 : decode cX1_told 25 = .ok (.iconst (-1), 1) := dk_2 (dk_at dksX1_told_1 3 rfl rfl)
theorem dX1_told_26 : decode cX1_told 26 = .ok (.ireturn, 1) := dk_172 (dk_at dksX1_told_1 4 rfl rfl)
theorem dX1_told_27 : decode cX1_told 27 = .ok (.aload_n 0, 1) := dk_42 (dk_at dksX1_told_1 5 rfl rfl)
theorem dX1_told_28 : decode cX1_told 28 = .ok (.getfield 97, 3) := dk_180 0 97 (dk_at dksX1_told_1 6 rfl rfl)
theorem dX1_told_31 : decode cX1_told 31 = .ok (.iload_n 1, 1) := dk_27 (dk_at dksX1_told_1 9 rfl rfl)
theorem dX1_told_32 : decode cX1_told 32 = .ok (.aaload, 1) := dk_50 (dk_at dksX1_told_1 10 rfl rfl)
theorem dX1_told_33 : decode cX1_told 33 = .ok (.getfield 193, 3) := dk_180 0 193 (dk_at dksX1_told_1 11 rfl rfl)
theorem dX1_told_36 : decode cX1_told 36 = .ok (.iload_n 2, 1) := dk_28 (dk_at dksX1_told_1 14 rfl rfl)
theorem dX1_told_37 : decode cX1_told 37 = .ok (.aaload, 1) := dk_50 (dk_at dksX1_told_1 15 rfl rfl)
theorem dX1_told_38 : decode cX1_told 38 = .ok (.astore 4, 2) := dk_58 4 (dk_at dksX1_told_1 16 rfl rfl)
theorem dX1_told_40 : decode cX1_told 40 = .ok (.iload_n 3, 1) := dk_29 (dk_at dksX1_told_1 18 rfl rfl)
theorem dX1_told_41 : decode cX1_told 41 = .ok (.tableswitch 55 0 3 #[31, 37, 43, 49], 31) := by decide +kernel
theorem dX1_told_72 : decode cX1_told 72 = .ok (.aload 4, 2) := dk_25 4 (dk_at dksX1_told_3 0 rfl rfl)
theorem dX1_told_74 : decode cX1_told 74 = .ok (.getfield 201, 3) := dk_180 0 201 (dk_at dksX1_told_3 2 rfl rfl)
theorem dX1_told_77 : decode cX1_told 77 = .ok (.ireturn, 1) := dk_172 (dk_at dksX1_told_3 5 rfl rfl)
theorem dX1_told_78 : decode cX1_told 78 = .ok (.aload 4, 2) := dk_25 4 (dk_at dksX1_told_3 6 rfl rfl)
theorem dX1_told_80 : decode cX1_told 80 = .ok (.getfield 212, 3) := dk_180 0 212 (dk_at dksX1_told_3 8 rfl rfl)
theorem dX1_told_83 : decode cX1_told 83 = .ok (.ireturn, 1) := dk_172 (dk_at dksX1_told_3 11 rfl rfl)
theorem dX1_told_84 : decode cX1_told 84 = .ok (.aload 4, 2) := dk_25 4 (dk_at dksX1_told_3 12 rfl rfl)
theorem dX1_told_86 : decode cX1_told 86 = .ok (.getfield 206, 3) := dk_180 0 206 (dk_at dksX1_told_3 14 rfl rfl)
theorem dX1_told_89 : decode cX1_told 89 = .ok (.ireturn, 1) := dk_172 (dk_at dksX1_told_3 17 rfl rfl)
theorem dX1_told_90 : decode cX1_told 90 = .ok (.aload 4, 2) := dk_25 4 (dk_at dksX1_told_3 18 rfl rfl)
theorem dX1_told_92 : decode cX1_told 92 = .ok (.getfield 209, 3) := dk_180 0 209 (dk_at dksX1_told_3 20 rfl rfl)
theorem dX1_told_95 : decode cX1_told 95 = .ok (.ireturn, 1) := dk_172 (dk_at dksX1_told_3 23 rfl rfl)
theorem dX1_told_96 : decode cX1_told 96 = .ok (.iconst (-1), 1) := dk_2 (dk_at dksX1_told_4 0 rfl rfl)
theorem dX1_told_97 : decode cX1_told 97 = .ok (.ireturn, 1) := dk_172 (dk_at dksX1_told_4 1 rfl rfl)
abbrev cX1_run : ByteArray := prog_1_method_24_code
def yX1_run : MethodName := ⟨RX1, "run", "(I)I"⟩
def dkwX1_run_9 : List UInt8 := [180, 0, 108, 180, 0, 243, 181, 0, 240, 44, 180, 0, 190, 172]
abbrev dktX1_run_9 : List UInt8 := dkwX1_run_9 ++ []
def dkwX1_run_8 : List UInt8 := [180, 0, 108, 180, 0, 234, 181, 0, 167, 44, 42, 180, 0, 108, 180, 0, 239, 181, 0, 235, 44, 42]
abbrev dktX1_run_8 : List UInt8 := dkwX1_run_8 ++ dktX1_run_9
def dkwX1_run_7 : List UInt8 := [180, 0, 101, 29, 42, 180, 0, 108, 180, 0, 233, 29, 47, 80, 132, 3, 1, 167, 255, 232, 42, 42]
abbrev dktX1_run_7 : List UInt8 := dkwX1_run_7 ++ dktX1_run_8
def dkwX1_run_6 : List UInt8 := [21, 4, 172, 132, 3, 1, 167, 255, 217, 42, 16, 254, 181, 0, 170, 3, 62, 29, 16, 8, 162, 0, 24, 42]
abbrev dktX1_run_6 : List UInt8 := dkwX1_run_6 ++ dktX1_run_7
def dkwX1_run_5 : List UInt8 := [180, 0, 193, 29, 50, 42, 180, 0, 108, 182, 0, 244, 54, 4, 21, 4, 153, 0, 11, 42, 29, 181, 0, 170]
abbrev dktX1_run_5 : List UInt8 := dkwX1_run_5 ++ dktX1_run_6
def dkwX1_run_4 : List UInt8 := [180, 0, 240, 181, 0, 243, 42, 180, 0, 108, 182, 0, 173, 3, 62, 29, 44, 180, 0, 190, 162, 0, 37, 44]
abbrev dktX1_run_4 : List UInt8 := dkwX1_run_4 ++ dktX1_run_5
def dkwX1_run_3 : List UInt8 := [180, 0, 167, 181, 0, 234, 42, 180, 0, 108, 44, 180, 0, 235, 181, 0, 239, 42, 180, 0, 108, 44]
abbrev dktX1_run_3 : List UInt8 := dkwX1_run_3 ++ dktX1_run_4
def dkwX1_run_2 : List UInt8 := [180, 0, 233, 29, 42, 180, 0, 101, 29, 47, 80, 132, 3, 1, 167, 255, 232, 42, 180, 0, 108, 42]
abbrev dktX1_run_2 : List UInt8 := dkwX1_run_2 ++ dktX1_run_3
def dkwX1_run_1 : List UInt8 := [180, 0, 86, 42, 180, 0, 160, 182, 0, 229, 3, 62, 29, 16, 8, 162, 0, 24, 42, 180, 0, 108]
abbrev dktX1_run_1 : List UInt8 := dkwX1_run_1 ++ dktX1_run_2
def dkwX1_run_0 : List UInt8 := [42, 27, 182, 0, 183, 154, 0, 5, 2, 172, 42, 180, 0, 97, 27, 50, 77, 42, 180, 0, 108, 42]
abbrev dktX1_run_0 : List UInt8 := dkwX1_run_0 ++ dktX1_run_1
theorem dksX1_run_0 : cX1_run.data.toList.drop 0 = dktX1_run_0 := by decide +kernel
theorem dksX1_run_1 : cX1_run.data.toList.drop 22 = dktX1_run_1 := dk_seg dksX1_run_0 22 rfl rfl
theorem dksX1_run_2 : cX1_run.data.toList.drop 44 = dktX1_run_2 := dk_seg dksX1_run_1 22 rfl rfl
theorem dksX1_run_3 : cX1_run.data.toList.drop 66 = dktX1_run_3 := dk_seg dksX1_run_2 22 rfl rfl
theorem dksX1_run_4 : cX1_run.data.toList.drop 88 = dktX1_run_4 := dk_seg dksX1_run_3 22 rfl rfl
theorem dksX1_run_5 : cX1_run.data.toList.drop 112 = dktX1_run_5 := dk_seg dksX1_run_4 24 rfl rfl
theorem dksX1_run_6 : cX1_run.data.toList.drop 136 = dktX1_run_6 := dk_seg dksX1_run_5 24 rfl rfl
theorem dksX1_run_7 : cX1_run.data.toList.drop 160 = dktX1_run_7 := dk_seg dksX1_run_6 24 rfl rfl
theorem dksX1_run_8 : cX1_run.data.toList.drop 182 = dktX1_run_8 := dk_seg dksX1_run_7 22 rfl rfl
theorem dksX1_run_9 : cX1_run.data.toList.drop 204 = dktX1_run_9 := dk_seg dksX1_run_8 22 rfl rfl
theorem dX1_run_0 : decode cX1_run 0 = .ok (.aload_n 0, 1) := dk_42 (dk_at dksX1_run_0 0 rfl rfl)
theorem dX1_run_1 : decode cX1_run 1 = .ok (.iload_n 1, 1) := dk_27 (dk_at dksX1_run_0 1 rfl rfl)
theorem dX1_run_2 : decode cX1_run 2 = .ok (.invokevirtual 183, 3) := dk_182 0 183 (dk_at dksX1_run_0 2 rfl rfl)
theorem dX1_run_5 : decode cX1_run 5 = .ok (.ifCond .ne 5, 3) := dk_154 0 5 (dk_at dksX1_run_0 5 rfl rfl)
theorem dX1_run_8 : decode cX1_run 8 = .ok (.iconst (-1), 1) := dk_2 (dk_at dksX1_run_0 8 rfl rfl)
theorem dX1_run_9 : decode cX1_run 9 = .ok (.ireturn, 1) := dk_172 (dk_at dksX1_run_0 9 rfl rfl)
theorem dX1_run_10 : decode cX1_run 10 = .ok (.aload_n 0, 1) := dk_42 (dk_at dksX1_run_0 10 rfl rfl)
theorem dX1_run_11 : decode cX1_run 11 = .ok (.getfield 97, 3) := dk_180 0 97 (dk_at dksX1_run_0 11 rfl rfl)
theorem dX1_run_14 : decode cX1_run 14 = .ok (.iload_n 1, 1) := dk_27 (dk_at dksX1_run_0 14 rfl rfl)
theorem dX1_run_15 : decode cX1_run 15 = .ok (.aaload, 1) := dk_50 (dk_at dksX1_run_0 15 rfl rfl)
theorem dX1_run_16 : decode cX1_run 16 = .ok (.astore_n 2, 1) := dk_77 (dk_at dksX1_run_0 16 rfl rfl)
theorem dX1_run_17 : decode cX1_run 17 = .ok (.aload_n 0, 1) := dk_42 (dk_at dksX1_run_0 17 rfl rfl)
theorem dX1_run_18 : decode cX1_run 18 = .ok (.getfield 108, 3) := dk_180 0 108 (dk_at dksX1_run_0 18 rfl rfl)
theorem dX1_run_21 : decode cX1_run 21 = .ok (.aload_n 0, 1) := dk_42 (dk_at dksX1_run_0 21 rfl rfl)
theorem dX1_run_22 : decode cX1_run 22 = .ok (.getfield 86, 3) := dk_180 0 86 (dk_at dksX1_run_1 0 rfl rfl)
theorem dX1_run_25 : decode cX1_run 25 = .ok (.aload_n 0, 1) := dk_42 (dk_at dksX1_run_1 3 rfl rfl)
theorem dX1_run_26 : decode cX1_run 26 = .ok (.getfield 160, 3) := dk_180 0 160 (dk_at dksX1_run_1 4 rfl rfl)
theorem dX1_run_29 : decode cX1_run 29 = .ok (.invokevirtual 229, 3) := dk_182 0 229 (dk_at dksX1_run_1 7 rfl rfl)
theorem dX1_run_32 : decode cX1_run 32 = .ok (.iconst 0, 1) := dk_3 (dk_at dksX1_run_1 10 rfl rfl)
theorem dX1_run_33 : decode cX1_run 33 = .ok (.istore_n 3, 1) := dk_62 (dk_at dksX1_run_1 11 rfl rfl)
theorem dX1_run_34 : decode cX1_run 34 = .ok (.iload_n 3, 1) := dk_29 (dk_at dksX1_run_1 12 rfl rfl)
theorem dX1_run_35 : decode cX1_run 35 = .ok (.bipush 8, 2) := dk_16 8 (dk_at dksX1_run_1 13 rfl rfl)
theorem dX1_run_37 : decode cX1_run 37 = .ok (.if_icmp .ge 24, 3) := dk_162 0 24 (dk_at dksX1_run_1 15 rfl rfl)
theorem dX1_run_40 : decode cX1_run 40 = .ok (.aload_n 0, 1) := dk_42 (dk_at dksX1_run_1 18 rfl rfl)
theorem dX1_run_41 : decode cX1_run 41 = .ok (.getfield 108, 3) := dk_180 0 108 (dk_at dksX1_run_1 19 rfl rfl)
theorem dX1_run_44 : decode cX1_run 44 = .ok (.getfield 233, 3) := dk_180 0 233 (dk_at dksX1_run_2 0 rfl rfl)
theorem dX1_run_47 : decode cX1_run 47 = .ok (.iload_n 3, 1) := dk_29 (dk_at dksX1_run_2 3 rfl rfl)
theorem dX1_run_48 : decode cX1_run 48 = .ok (.aload_n 0, 1) := dk_42 (dk_at dksX1_run_2 4 rfl rfl)
theorem dX1_run_49 : decode cX1_run 49 = .ok (.getfield 101, 3) := dk_180 0 101 (dk_at dksX1_run_2 5 rfl rfl)
theorem dX1_run_52 : decode cX1_run 52 = .ok (.iload_n 3, 1) := dk_29 (dk_at dksX1_run_2 8 rfl rfl)
theorem dX1_run_53 : decode cX1_run 53 = .ok (.laload, 1) := dk_47 (dk_at dksX1_run_2 9 rfl rfl)
theorem dX1_run_54 : decode cX1_run 54 = .ok (.lastore, 1) := dk_80 (dk_at dksX1_run_2 10 rfl rfl)
theorem dX1_run_55 : decode cX1_run 55 = .ok (.iinc 3 1, 3) := dk_132 3 1 (dk_at dksX1_run_2 11 rfl rfl)
theorem dX1_run_58 : decode cX1_run 58 = .ok (.goto (-24), 3) := dk_167 255 232 (dk_at dksX1_run_2 14 rfl rfl)
theorem dX1_run_61 : decode cX1_run 61 = .ok (.aload_n 0, 1) := dk_42 (dk_at dksX1_run_2 17 rfl rfl)
theorem dX1_run_62 : decode cX1_run 62 = .ok (.getfield 108, 3) := dk_180 0 108 (dk_at dksX1_run_2 18 rfl rfl)
theorem dX1_run_65 : decode cX1_run 65 = .ok (.aload_n 0, 1) := dk_42 (dk_at dksX1_run_2 21 rfl rfl)
theorem dX1_run_66 : decode cX1_run 66 = .ok (.getfield 167, 3) := dk_180 0 167 (dk_at dksX1_run_3 0 rfl rfl)
theorem dX1_run_69 : decode cX1_run 69 = .ok (.putfield 234, 3) := dk_181 0 234 (dk_at dksX1_run_3 3 rfl rfl)
theorem dX1_run_72 : decode cX1_run 72 = .ok (.aload_n 0, 1) := dk_42 (dk_at dksX1_run_3 6 rfl rfl)
theorem dX1_run_73 : decode cX1_run 73 = .ok (.getfield 108, 3) := dk_180 0 108 (dk_at dksX1_run_3 7 rfl rfl)
theorem dX1_run_76 : decode cX1_run 76 = .ok (.aload_n 2, 1) := dk_44 (dk_at dksX1_run_3 10 rfl rfl)
theorem dX1_run_77 : decode cX1_run 77 = .ok (.getfield 235, 3) := dk_180 0 235 (dk_at dksX1_run_3 11 rfl rfl)
theorem dX1_run_80 : decode cX1_run 80 = .ok (.putfield 239, 3) := dk_181 0 239 (dk_at dksX1_run_3 14 rfl rfl)
theorem dX1_run_83 : decode cX1_run 83 = .ok (.aload_n 0, 1) := dk_42 (dk_at dksX1_run_3 17 rfl rfl)
theorem dX1_run_84 : decode cX1_run 84 = .ok (.getfield 108, 3) := dk_180 0 108 (dk_at dksX1_run_3 18 rfl rfl)
theorem dX1_run_87 : decode cX1_run 87 = .ok (.aload_n 2, 1) := dk_44 (dk_at dksX1_run_3 21 rfl rfl)
theorem dX1_run_88 : decode cX1_run 88 = .ok (.getfield 240, 3) := dk_180 0 240 (dk_at dksX1_run_4 0 rfl rfl)
theorem dX1_run_91 : decode cX1_run 91 = .ok (.putfield 243, 3) := dk_181 0 243 (dk_at dksX1_run_4 3 rfl rfl)
theorem dX1_run_94 : decode cX1_run 94 = .ok (.aload_n 0, 1) := dk_42 (dk_at dksX1_run_4 6 rfl rfl)
theorem dX1_run_95 : decode cX1_run 95 = .ok (.getfield 108, 3) := dk_180 0 108 (dk_at dksX1_run_4 7 rfl rfl)
theorem dX1_run_98 : decode cX1_run 98 = .ok (.invokevirtual 173, 3) := dk_182 0 173 (dk_at dksX1_run_4 10 rfl rfl)
theorem dX1_run_101 : decode cX1_run 101 = .ok (.iconst 0, 1) := dk_3 (dk_at dksX1_run_4 13 rfl rfl)
theorem dX1_run_102 : decode cX1_run 102 = .ok (.istore_n 3, 1) := dk_62 (dk_at dksX1_run_4 14 rfl rfl)
theorem dX1_run_103 : decode cX1_run 103 = .ok (.iload_n 3, 1) := dk_29 (dk_at dksX1_run_4 15 rfl rfl)
theorem dX1_run_104 : decode cX1_run 104 = .ok (.aload_n 2, 1) := dk_44 (dk_at dksX1_run_4 16 rfl rfl)
theorem dX1_run_105 : decode cX1_run 105 = .ok (.getfield 190, 3) := dk_180 0 190 (dk_at dksX1_run_4 17 rfl rfl)
theorem dX1_run_108 : decode cX1_run 108 = .ok (.if_icmp .ge 37, 3) := dk_162 0 37 (dk_at dksX1_run_4 20 rfl rfl)
theorem dX1_run_111 : decode cX1_run 111 = .ok (.aload_n 2, 1) := dk_44 (dk_at dksX1_run_4 23 rfl rfl)
theorem dX1_run_112 : decode cX1_run 112 = .ok (.getfield 193, 3) := dk_180 0 193 (dk_at dksX1_run_5 0 rfl rfl)
theorem dX1_run_115 : decode cX1_run 115 = .ok (.iload_n 3, 1) := dk_29 (dk_at dksX1_run_5 3 rfl rfl)
theorem dX1_run_116 : decode cX1_run 116 = .ok (.aaload, 1) := dk_50 (dk_at dksX1_run_5 4 rfl rfl)
theorem dX1_run_117 : decode cX1_run 117 = .ok (.aload_n 0, 1) := dk_42 (dk_at dksX1_run_5 5 rfl rfl)
theorem dX1_run_118 : decode cX1_run 118 = .ok (.getfield 108, 3) := dk_180 0 108 (dk_at dksX1_run_5 6 rfl rfl)
theorem dX1_run_121 : decode cX1_run 121 = .ok (.invokevirtual 244, 3) := dk_182 0 244 (dk_at dksX1_run_5 9 rfl rfl)
theorem dX1_run_124 : decode cX1_run 124 = .ok (.istore 4, 2) := dk_54 4 (dk_at dksX1_run_5 12 rfl rfl)
theorem dX1_run_126 : decode cX1_run 126 = .ok (.iload 4, 2) := dk_21 4 (dk_at dksX1_run_5 14 rfl rfl)
theorem dX1_run_128 : decode cX1_run 128 = .ok (.ifCond .eq 11, 3) := dk_153 0 11 (dk_at dksX1_run_5 16 rfl rfl)
theorem dX1_run_131 : decode cX1_run 131 = .ok (.aload_n 0, 1) := dk_42 (dk_at dksX1_run_5 19 rfl rfl)
theorem dX1_run_132 : decode cX1_run 132 = .ok (.iload_n 3, 1) := dk_29 (dk_at dksX1_run_5 20 rfl rfl)
theorem dX1_run_133 : decode cX1_run 133 = .ok (.putfield 170, 3) := dk_181 0 170 (dk_at dksX1_run_5 21 rfl rfl)
theorem dX1_run_136 : decode cX1_run 136 = .ok (.iload 4, 2) := dk_21 4 (dk_at dksX1_run_6 0 rfl rfl)
theorem dX1_run_138 : decode cX1_run 138 = .ok (.ireturn, 1) := dk_172 (dk_at dksX1_run_6 2 rfl rfl)
theorem dX1_run_139 : decode cX1_run 139 = .ok (.iinc 3 1, 3) := dk_132 3 1 (dk_at dksX1_run_6 3 rfl rfl)
theorem dX1_run_142 : decode cX1_run 142 = .ok (.goto (-39), 3) := dk_167 255 217 (dk_at dksX1_run_6 6 rfl rfl)
theorem dX1_run_145 : decode cX1_run 145 = .ok (.aload_n 0, 1) := dk_42 (dk_at dksX1_run_6 9 rfl rfl)
theorem dX1_run_146 : decode cX1_run 146 = .ok (.bipush (-2), 2) := dk_16 254 (dk_at dksX1_run_6 10 rfl rfl)
theorem dX1_run_148 : decode cX1_run 148 = .ok (.putfield 170, 3) := dk_181 0 170 (dk_at dksX1_run_6 12 rfl rfl)
theorem dX1_run_151 : decode cX1_run 151 = .ok (.iconst 0, 1) := dk_3 (dk_at dksX1_run_6 15 rfl rfl)
theorem dX1_run_152 : decode cX1_run 152 = .ok (.istore_n 3, 1) := dk_62 (dk_at dksX1_run_6 16 rfl rfl)
theorem dX1_run_153 : decode cX1_run 153 = .ok (.iload_n 3, 1) := dk_29 (dk_at dksX1_run_6 17 rfl rfl)
theorem dX1_run_154 : decode cX1_run 154 = .ok (.bipush 8, 2) := dk_16 8 (dk_at dksX1_run_6 18 rfl rfl)
theorem dX1_run_156 : decode cX1_run 156 = .ok (.if_icmp .ge 24, 3) := dk_162 0 24 (dk_at dksX1_run_6 20 rfl rfl)
theorem dX1_run_159 : decode cX1_run 159 = .ok (.aload_n 0, 1) := dk_42 (dk_at dksX1_run_6 23 rfl rfl)
theorem dX1_run_160 : decode cX1_run 160 = .ok (.getfield 101, 3) := dk_180 0 101 (dk_at dksX1_run_7 0 rfl rfl)
theorem dX1_run_163 : decode cX1_run 163 = .ok (.iload_n 3, 1) := dk_29 (dk_at dksX1_run_7 3 rfl rfl)
theorem dX1_run_164 : decode cX1_run 164 = .ok (.aload_n 0, 1) := dk_42 (dk_at dksX1_run_7 4 rfl rfl)
theorem dX1_run_165 : decode cX1_run 165 = .ok (.getfield 108, 3) := dk_180 0 108 (dk_at dksX1_run_7 5 rfl rfl)
theorem dX1_run_168 : decode cX1_run 168 = .ok (.getfield 233, 3) := dk_180 0 233 (dk_at dksX1_run_7 8 rfl rfl)
theorem dX1_run_171 : decode cX1_run 171 = .ok (.iload_n 3, 1) := dk_29 (dk_at dksX1_run_7 11 rfl rfl)
theorem dX1_run_172 : decode cX1_run 172 = .ok (.laload, 1) := dk_47 (dk_at dksX1_run_7 12 rfl rfl)
theorem dX1_run_173 : decode cX1_run 173 = .ok (.lastore, 1) := dk_80 (dk_at dksX1_run_7 13 rfl rfl)
theorem dX1_run_174 : decode cX1_run 174 = .ok (.iinc 3 1, 3) := dk_132 3 1 (dk_at dksX1_run_7 14 rfl rfl)
theorem dX1_run_177 : decode cX1_run 177 = .ok (.goto (-24), 3) := dk_167 255 232 (dk_at dksX1_run_7 17 rfl rfl)
theorem dX1_run_180 : decode cX1_run 180 = .ok (.aload_n 0, 1) := dk_42 (dk_at dksX1_run_7 20 rfl rfl)
theorem dX1_run_181 : decode cX1_run 181 = .ok (.aload_n 0, 1) := dk_42 (dk_at dksX1_run_7 21 rfl rfl)
theorem dX1_run_182 : decode cX1_run 182 = .ok (.getfield 108, 3) := dk_180 0 108 (dk_at dksX1_run_8 0 rfl rfl)
theorem dX1_run_185 : decode cX1_run 185 = .ok (.getfield 234, 3) := dk_180 0 234 (dk_at dksX1_run_8 3 rfl rfl)
theorem dX1_run_188 : decode cX1_run 188 = .ok (.putfield 167, 3) := dk_181 0 167 (dk_at dksX1_run_8 6 rfl rfl)
theorem dX1_run_191 : decode cX1_run 191 = .ok (.aload_n 2, 1) := dk_44 (dk_at dksX1_run_8 9 rfl rfl)
theorem dX1_run_192 : decode cX1_run 192 = .ok (.aload_n 0, 1) := dk_42 (dk_at dksX1_run_8 10 rfl rfl)
theorem dX1_run_193 : decode cX1_run 193 = .ok (.getfield 108, 3) := dk_180 0 108 (dk_at dksX1_run_8 11 rfl rfl)
theorem dX1_run_196 : decode cX1_run 196 = .ok (.getfield 239, 3) := dk_180 0 239 (dk_at dksX1_run_8 14 rfl rfl)
theorem dX1_run_199 : decode cX1_run 199 = .ok (.putfield 235, 3) := dk_181 0 235 (dk_at dksX1_run_8 17 rfl rfl)
theorem dX1_run_202 : decode cX1_run 202 = .ok (.aload_n 2, 1) := dk_44 (dk_at dksX1_run_8 20 rfl rfl)
theorem dX1_run_203 : decode cX1_run 203 = .ok (.aload_n 0, 1) := dk_42 (dk_at dksX1_run_8 21 rfl rfl)
theorem dX1_run_204 : decode cX1_run 204 = .ok (.getfield 108, 3) := dk_180 0 108 (dk_at dksX1_run_9 0 rfl rfl)
theorem dX1_run_207 : decode cX1_run 207 = .ok (.getfield 243, 3) := dk_180 0 243 (dk_at dksX1_run_9 3 rfl rfl)
theorem dX1_run_210 : decode cX1_run 210 = .ok (.putfield 240, 3) := dk_181 0 240 (dk_at dksX1_run_9 6 rfl rfl)
theorem dX1_run_213 : decode cX1_run 213 = .ok (.aload_n 2, 1) := dk_44 (dk_at dksX1_run_9 9 rfl rfl)
theorem dX1_run_214 : decode cX1_run 214 = .ok (.getfield 190, 3) := dk_180 0 190 (dk_at dksX1_run_9 10 rfl rfl)
theorem dX1_run_217 : decode cX1_run 217 = .ok (.ireturn, 1) := dk_172 (dk_at dksX1_run_9 13 rfl rfl)
abbrev cX1_common : ByteArray := prog_1_method_5_code
def yX1_common : MethodName := ⟨RX1, "common", "(JJ)J"⟩
def dkwX1_common_1 : List UInt8 := [22, 4, 22, 6, 113, 55, 8, 22, 6, 55, 4, 22, 8, 55, 6, 167, 255, 234, 22, 4, 173]
abbrev dktX1_common_1 : List UInt8 := dkwX1_common_1 ++ []
def dkwX1_common_0 : List UInt8 := [30, 9, 148, 156, 0, 8, 30, 117, 167, 0, 4, 30, 55, 4, 32, 55, 6, 22, 6, 9, 148, 153, 0, 21]
abbrev dktX1_common_0 : List UInt8 := dkwX1_common_0 ++ dktX1_common_1
theorem dksX1_common_0 : cX1_common.data.toList.drop 0 = dktX1_common_0 := by decide +kernel
theorem dksX1_common_1 : cX1_common.data.toList.drop 24 = dktX1_common_1 := dk_seg dksX1_common_0 24 rfl rfl
theorem dX1_common_0 : decode cX1_common 0 = .ok (.lload_n 0, 1) := dk_30 (dk_at dksX1_common_0 0 rfl rfl)
theorem dX1_common_1 : decode cX1_common 1 = .ok (.lconst 0, 1) := dk_9 (dk_at dksX1_common_0 1 rfl rfl)
theorem dX1_common_2 : decode cX1_common 2 = .ok (.lcmp, 1) := dk_148 (dk_at dksX1_common_0 2 rfl rfl)
theorem dX1_common_3 : decode cX1_common 3 = .ok (.ifCond .ge 8, 3) := dk_156 0 8 (dk_at dksX1_common_0 3 rfl rfl)
theorem dX1_common_6 : decode cX1_common 6 = .ok (.lload_n 0, 1) := dk_30 (dk_at dksX1_common_0 6 rfl rfl)
theorem dX1_common_7 : decode cX1_common 7 = .ok (.lneg, 1) := dk_117 (dk_at dksX1_common_0 7 rfl rfl)
theorem dX1_common_8 : decode cX1_common 8 = .ok (.goto 4, 3) := dk_167 0 4 (dk_at dksX1_common_0 8 rfl rfl)
theorem dX1_common_11 : decode cX1_common 11 = .ok (.lload_n 0, 1) := dk_30 (dk_at dksX1_common_0 11 rfl rfl)
theorem dX1_common_12 : decode cX1_common 12 = .ok (.lstore 4, 2) := dk_55 4 (dk_at dksX1_common_0 12 rfl rfl)
theorem dX1_common_14 : decode cX1_common 14 = .ok (.lload_n 2, 1) := dk_32 (dk_at dksX1_common_0 14 rfl rfl)
theorem dX1_common_15 : decode cX1_common 15 = .ok (.lstore 6, 2) := dk_55 6 (dk_at dksX1_common_0 15 rfl rfl)
theorem dX1_common_17 : decode cX1_common 17 = .ok (.lload 6, 2) := dk_22 6 (dk_at dksX1_common_0 17 rfl rfl)
theorem dX1_common_19 : decode cX1_common 19 = .ok (.lconst 0, 1) := dk_9 (dk_at dksX1_common_0 19 rfl rfl)
theorem dX1_common_20 : decode cX1_common 20 = .ok (.lcmp, 1) := dk_148 (dk_at dksX1_common_0 20 rfl rfl)
theorem dX1_common_21 : decode cX1_common 21 = .ok (.ifCond .eq 21, 3) := dk_153 0 21 (dk_at dksX1_common_0 21 rfl rfl)
theorem dX1_common_24 : decode cX1_common 24 = .ok (.lload 4, 2) := dk_22 4 (dk_at dksX1_common_1 0 rfl rfl)
theorem dX1_common_26 : decode cX1_common 26 = .ok (.lload 6, 2) := dk_22 6 (dk_at dksX1_common_1 2 rfl rfl)
theorem dX1_common_28 : decode cX1_common 28 = .ok (.lrem, 1) := dk_113 (dk_at dksX1_common_1 4 rfl rfl)
theorem dX1_common_29 : decode cX1_common 29 = .ok (.lstore 8, 2) := dk_55 8 (dk_at dksX1_common_1 5 rfl rfl)
theorem dX1_common_31 : decode cX1_common 31 = .ok (.lload 6, 2) := dk_22 6 (dk_at dksX1_common_1 7 rfl rfl)
theorem dX1_common_33 : decode cX1_common 33 = .ok (.lstore 4, 2) := dk_55 4 (dk_at dksX1_common_1 9 rfl rfl)
theorem dX1_common_35 : decode cX1_common 35 = .ok (.lload 8, 2) := dk_22 8 (dk_at dksX1_common_1 11 rfl rfl)
theorem dX1_common_37 : decode cX1_common 37 = .ok (.lstore 6, 2) := dk_55 6 (dk_at dksX1_common_1 13 rfl rfl)
theorem dX1_common_39 : decode cX1_common 39 = .ok (.goto (-22), 3) := dk_167 255 234 (dk_at dksX1_common_1 15 rfl rfl)
theorem dX1_common_42 : decode cX1_common 42 = .ok (.lload 4, 2) := dk_22 4 (dk_at dksX1_common_1 18 rfl rfl)
theorem dX1_common_44 : decode cX1_common 44 = .ok (.lreturn, 1) := dk_173 (dk_at dksX1_common_1 20 rfl rfl)
abbrev cX1_floorOf : ByteArray := prog_1_method_1_code
def yX1_floorOf : MethodName := ⟨RX1, "floorOf", "(JJ)J"⟩
def dkwX1_floorOf_0 : List UInt8 := [30, 32, 109, 55, 4, 30, 32, 113, 9, 148, 156, 0, 10, 22, 4, 10, 101, 167, 0, 5, 22, 4, 173]
abbrev dktX1_floorOf_0 : List UInt8 := dkwX1_floorOf_0 ++ []
theorem dksX1_floorOf_0 : cX1_floorOf.data.toList.drop 0 = dktX1_floorOf_0 := by decide +kernel
theorem dX1_floorOf_0 : decode cX1_floorOf 0 = .ok (.lload_n 0, 1) := dk_30 (dk_at dksX1_floorOf_0 0 rfl rfl)
theorem dX1_floorOf_1 : decode cX1_floorOf 1 = .ok (.lload_n 2, 1) := dk_32 (dk_at dksX1_floorOf_0 1 rfl rfl)
theorem dX1_floorOf_2 : decode cX1_floorOf 2 = .ok (.ldiv, 1) := dk_109 (dk_at dksX1_floorOf_0 2 rfl rfl)
theorem dX1_floorOf_3 : decode cX1_floorOf 3 = .ok (.lstore 4, 2) := dk_55 4 (dk_at dksX1_floorOf_0 3 rfl rfl)
theorem dX1_floorOf_5 : decode cX1_floorOf 5 = .ok (.lload_n 0, 1) := dk_30 (dk_at dksX1_floorOf_0 5 rfl rfl)
theorem dX1_floorOf_6 : decode cX1_floorOf 6 = .ok (.lload_n 2, 1) := dk_32 (dk_at dksX1_floorOf_0 6 rfl rfl)
theorem dX1_floorOf_7 : decode cX1_floorOf 7 = .ok (.lrem, 1) := dk_113 (dk_at dksX1_floorOf_0 7 rfl rfl)
theorem dX1_floorOf_8 : decode cX1_floorOf 8 = .ok (.lconst 0, 1) := dk_9 (dk_at dksX1_floorOf_0 8 rfl rfl)
theorem dX1_floorOf_9 : decode cX1_floorOf 9 = .ok (.lcmp, 1) := dk_148 (dk_at dksX1_floorOf_0 9 rfl rfl)
theorem dX1_floorOf_10 : decode cX1_floorOf 10 = .ok (.ifCond .ge 10, 3) := dk_156 0 10 (dk_at dksX1_floorOf_0 10 rfl rfl)
theorem dX1_floorOf_13 : decode cX1_floorOf 13 = .ok (.lload 4, 2) := dk_22 4 (dk_at dksX1_floorOf_0 13 rfl rfl)
theorem dX1_floorOf_15 : decode cX1_floorOf 15 = .ok (.lconst 1, 1) := dk_10 (dk_at dksX1_floorOf_0 15 rfl rfl)
theorem dX1_floorOf_16 : decode cX1_floorOf 16 = .ok (.lsub, 1) := dk_101 (dk_at dksX1_floorOf_0 16 rfl rfl)
theorem dX1_floorOf_17 : decode cX1_floorOf 17 = .ok (.goto 5, 3) := dk_167 0 5 (dk_at dksX1_floorOf_0 17 rfl rfl)
theorem dX1_floorOf_20 : decode cX1_floorOf 20 = .ok (.lload 4, 2) := dk_22 4 (dk_at dksX1_floorOf_0 20 rfl rfl)
theorem dX1_floorOf_22 : decode cX1_floorOf 22 = .ok (.lreturn, 1) := dk_173 (dk_at dksX1_floorOf_0 22 rfl rfl)
abbrev cX1_whole : ByteArray := prog_1_method_2_code
def yX1_whole : MethodName := ⟨RX1, "whole", "(JJI)J"⟩
def dkwX1_whole_8 : List UInt8 := [148, 158, 0, 10, 22, 5, 10, 97, 167, 0, 5, 22, 5, 173, 22, 5, 173, 22, 5, 10, 97, 173]
abbrev dktX1_whole_8 : List UInt8 := dkwX1_whole_8 ++ []
def dkwX1_whole_7 : List UInt8 := [167, 0, 5, 22, 5, 173, 30, 9, 148, 158, 0, 8, 22, 5, 167, 0, 7, 22, 5, 10, 97, 173, 30, 9]
abbrev dktX1_whole_7 : List UInt8 := dkwX1_whole_7 ++ dktX1_whole_8
def dkwX1_whole_6 : List UInt8 := [167, 0, 7, 22, 5, 10, 97, 173, 20, 0, 7, 22, 7, 105, 32, 148, 158, 0, 10, 22, 5, 10, 97]
abbrev dktX1_whole_6 : List UInt8 := dkwX1_whole_6 ++ dktX1_whole_7
def dkwX1_whole_5 : List UInt8 := [20, 0, 7, 22, 7, 105, 32, 148, 154, 0, 22, 22, 5, 10, 127, 9, 148, 154, 0, 8, 22, 5]
abbrev dktX1_whole_5 : List UInt8 := dkwX1_whole_5 ++ dktX1_whole_6
def dkwX1_whole_4 : List UInt8 := [22, 5, 173, 20, 0, 7, 22, 7, 105, 32, 148, 158, 0, 10, 22, 5, 10, 97, 167, 0, 5, 22, 5, 173]
abbrev dktX1_whole_4 : List UInt8 := dkwX1_whole_4 ++ dktX1_whole_5
def dkwX1_whole_3 : List UInt8 := [20, 0, 7, 22, 7, 105, 32, 148, 154, 0, 19, 30, 9, 148, 158, 0, 10, 22, 5, 10, 97, 167, 0, 5]
abbrev dktX1_whole_3 : List UInt8 := dkwX1_whole_3 ++ dktX1_whole_4
def dkwX1_whole_2 : List UInt8 := [170, 0, 0, 0, 167, 0, 0, 0, 0, 0, 0, 0, 4, 0, 0, 0, 33, 0, 0, 0, 81, 0, 0, 0, 132, 0, 0, 0, 148, 0, 0, 0, 164]
abbrev dktX1_whole_2 : List UInt8 := dkwX1_whole_2 ++ dktX1_whole_3
def dkwX1_whole_1 : List UInt8 := [173, 21, 4]
abbrev dktX1_whole_1 : List UInt8 := dkwX1_whole_1 ++ dktX1_whole_2
def dkwX1_whole_0 : List UInt8 := [30, 32, 184, 0, 1, 55, 5, 30, 22, 5, 32, 105, 101, 55, 7, 22, 7, 9, 148, 154, 0, 6, 22, 5]
abbrev dktX1_whole_0 : List UInt8 := dkwX1_whole_0 ++ dktX1_whole_1
theorem dksX1_whole_0 : cX1_whole.data.toList.drop 0 = dktX1_whole_0 := by decide +kernel
theorem dksX1_whole_1 : cX1_whole.data.toList.drop 24 = dktX1_whole_1 := dk_seg dksX1_whole_0 24 rfl rfl
theorem dksX1_whole_2 : cX1_whole.data.toList.drop 27 = dktX1_whole_2 := dk_seg dksX1_whole_1 3 rfl rfl
theorem dksX1_whole_3 : cX1_whole.data.toList.drop 60 = dktX1_whole_3 := dk_seg dksX1_whole_2 33 rfl rfl
theorem dksX1_whole_4 : cX1_whole.data.toList.drop 84 = dktX1_whole_4 := dk_seg dksX1_whole_3 24 rfl rfl
theorem dksX1_whole_5 : cX1_whole.data.toList.drop 108 = dktX1_whole_5 := dk_seg dksX1_whole_4 24 rfl rfl
theorem dksX1_whole_6 : cX1_whole.data.toList.drop 130 = dktX1_whole_6 := dk_seg dksX1_whole_5 22 rfl rfl
theorem dksX1_whole_7 : cX1_whole.data.toList.drop 153 = dktX1_whole_7 := dk_seg dksX1_whole_6 23 rfl rfl
theorem dksX1_whole_8 : cX1_whole.data.toList.drop 177 = dktX1_whole_8 := dk_seg dksX1_whole_7 24 rfl rfl
theorem dX1_whole_0 : decode cX1_whole 0 = .ok (.lload_n 0, 1) := dk_30 (dk_at dksX1_whole_0 0 rfl rfl)
theorem dX1_whole_1 : decode cX1_whole 1 = .ok (.lload_n 2, 1) := dk_32 (dk_at dksX1_whole_0 1 rfl rfl)
theorem dX1_whole_2 : decode cX1_whole 2 = .ok (.invokestatic 1, 3) := dk_184 0 1 (dk_at dksX1_whole_0 2 rfl rfl)
theorem dX1_whole_5 : decode cX1_whole 5 = .ok (.lstore 5, 2) := dk_55 5 (dk_at dksX1_whole_0 5 rfl rfl)
theorem dX1_whole_7 : decode cX1_whole 7 = .ok (.lload_n 0, 1) := dk_30 (dk_at dksX1_whole_0 7 rfl rfl)
theorem dX1_whole_8 : decode cX1_whole 8 = .ok (.lload 5, 2) := dk_22 5 (dk_at dksX1_whole_0 8 rfl rfl)
theorem dX1_whole_10 : decode cX1_whole 10 = .ok (.lload_n 2, 1) := dk_32 (dk_at dksX1_whole_0 10 rfl rfl)
theorem dX1_whole_11 : decode cX1_whole 11 = .ok (.lmul, 1) := dk_105 (dk_at dksX1_whole_0 11 rfl rfl)
theorem dX1_whole_12 : decode cX1_whole 12 = .ok (.lsub, 1) := dk_101 (dk_at dksX1_whole_0 12 rfl rfl)
theorem dX1_whole_13 : decode cX1_whole 13 = .ok (.lstore 7, 2) := dk_55 7 (dk_at dksX1_whole_0 13 rfl rfl)
theorem dX1_whole_15 : decode cX1_whole 15 = .ok (.lload 7, 2) := dk_22 7 (dk_at dksX1_whole_0 15 rfl rfl)
theorem dX1_whole_17 : decode cX1_whole 17 = .ok (.lconst 0, 1) := dk_9 (dk_at dksX1_whole_0 17 rfl rfl)
theorem dX1_whole_18 : decode cX1_whole 18 = .ok (.lcmp, 1) := dk_148 (dk_at dksX1_whole_0 18 rfl rfl)
theorem dX1_whole_19 : decode cX1_whole 19 = .ok (.ifCond .ne 6, 3) := dk_154 0 6 (dk_at dksX1_whole_0 19 rfl rfl)
theorem dX1_whole_22 : decode cX1_whole 22 = .ok (.lload 5, 2) := dk_22 5 (dk_at dksX1_whole_0 22 rfl rfl)
theorem dX1_whole_24 : decode cX1_whole 24 = .ok (.lreturn, 1) := dk_173 (dk_at dksX1_whole_1 0 rfl rfl)
theorem dX1_whole_25 : decode cX1_whole 25 = .ok (.iload 4, 2) := dk_21 4 (dk_at dksX1_whole_1 1 rfl rfl)
theorem dX1_whole_27 : decode cX1_whole 27 = .ok (.tableswitch 167 0 4 #[33, 81, 132, 148, 164], 33) := by decide +kernel
theorem dX1_whole_60 : decode cX1_whole 60 = .ok (.ldc2_w 7, 3) := dk_20 0 7 (dk_at dksX1_whole_3 0 rfl rfl)
theorem dX1_whole_63 : decode cX1_whole 63 = .ok (.lload 7, 2) := dk_22 7 (dk_at dksX1_whole_3 3 rfl rfl)
theorem dX1_whole_65 : decode cX1_whole 65 = .ok (.lmul, 1) := dk_105 (dk_at dksX1_whole_3 5 rfl rfl)
theorem dX1_whole_66 : decode cX1_whole 66 = .ok (.lload_n 2, 1) := dk_32 (dk_at dksX1_whole_3 6 rfl rfl)
theorem dX1_whole_67 : decode cX1_whole 67 = .ok (.lcmp, 1) := dk_148 (dk_at dksX1_whole_3 7 rfl rfl)
theorem dX1_whole_68 : decode cX1_whole 68 = .ok (.ifCond .ne 19, 3) := dk_154 0 19 (dk_at dksX1_whole_3 8 rfl rfl)
theorem dX1_whole_71 : decode cX1_whole 71 = .ok (.lload_n 0, 1) := dk_30 (dk_at dksX1_whole_3 11 rfl rfl)
theorem dX1_whole_72 : decode cX1_whole 72 = .ok (.lconst 0, 1) := dk_9 (dk_at dksX1_whole_3 12 rfl rfl)
theorem dX1_whole_73 : decode cX1_whole 73 = .ok (.lcmp, 1) := dk_148 (dk_at dksX1_whole_3 13 rfl rfl)
theorem dX1_whole_74 : decode cX1_whole 74 = .ok (.ifCond .le 10, 3) := dk_158 0 10 (dk_at dksX1_whole_3 14 rfl rfl)
theorem dX1_whole_77 : decode cX1_whole 77 = .ok (.lload 5, 2) := dk_22 5 (dk_at dksX1_whole_3 17 rfl rfl)
theorem dX1_whole_79 : decode cX1_whole 79 = .ok (.lconst 1, 1) := dk_10 (dk_at dksX1_whole_3 19 rfl rfl)
theorem dX1_whole_80 : decode cX1_whole 80 = .ok (.ladd, 1) := dk_97 (dk_at dksX1_whole_3 20 rfl rfl)
theorem dX1_whole_81 : decode cX1_whole 81 = .ok (.goto 5, 3) := dk_167 0 5 (dk_at dksX1_whole_3 21 rfl rfl)
theorem dX1_whole_84 : decode cX1_whole 84 = .ok (.lload 5, 2) := dk_22 5 (dk_at dksX1_whole_4 0 rfl rfl)
theorem dX1_whole_86 : decode cX1_whole 86 = .ok (.lreturn, 1) := dk_173 (dk_at dksX1_whole_4 2 rfl rfl)
theorem dX1_whole_87 : decode cX1_whole 87 = .ok (.ldc2_w 7, 3) := dk_20 0 7 (dk_at dksX1_whole_4 3 rfl rfl)
theorem dX1_whole_90 : decode cX1_whole 90 = .ok (.lload 7, 2) := dk_22 7 (dk_at dksX1_whole_4 6 rfl rfl)
theorem dX1_whole_92 : decode cX1_whole 92 = .ok (.lmul, 1) := dk_105 (dk_at dksX1_whole_4 8 rfl rfl)
theorem dX1_whole_93 : decode cX1_whole 93 = .ok (.lload_n 2, 1) := dk_32 (dk_at dksX1_whole_4 9 rfl rfl)
theorem dX1_whole_94 : decode cX1_whole 94 = .ok (.lcmp, 1) := dk_148 (dk_at dksX1_whole_4 10 rfl rfl)
theorem dX1_whole_95 : decode cX1_whole 95 = .ok (.ifCond .le 10, 3) := dk_158 0 10 (dk_at dksX1_whole_4 11 rfl rfl)
theorem dX1_whole_98 : decode cX1_whole 98 = .ok (.lload 5, 2) := dk_22 5 (dk_at dksX1_whole_4 14 rfl rfl)
theorem dX1_whole_100 : decode cX1_whole 100 = .ok (.lconst 1, 1) := dk_10 (dk_at dksX1_whole_4 16 rfl rfl)
theorem dX1_whole_101 : decode cX1_whole 101 = .ok (.ladd, 1) := dk_97 (dk_at dksX1_whole_4 17 rfl rfl)
theorem dX1_whole_102 : decode cX1_whole 102 = .ok (.goto 5, 3) := dk_167 0 5 (dk_at dksX1_whole_4 18 rfl rfl)
theorem dX1_whole_105 : decode cX1_whole 105 = .ok (.lload 5, 2) := dk_22 5 (dk_at dksX1_whole_4 21 rfl rfl)
theorem dX1_whole_107 : decode cX1_whole 107 = .ok (.lreturn, 1) := dk_173 (dk_at dksX1_whole_4 23 rfl rfl)
theorem dX1_whole_108 : decode cX1_whole 108 = .ok (.ldc2_w 7, 3) := dk_20 0 7 (dk_at dksX1_whole_5 0 rfl rfl)
theorem dX1_whole_111 : decode cX1_whole 111 = .ok (.lload 7, 2) := dk_22 7 (dk_at dksX1_whole_5 3 rfl rfl)
theorem dX1_whole_113 : decode cX1_whole 113 = .ok (.lmul, 1) := dk_105 (dk_at dksX1_whole_5 5 rfl rfl)
theorem dX1_whole_114 : decode cX1_whole 114 = .ok (.lload_n 2, 1) := dk_32 (dk_at dksX1_whole_5 6 rfl rfl)
theorem dX1_whole_115 : decode cX1_whole 115 = .ok (.lcmp, 1) := dk_148 (dk_at dksX1_whole_5 7 rfl rfl)
theorem dX1_whole_116 : decode cX1_whole 116 = .ok (.ifCond .ne 22, 3) := dk_154 0 22 (dk_at dksX1_whole_5 8 rfl rfl)
theorem dX1_whole_119 : decode cX1_whole 119 = .ok (.lload 5, 2) := dk_22 5 (dk_at dksX1_whole_5 11 rfl rfl)
theorem dX1_whole_121 : decode cX1_whole 121 = .ok (.lconst 1, 1) := dk_10 (dk_at dksX1_whole_5 13 rfl rfl)
theorem dX1_whole_122 : decode cX1_whole 122 = .ok (.land, 1) := dk_127 (dk_at dksX1_whole_5 14 rfl rfl)
theorem dX1_whole_123 : decode cX1_whole 123 = .ok (.lconst 0, 1) := dk_9 (dk_at dksX1_whole_5 15 rfl rfl)
theorem dX1_whole_124 : decode cX1_whole 124 = .ok (.lcmp, 1) := dk_148 (dk_at dksX1_whole_5 16 rfl rfl)
theorem dX1_whole_125 : decode cX1_whole 125 = .ok (.ifCond .ne 8, 3) := dk_154 0 8 (dk_at dksX1_whole_5 17 rfl rfl)
theorem dX1_whole_128 : decode cX1_whole 128 = .ok (.lload 5, 2) := dk_22 5 (dk_at dksX1_whole_5 20 rfl rfl)
theorem dX1_whole_130 : decode cX1_whole 130 = .ok (.goto 7, 3) := dk_167 0 7 (dk_at dksX1_whole_6 0 rfl rfl)
theorem dX1_whole_133 : decode cX1_whole 133 = .ok (.lload 5, 2) := dk_22 5 (dk_at dksX1_whole_6 3 rfl rfl)
theorem dX1_whole_135 : decode cX1_whole 135 = .ok (.lconst 1, 1) := dk_10 (dk_at dksX1_whole_6 5 rfl rfl)
theorem dX1_whole_136 : decode cX1_whole 136 = .ok (.ladd, 1) := dk_97 (dk_at dksX1_whole_6 6 rfl rfl)
theorem dX1_whole_137 : decode cX1_whole 137 = .ok (.lreturn, 1) := dk_173 (dk_at dksX1_whole_6 7 rfl rfl)
theorem dX1_whole_138 : decode cX1_whole 138 = .ok (.ldc2_w 7, 3) := dk_20 0 7 (dk_at dksX1_whole_6 8 rfl rfl)
theorem dX1_whole_141 : decode cX1_whole 141 = .ok (.lload 7, 2) := dk_22 7 (dk_at dksX1_whole_6 11 rfl rfl)
theorem dX1_whole_143 : decode cX1_whole 143 = .ok (.lmul, 1) := dk_105 (dk_at dksX1_whole_6 13 rfl rfl)
theorem dX1_whole_144 : decode cX1_whole 144 = .ok (.lload_n 2, 1) := dk_32 (dk_at dksX1_whole_6 14 rfl rfl)
theorem dX1_whole_145 : decode cX1_whole 145 = .ok (.lcmp, 1) := dk_148 (dk_at dksX1_whole_6 15 rfl rfl)
theorem dX1_whole_146 : decode cX1_whole 146 = .ok (.ifCond .le 10, 3) := dk_158 0 10 (dk_at dksX1_whole_6 16 rfl rfl)
theorem dX1_whole_149 : decode cX1_whole 149 = .ok (.lload 5, 2) := dk_22 5 (dk_at dksX1_whole_6 19 rfl rfl)
theorem dX1_whole_151 : decode cX1_whole 151 = .ok (.lconst 1, 1) := dk_10 (dk_at dksX1_whole_6 21 rfl rfl)
theorem dX1_whole_152 : decode cX1_whole 152 = .ok (.ladd, 1) := dk_97 (dk_at dksX1_whole_6 22 rfl rfl)
theorem dX1_whole_153 : decode cX1_whole 153 = .ok (.goto 5, 3) := dk_167 0 5 (dk_at dksX1_whole_7 0 rfl rfl)
theorem dX1_whole_156 : decode cX1_whole 156 = .ok (.lload 5, 2) := dk_22 5 (dk_at dksX1_whole_7 3 rfl rfl)
theorem dX1_whole_158 : decode cX1_whole 158 = .ok (.lreturn, 1) := dk_173 (dk_at dksX1_whole_7 5 rfl rfl)
theorem dX1_whole_159 : decode cX1_whole 159 = .ok (.lload_n 0, 1) := dk_30 (dk_at dksX1_whole_7 6 rfl rfl)
theorem dX1_whole_160 : decode cX1_whole 160 = .ok (.lconst 0, 1) := dk_9 (dk_at dksX1_whole_7 7 rfl rfl)
theorem dX1_whole_161 : decode cX1_whole 161 = .ok (.lcmp, 1) := dk_148 (dk_at dksX1_whole_7 8 rfl rfl)
theorem dX1_whole_162 : decode cX1_whole 162 = .ok (.ifCond .le 8, 3) := dk_158 0 8 (dk_at dksX1_whole_7 9 rfl rfl)
theorem dX1_whole_165 : decode cX1_whole 165 = .ok (.lload 5, 2) := dk_22 5 (dk_at dksX1_whole_7 12 rfl rfl)
theorem dX1_whole_167 : decode cX1_whole 167 = .ok (.goto 7, 3) := dk_167 0 7 (dk_at dksX1_whole_7 14 rfl rfl)
theorem dX1_whole_170 : decode cX1_whole 170 = .ok (.lload 5, 2) := dk_22 5 (dk_at dksX1_whole_7 17 rfl rfl)
theorem dX1_whole_172 : decode cX1_whole 172 = .ok (.lconst 1, 1) := dk_10 (dk_at dksX1_whole_7 19 rfl rfl)
theorem dX1_whole_173 : decode cX1_whole 173 = .ok (.ladd, 1) := dk_97 (dk_at dksX1_whole_7 20 rfl rfl)
theorem dX1_whole_174 : decode cX1_whole 174 = .ok (.lreturn, 1) := dk_173 (dk_at dksX1_whole_7 21 rfl rfl)
theorem dX1_whole_175 : decode cX1_whole 175 = .ok (.lload_n 0, 1) := dk_30 (dk_at dksX1_whole_7 22 rfl rfl)
theorem dX1_whole_176 : decode cX1_whole 176 = .ok (.lconst 0, 1) := dk_9 (dk_at dksX1_whole_7 23 rfl rfl)
theorem dX1_whole_177 : decode cX1_whole 177 = .ok (.lcmp, 1) := dk_148 (dk_at dksX1_whole_8 0 rfl rfl)
theorem dX1_whole_178 : decode cX1_whole 178 = .ok (.ifCond .le 10, 3) := dk_158 0 10 (dk_at dksX1_whole_8 1 rfl rfl)
theorem dX1_whole_181 : decode cX1_whole 181 = .ok (.lload 5, 2) := dk_22 5 (dk_at dksX1_whole_8 4 rfl rfl)
theorem dX1_whole_183 : decode cX1_whole 183 = .ok (.lconst 1, 1) := dk_10 (dk_at dksX1_whole_8 6 rfl rfl)
theorem dX1_whole_184 : decode cX1_whole 184 = .ok (.ladd, 1) := dk_97 (dk_at dksX1_whole_8 7 rfl rfl)
theorem dX1_whole_185 : decode cX1_whole 185 = .ok (.goto 5, 3) := dk_167 0 5 (dk_at dksX1_whole_8 8 rfl rfl)
theorem dX1_whole_188 : decode cX1_whole 188 = .ok (.lload 5, 2) := dk_22 5 (dk_at dksX1_whole_8 11 rfl rfl)
theorem dX1_whole_190 : decode cX1_whole 190 = .ok (.lreturn, 1) := dk_173 (dk_at dksX1_whole_8 13 rfl rfl)
theorem dX1_whole_191 : decode cX1_whole 191 = .ok (.lload 5, 2) := dk_22 5 (dk_at dksX1_whole_8 14 rfl rfl)
theorem dX1_whole_193 : decode cX1_whole 193 = .ok (.lreturn, 1) := dk_173 (dk_at dksX1_whole_8 16 rfl rfl)
theorem dX1_whole_194 : decode cX1_whole 194 = .ok (.lload 5, 2) := dk_22 5 (dk_at dksX1_whole_8 17 rfl rfl)
theorem dX1_whole_196 : decode cX1_whole 196 = .ok (.lconst 1, 1) := dk_10 (dk_at dksX1_whole_8 19 rfl rfl)
theorem dX1_whole_197 : decode cX1_whole 197 = .ok (.ladd, 1) := dk_97 (dk_at dksX1_whole_8 20 rfl rfl)
theorem dX1_whole_198 : decode cX1_whole 198 = .ok (.lreturn, 1) := dk_173 (dk_at dksX1_whole_8 21 rfl rfl)
abbrev cX1_share : ByteArray := prog_1_method_23_code
def yX1_share : MethodName := ⟨RX1, "share", "(JII[J)V"⟩
def dkwX1_share_15 : List UInt8 := [80, 22, 10, 10, 101, 55, 10, 167, 255, 183, 177]
abbrev dktX1_share_15 : List UInt8 := dkwX1_share_15 ++ []
def dkwX1_share_14 : List UInt8 := [132, 13, 1, 167, 255, 224, 25, 5, 21, 12, 92, 47, 10, 97, 80, 42, 180, 0, 121, 21, 12, 20, 0, 227]
abbrev dktX1_share_14 : List UInt8 := dkwX1_share_14 ++ dktX1_share_15
def dkwX1_share_13 : List UInt8 := [42, 180, 0, 121, 21, 13, 47, 42, 180, 0, 121, 21, 12, 47, 148, 158, 0, 7, 21, 13, 54, 12]
abbrev dktX1_share_13 : List UInt8 := dkwX1_share_13 ++ dktX1_share_14
def dkwX1_share_12 : List UInt8 := [167, 255, 209, 177, 22, 10, 9, 148, 158, 0, 72, 3, 54, 12, 4, 54, 13, 21, 13, 21, 7, 162, 0, 31]
abbrev dktX1_share_12 : List UInt8 := dkwX1_share_12 ++ dktX1_share_13
def dkwX1_share_11 : List UInt8 := [154, 0, 6, 167, 0, 18, 25, 5, 21, 12, 92, 47, 10, 97, 80, 22, 10, 10, 101, 55, 10, 132, 12, 1]
abbrev dktX1_share_11 : List UInt8 := dkwX1_share_11 ++ dktX1_share_12
def dkwX1_share_10 : List UInt8 := [21, 12, 21, 7, 162, 0, 46, 22, 10, 9, 148, 158, 0, 39, 42, 29, 21, 12, 21, 6, 182, 0, 219]
abbrev dktX1_share_10 : List UInt8 := dkwX1_share_10 ++ dktX1_share_11
def dkwX1_share_9 : List UInt8 := [25, 5, 21, 12, 47, 101, 55, 10, 132, 12, 1, 167, 255, 192, 21, 4, 4, 160, 0, 57, 3, 54, 12]
abbrev dktX1_share_9 : List UInt8 := dkwX1_share_9 ++ dktX1_share_10
def dkwX1_share_8 : List UInt8 := [184, 0, 1, 80, 42, 180, 0, 121, 21, 12, 22, 13, 25, 5, 21, 12, 47, 22, 8, 105, 101, 80, 22, 10]
abbrev dktX1_share_8 : List UInt8 := dkwX1_share_8 ++ dktX1_share_9
def dkwX1_share_7 : List UInt8 := [31, 42, 29, 21, 12, 21, 6, 182, 0, 219, 133, 105, 55, 13, 25, 5, 21, 12, 22, 13, 22, 8]
abbrev dktX1_share_7 : List UInt8 := dkwX1_share_7 ++ dktX1_share_8
def dkwX1_share_6 : List UInt8 := [132, 13, 1, 167, 255, 203, 25, 5, 21, 12, 22, 10, 80, 177, 3, 54, 12, 21, 12, 21, 7, 162, 0, 63]
abbrev dktX1_share_6 : List UInt8 := dkwX1_share_6 ++ dktX1_share_7
def dkwX1_share_5 : List UInt8 := [182, 0, 219, 133, 105, 22, 8, 3, 184, 0, 223, 80, 22, 10, 25, 5, 21, 13, 47, 101, 55, 10]
abbrev dktX1_share_5 : List UInt8 := dkwX1_share_5 ++ dktX1_share_6
def dkwX1_share_4 : List UInt8 := [162, 0, 52, 21, 13, 21, 12, 160, 0, 6, 167, 0, 36, 25, 5, 21, 13, 31, 42, 29, 21, 13, 21, 6]
abbrev dktX1_share_4 : List UInt8 := dkwX1_share_4 ++ dktX1_share_5
def dkwX1_share_3 : List UInt8 := [21, 4, 5, 160, 0, 10, 21, 7, 4, 100, 167, 0, 4, 3, 54, 12, 3, 54, 13, 21, 13, 21, 7]
abbrev dktX1_share_3 : List UInt8 := dkwX1_share_3 ++ dktX1_share_4
def dkwX1_share_2 : List UInt8 := [162, 0, 15, 25, 5, 21, 10, 9, 80, 132, 10, 1, 167, 255, 240, 31, 55, 10, 21, 4, 4, 164, 0, 86]
abbrev dktX1_share_2 : List UInt8 := dkwX1_share_2 ++ dktX1_share_3
def dkwX1_share_1 : List UInt8 := [21, 6, 154, 0, 9, 20, 0, 7, 167, 0, 6, 21, 6, 133, 55, 8, 3, 54, 10, 21, 10, 16, 8]
abbrev dktX1_share_1 : List UInt8 := dkwX1_share_1 ++ dktX1_share_2
def dkwX1_share_0 : List UInt8 := [42, 29, 182, 0, 215, 54, 6, 21, 6, 154, 0, 7, 5, 167, 0, 9, 42, 180, 0, 92, 29, 46, 54, 7]
abbrev dktX1_share_0 : List UInt8 := dkwX1_share_0 ++ dktX1_share_1
theorem dksX1_share_0 : cX1_share.data.toList.drop 0 = dktX1_share_0 := by decide +kernel
theorem dksX1_share_1 : cX1_share.data.toList.drop 24 = dktX1_share_1 := dk_seg dksX1_share_0 24 rfl rfl
theorem dksX1_share_2 : cX1_share.data.toList.drop 47 = dktX1_share_2 := dk_seg dksX1_share_1 23 rfl rfl
theorem dksX1_share_3 : cX1_share.data.toList.drop 71 = dktX1_share_3 := dk_seg dksX1_share_2 24 rfl rfl
theorem dksX1_share_4 : cX1_share.data.toList.drop 94 = dktX1_share_4 := dk_seg dksX1_share_3 23 rfl rfl
theorem dksX1_share_5 : cX1_share.data.toList.drop 118 = dktX1_share_5 := dk_seg dksX1_share_4 24 rfl rfl
theorem dksX1_share_6 : cX1_share.data.toList.drop 140 = dktX1_share_6 := dk_seg dksX1_share_5 22 rfl rfl
theorem dksX1_share_7 : cX1_share.data.toList.drop 164 = dktX1_share_7 := dk_seg dksX1_share_6 24 rfl rfl
theorem dksX1_share_8 : cX1_share.data.toList.drop 186 = dktX1_share_8 := dk_seg dksX1_share_7 22 rfl rfl
theorem dksX1_share_9 : cX1_share.data.toList.drop 210 = dktX1_share_9 := dk_seg dksX1_share_8 24 rfl rfl
theorem dksX1_share_10 : cX1_share.data.toList.drop 233 = dktX1_share_10 := dk_seg dksX1_share_9 23 rfl rfl
theorem dksX1_share_11 : cX1_share.data.toList.drop 256 = dktX1_share_11 := dk_seg dksX1_share_10 23 rfl rfl
theorem dksX1_share_12 : cX1_share.data.toList.drop 280 = dktX1_share_12 := dk_seg dksX1_share_11 24 rfl rfl
theorem dksX1_share_13 : cX1_share.data.toList.drop 304 = dktX1_share_13 := dk_seg dksX1_share_12 24 rfl rfl
theorem dksX1_share_14 : cX1_share.data.toList.drop 326 = dktX1_share_14 := dk_seg dksX1_share_13 22 rfl rfl
theorem dksX1_share_15 : cX1_share.data.toList.drop 350 = dktX1_share_15 := dk_seg dksX1_share_14 24 rfl rfl
theorem dX1_share_0 : decode cX1_share 0 = .ok (.aload_n 0, 1) := dk_42 (dk_at dksX1_share_0 0 rfl rfl)
theorem dX1_share_1 : decode cX1_share 1 = .ok (.iload_n 3, 1) := dk_29 (dk_at dksX1_share_0 1 rfl rfl)
theorem dX1_share_2 : decode cX1_share 2 = .ok (.invokevirtual 215, 3) := dk_182 0 215 (dk_at dksX1_share_0 2 rfl rfl)
theorem dX1_share_5 : decode cX1_share 5 = .ok (.istore 6, 2) := dk_54 6 (dk_at dksX1_share_0 5 rfl rfl)
theorem dX1_share_7 : decode cX1_share 7 = .ok (.iload 6, 2) := dk_21 6 (dk_at dksX1_share_0 7 rfl rfl)
theorem dX1_share_9 : decode cX1_share 9 = .ok (.ifCond .ne 7, 3) := dk_154 0 7 (dk_at dksX1_share_0 9 rfl rfl)
theorem dX1_share_12 : decode cX1_share 12 = .ok (.iconst 2, 1) := dk_5 (dk_at dksX1_share_0 12 rfl rfl)
theorem dX1_share_13 : decode cX1_share 13 = .ok (.goto 9, 3) := dk_167 0 9 (dk_at dksX1_share_0 13 rfl rfl)
theorem dX1_share_16 : decode cX1_share 16 = .ok (.aload_n 0, 1) := dk_42 (dk_at dksX1_share_0 16 rfl rfl)
theorem dX1_share_17 : decode cX1_share 17 = .ok (.getfield 92, 3) := dk_180 0 92 (dk_at dksX1_share_0 17 rfl rfl)
theorem dX1_share_20 : decode cX1_share 20 = .ok (.iload_n 3, 1) := dk_29 (dk_at dksX1_share_0 20 rfl rfl)
theorem dX1_share_21 : decode cX1_share 21 = .ok (.iaload, 1) := dk_46 (dk_at dksX1_share_0 21 rfl rfl)
theorem dX1_share_22 : decode cX1_share 22 = .ok (.istore 7, 2) := dk_54 7 (dk_at dksX1_share_0 22 rfl rfl)
theorem dX1_share_24 : decode cX1_share 24 = .ok (.iload 6, 2) := dk_21 6 (dk_at dksX1_share_1 0 rfl rfl)
theorem dX1_share_26 : decode cX1_share 26 = .ok (.ifCond .ne 9, 3) := dk_154 0 9 (dk_at dksX1_share_1 2 rfl rfl)
theorem dX1_share_29 : decode cX1_share 29 = .ok (.ldc2_w 7, 3) := dk_20 0 7 (dk_at dksX1_share_1 5 rfl rfl)
theorem dX1_share_32 : decode cX1_share 32 = .ok (.goto 6, 3) := dk_167 0 6 (dk_at dksX1_share_1 8 rfl rfl)
theorem dX1_share_35 : decode cX1_share 35 = .ok (.iload 6, 2) := dk_21 6 (dk_at dksX1_share_1 11 rfl rfl)
theorem dX1_share_37 : decode cX1_share 37 = .ok (.i2l, 1) := dk_133 (dk_at dksX1_share_1 13 rfl rfl)
theorem dX1_share_38 : decode cX1_share 38 = .ok (.lstore 8, 2) := dk_55 8 (dk_at dksX1_share_1 14 rfl rfl)
theorem dX1_share_40 : decode cX1_share 40 = .ok (.iconst 0, 1) := dk_3 (dk_at dksX1_share_1 16 rfl rfl)
theorem dX1_share_41 : decode cX1_share 41 = .ok (.istore 10, 2) := dk_54 10 (dk_at dksX1_share_1 17 rfl rfl)
theorem dX1_share_43 : decode cX1_share 43 = .ok (.iload 10, 2) := dk_21 10 (dk_at dksX1_share_1 19 rfl rfl)
theorem dX1_share_45 : decode cX1_share 45 = .ok (.bipush 8, 2) := dk_16 8 (dk_at dksX1_share_1 21 rfl rfl)
theorem dX1_share_47 : decode cX1_share 47 = .ok (.if_icmp .ge 15, 3) := dk_162 0 15 (dk_at dksX1_share_2 0 rfl rfl)
theorem dX1_share_50 : decode cX1_share 50 = .ok (.aload 5, 2) := dk_25 5 (dk_at dksX1_share_2 3 rfl rfl)
theorem dX1_share_52 : decode cX1_share 52 = .ok (.iload 10, 2) := dk_21 10 (dk_at dksX1_share_2 5 rfl rfl)
theorem dX1_share_54 : decode cX1_share 54 = .ok (.lconst 0, 1) := dk_9 (dk_at dksX1_share_2 7 rfl rfl)
theorem dX1_share_55 : decode cX1_share 55 = .ok (.lastore, 1) := dk_80 (dk_at dksX1_share_2 8 rfl rfl)
theorem dX1_share_56 : decode cX1_share 56 = .ok (.iinc 10 1, 3) := dk_132 10 1 (dk_at dksX1_share_2 9 rfl rfl)
theorem dX1_share_59 : decode cX1_share 59 = .ok (.goto (-16), 3) := dk_167 255 240 (dk_at dksX1_share_2 12 rfl rfl)
theorem dX1_share_62 : decode cX1_share 62 = .ok (.lload_n 1, 1) := dk_31 (dk_at dksX1_share_2 15 rfl rfl)
theorem dX1_share_63 : decode cX1_share 63 = .ok (.lstore 10, 2) := dk_55 10 (dk_at dksX1_share_2 16 rfl rfl)
theorem dX1_share_65 : decode cX1_share 65 = .ok (.iload 4, 2) := dk_21 4 (dk_at dksX1_share_2 18 rfl rfl)
theorem dX1_share_67 : decode cX1_share 67 = .ok (.iconst 1, 1) := dk_4 (dk_at dksX1_share_2 20 rfl rfl)
theorem dX1_share_68 : decode cX1_share 68 = .ok (.if_icmp .le 86, 3) := dk_164 0 86 (dk_at dksX1_share_2 21 rfl rfl)
theorem dX1_share_71 : decode cX1_share 71 = .ok (.iload 4, 2) := dk_21 4 (dk_at dksX1_share_3 0 rfl rfl)
theorem dX1_share_73 : decode cX1_share 73 = .ok (.iconst 2, 1) := dk_5 (dk_at dksX1_share_3 2 rfl rfl)
theorem dX1_share_74 : decode cX1_share 74 = .ok (.if_icmp .ne 10, 3) := dk_160 0 10 (dk_at dksX1_share_3 3 rfl rfl)
theorem dX1_share_77 : decode cX1_share 77 = .ok (.iload 7, 2) := dk_21 7 (dk_at dksX1_share_3 6 rfl rfl)
theorem dX1_share_79 : decode cX1_share 79 = .ok (.iconst 1, 1) := dk_4 (dk_at dksX1_share_3 8 rfl rfl)
theorem dX1_share_80 : decode cX1_share 80 = .ok (.isub, 1) := dk_100 (dk_at dksX1_share_3 9 rfl rfl)
theorem dX1_share_81 : decode cX1_share 81 = .ok (.goto 4, 3) := dk_167 0 4 (dk_at dksX1_share_3 10 rfl rfl)
theorem dX1_share_84 : decode cX1_share 84 = .ok (.iconst 0, 1) := dk_3 (dk_at dksX1_share_3 13 rfl rfl)
theorem dX1_share_85 : decode cX1_share 85 = .ok (.istore 12, 2) := dk_54 12 (dk_at dksX1_share_3 14 rfl rfl)
theorem dX1_share_87 : decode cX1_share 87 = .ok (.iconst 0, 1) := dk_3 (dk_at dksX1_share_3 16 rfl rfl)
theorem dX1_share_88 : decode cX1_share 88 = .ok (.istore 13, 2) := dk_54 13 (dk_at dksX1_share_3 17 rfl rfl)
theorem dX1_share_90 : decode cX1_share 90 = .ok (.iload 13, 2) := dk_21 13 (dk_at dksX1_share_3 19 rfl rfl)
theorem dX1_share_92 : decode cX1_share 92 = .ok (.iload 7, 2) := dk_21 7 (dk_at dksX1_share_3 21 rfl rfl)
theorem dX1_share_94 : decode cX1_share 94 = .ok (.if_icmp .ge 52, 3) := dk_162 0 52 (dk_at dksX1_share_4 0 rfl rfl)
theorem dX1_share_97 : decode cX1_share 97 = .ok (.iload 13, 2) := dk_21 13 (dk_at dksX1_share_4 3 rfl rfl)
theorem dX1_share_99 : decode cX1_share 99 = .ok (.iload 12, 2) := dk_21 12 (dk_at dksX1_share_4 5 rfl rfl)
theorem dX1_share_101 : decode cX1_share 101 = .ok (.if_icmp .ne 6, 3) := dk_160 0 6 (dk_at dksX1_share_4 7 rfl rfl)
theorem dX1_share_104 : decode cX1_share 104 = .ok (.goto 36, 3) := dk_167 0 36 (dk_at dksX1_share_4 10 rfl rfl)
theorem dX1_share_107 : decode cX1_share 107 = .ok (.aload 5, 2) := dk_25 5 (dk_at dksX1_share_4 13 rfl rfl)
theorem dX1_share_109 : decode cX1_share 109 = .ok (.iload 13, 2) := dk_21 13 (dk_at dksX1_share_4 15 rfl rfl)
theorem dX1_share_111 : decode cX1_share 111 = .ok (.lload_n 1, 1) := dk_31 (dk_at dksX1_share_4 17 rfl rfl)
theorem dX1_share_112 : decode cX1_share 112 = .ok (.aload_n 0, 1) := dk_42 (dk_at dksX1_share_4 18 rfl rfl)
theorem dX1_share_113 : decode cX1_share 113 = .ok (.iload_n 3, 1) := dk_29 (dk_at dksX1_share_4 19 rfl rfl)
theorem dX1_share_114 : decode cX1_share 114 = .ok (.iload 13, 2) := dk_21 13 (dk_at dksX1_share_4 20 rfl rfl)
theorem dX1_share_116 : decode cX1_share 116 = .ok (.iload 6, 2) := dk_21 6 (dk_at dksX1_share_4 22 rfl rfl)
theorem dX1_share_118 : decode cX1_share 118 = .ok (.invokevirtual 219, 3) := dk_182 0 219 (dk_at dksX1_share_5 0 rfl rfl)
theorem dX1_share_121 : decode cX1_share 121 = .ok (.i2l, 1) := dk_133 (dk_at dksX1_share_5 3 rfl rfl)
theorem dX1_share_122 : decode cX1_share 122 = .ok (.lmul, 1) := dk_105 (dk_at dksX1_share_5 4 rfl rfl)
theorem dX1_share_123 : decode cX1_share 123 = .ok (.lload 8, 2) := dk_22 8 (dk_at dksX1_share_5 5 rfl rfl)
theorem dX1_share_125 : decode cX1_share 125 = .ok (.iconst 0, 1) := dk_3 (dk_at dksX1_share_5 7 rfl rfl)
theorem dX1_share_126 : decode cX1_share 126 = .ok (.invokestatic 223, 3) := dk_184 0 223 (dk_at dksX1_share_5 8 rfl rfl)
theorem dX1_share_129 : decode cX1_share 129 = .ok (.lastore, 1) := dk_80 (dk_at dksX1_share_5 11 rfl rfl)
theorem dX1_share_130 : decode cX1_share 130 = .ok (.lload 10, 2) := dk_22 10 (dk_at dksX1_share_5 12 rfl rfl)
theorem dX1_share_132 : decode cX1_share 132 = .ok (.aload 5, 2) := dk_25 5 (dk_at dksX1_share_5 14 rfl rfl)
theorem dX1_share_134 : decode cX1_share 134 = .ok (.iload 13, 2) := dk_21 13 (dk_at dksX1_share_5 16 rfl rfl)
theorem dX1_share_136 : decode cX1_share 136 = .ok (.laload, 1) := dk_47 (dk_at dksX1_share_5 18 rfl rfl)
theorem dX1_share_137 : decode cX1_share 137 = .ok (.lsub, 1) := dk_101 (dk_at dksX1_share_5 19 rfl rfl)
theorem dX1_share_138 : decode cX1_share 138 = .ok (.lstore 10, 2) := dk_55 10 (dk_at dksX1_share_5 20 rfl rfl)
theorem dX1_share_140 : decode cX1_share 140 = .ok (.iinc 13 1, 3) := dk_132 13 1 (dk_at dksX1_share_6 0 rfl rfl)
theorem dX1_share_143 : decode cX1_share 143 = .ok (.goto (-53), 3) := dk_167 255 203 (dk_at dksX1_share_6 3 rfl rfl)
theorem dX1_share_146 : decode cX1_share 146 = .ok (.aload 5, 2) := dk_25 5 (dk_at dksX1_share_6 6 rfl rfl)
theorem dX1_share_148 : decode cX1_share 148 = .ok (.iload 12, 2) := dk_21 12 (dk_at dksX1_share_6 8 rfl rfl)
theorem dX1_share_150 : decode cX1_share 150 = .ok (.lload 10, 2) := dk_22 10 (dk_at dksX1_share_6 10 rfl rfl)
theorem dX1_share_152 : decode cX1_share 152 = .ok (.lastore, 1) := dk_80 (dk_at dksX1_share_6 12 rfl rfl)
theorem dX1_share_153 : decode cX1_share 153 = .ok (.return_, 1) := dk_177 (dk_at dksX1_share_6 13 rfl rfl)
theorem dX1_share_154 : decode cX1_share 154 = .ok (.iconst 0, 1) := dk_3 (dk_at dksX1_share_6 14 rfl rfl)
theorem dX1_share_155 : decode cX1_share 155 = .ok (.istore 12, 2) := dk_54 12 (dk_at dksX1_share_6 15 rfl rfl)
theorem dX1_share_157 : decode cX1_share 157 = .ok (.iload 12, 2) := dk_21 12 (dk_at dksX1_share_6 17 rfl rfl)
theorem dX1_share_159 : decode cX1_share 159 = .ok (.iload 7, 2) := dk_21 7 (dk_at dksX1_share_6 19 rfl rfl)
theorem dX1_share_161 : decode cX1_share 161 = .ok (.if_icmp .ge 63, 3) := dk_162 0 63 (dk_at dksX1_share_6 21 rfl rfl)
theorem dX1_share_164 : decode cX1_share 164 = .ok (.lload_n 1, 1) := dk_31 (dk_at dksX1_share_7 0 rfl rfl)
theorem dX1_share_165 : decode cX1_share 165 = .ok (.aload_n 0, 1) := dk_42 (dk_at dksX1_share_7 1 rfl rfl)
theorem dX1_share_166 : decode cX1_share 166 = .ok (.iload_n 3, 1) := dk_29 (dk_at dksX1_share_7 2 rfl rfl)
theorem dX1_share_167 : decode cX1_share 167 = .ok (.iload 12, 2) := dk_21 12 (dk_at dksX1_share_7 3 rfl rfl)
theorem dX1_share_169 : decode cX1_share 169 = .ok (.iload 6, 2) := dk_21 6 (dk_at dksX1_share_7 5 rfl rfl)
theorem dX1_share_171 : decode cX1_share 171 = .ok (.invokevirtual 219, 3) := dk_182 0 219 (dk_at dksX1_share_7 7 rfl rfl)
theorem dX1_share_174 : decode cX1_share 174 = .ok (.i2l, 1) := dk_133 (dk_at dksX1_share_7 10 rfl rfl)
theorem dX1_share_175 : decode cX1_share 175 = .ok (.lmul, 1) := dk_105 (dk_at dksX1_share_7 11 rfl rfl)
theorem dX1_share_176 : decode cX1_share 176 = .ok (.lstore 13, 2) := dk_55 13 (dk_at dksX1_share_7 12 rfl rfl)
theorem dX1_share_178 : decode cX1_share 178 = .ok (.aload 5, 2) := dk_25 5 (dk_at dksX1_share_7 14 rfl rfl)
theorem dX1_share_180 : decode cX1_share 180 = .ok (.iload 12, 2) := dk_21 12 (dk_at dksX1_share_7 16 rfl rfl)
theorem dX1_share_182 : decode cX1_share 182 = .ok (.lload 13, 2) := dk_22 13 (dk_at dksX1_share_7 18 rfl rfl)
theorem dX1_share_184 : decode cX1_share 184 = .ok (.lload 8, 2) := dk_22 8 (dk_at dksX1_share_7 20 rfl rfl)
theorem dX1_share_186 : decode cX1_share 186 = .ok (.invokestatic 1, 3) := dk_184 0 1 (dk_at dksX1_share_8 0 rfl rfl)
theorem dX1_share_189 : decode cX1_share 189 = .ok (.lastore, 1) := dk_80 (dk_at dksX1_share_8 3 rfl rfl)
theorem dX1_share_190 : decode cX1_share 190 = .ok (.aload_n 0, 1) := dk_42 (dk_at dksX1_share_8 4 rfl rfl)
theorem dX1_share_191 : decode cX1_share 191 = .ok (.getfield 121, 3) := dk_180 0 121 (dk_at dksX1_share_8 5 rfl rfl)
theorem dX1_share_194 : decode cX1_share 194 = .ok (.iload 12, 2) := dk_21 12 (dk_at dksX1_share_8 8 rfl rfl)
theorem dX1_share_196 : decode cX1_share 196 = .ok (.lload 13, 2) := dk_22 13 (dk_at dksX1_share_8 10 rfl rfl)
theorem dX1_share_198 : decode cX1_share 198 = .ok (.aload 5, 2) := dk_25 5 (dk_at dksX1_share_8 12 rfl rfl)
theorem dX1_share_200 : decode cX1_share 200 = .ok (.iload 12, 2) := dk_21 12 (dk_at dksX1_share_8 14 rfl rfl)
theorem dX1_share_202 : decode cX1_share 202 = .ok (.laload, 1) := dk_47 (dk_at dksX1_share_8 16 rfl rfl)
theorem dX1_share_203 : decode cX1_share 203 = .ok (.lload 8, 2) := dk_22 8 (dk_at dksX1_share_8 17 rfl rfl)
theorem dX1_share_205 : decode cX1_share 205 = .ok (.lmul, 1) := dk_105 (dk_at dksX1_share_8 19 rfl rfl)
theorem dX1_share_206 : decode cX1_share 206 = .ok (.lsub, 1) := dk_101 (dk_at dksX1_share_8 20 rfl rfl)
theorem dX1_share_207 : decode cX1_share 207 = .ok (.lastore, 1) := dk_80 (dk_at dksX1_share_8 21 rfl rfl)
theorem dX1_share_208 : decode cX1_share 208 = .ok (.lload 10, 2) := dk_22 10 (dk_at dksX1_share_8 22 rfl rfl)
theorem dX1_share_210 : decode cX1_share 210 = .ok (.aload 5, 2) := dk_25 5 (dk_at dksX1_share_9 0 rfl rfl)
theorem dX1_share_212 : decode cX1_share 212 = .ok (.iload 12, 2) := dk_21 12 (dk_at dksX1_share_9 2 rfl rfl)
theorem dX1_share_214 : decode cX1_share 214 = .ok (.laload, 1) := dk_47 (dk_at dksX1_share_9 4 rfl rfl)
theorem dX1_share_215 : decode cX1_share 215 = .ok (.lsub, 1) := dk_101 (dk_at dksX1_share_9 5 rfl rfl)
theorem dX1_share_216 : decode cX1_share 216 = .ok (.lstore 10, 2) := dk_55 10 (dk_at dksX1_share_9 6 rfl rfl)
theorem dX1_share_218 : decode cX1_share 218 = .ok (.iinc 12 1, 3) := dk_132 12 1 (dk_at dksX1_share_9 8 rfl rfl)
theorem dX1_share_221 : decode cX1_share 221 = .ok (.goto (-64), 3) := dk_167 255 192 (dk_at dksX1_share_9 11 rfl rfl)
theorem dX1_share_224 : decode cX1_share 224 = .ok (.iload 4, 2) := dk_21 4 (dk_at dksX1_share_9 14 rfl rfl)
theorem dX1_share_226 : decode cX1_share 226 = .ok (.iconst 1, 1) := dk_4 (dk_at dksX1_share_9 16 rfl rfl)
theorem dX1_share_227 : decode cX1_share 227 = .ok (.if_icmp .ne 57, 3) := dk_160 0 57 (dk_at dksX1_share_9 17 rfl rfl)
theorem dX1_share_230 : decode cX1_share 230 = .ok (.iconst 0, 1) := dk_3 (dk_at dksX1_share_9 20 rfl rfl)
theorem dX1_share_231 : decode cX1_share 231 = .ok (.istore 12, 2) := dk_54 12 (dk_at dksX1_share_9 21 rfl rfl)
theorem dX1_share_233 : decode cX1_share 233 = .ok (.iload 12, 2) := dk_21 12 (dk_at dksX1_share_10 0 rfl rfl)
theorem dX1_share_235 : decode cX1_share 235 = .ok (.iload 7, 2) := dk_21 7 (dk_at dksX1_share_10 2 rfl rfl)
theorem dX1_share_237 : decode cX1_share 237 = .ok (.if_icmp .ge 46, 3) := dk_162 0 46 (dk_at dksX1_share_10 4 rfl rfl)
theorem dX1_share_240 : decode cX1_share 240 = .ok (.lload 10, 2) := dk_22 10 (dk_at dksX1_share_10 7 rfl rfl)
theorem dX1_share_242 : decode cX1_share 242 = .ok (.lconst 0, 1) := dk_9 (dk_at dksX1_share_10 9 rfl rfl)
theorem dX1_share_243 : decode cX1_share 243 = .ok (.lcmp, 1) := dk_148 (dk_at dksX1_share_10 10 rfl rfl)
theorem dX1_share_244 : decode cX1_share 244 = .ok (.ifCond .le 39, 3) := dk_158 0 39 (dk_at dksX1_share_10 11 rfl rfl)
theorem dX1_share_247 : decode cX1_share 247 = .ok (.aload_n 0, 1) := dk_42 (dk_at dksX1_share_10 14 rfl rfl)
theorem dX1_share_248 : decode cX1_share 248 = .ok (.iload_n 3, 1) := dk_29 (dk_at dksX1_share_10 15 rfl rfl)
theorem dX1_share_249 : decode cX1_share 249 = .ok (.iload 12, 2) := dk_21 12 (dk_at dksX1_share_10 16 rfl rfl)
theorem dX1_share_251 : decode cX1_share 251 = .ok (.iload 6, 2) := dk_21 6 (dk_at dksX1_share_10 18 rfl rfl)
theorem dX1_share_253 : decode cX1_share 253 = .ok (.invokevirtual 219, 3) := dk_182 0 219 (dk_at dksX1_share_10 20 rfl rfl)
theorem dX1_share_256 : decode cX1_share 256 = .ok (.ifCond .ne 6, 3) := dk_154 0 6 (dk_at dksX1_share_11 0 rfl rfl)
theorem dX1_share_259 : decode cX1_share 259 = .ok (.goto 18, 3) := dk_167 0 18 (dk_at dksX1_share_11 3 rfl rfl)
theorem dX1_share_262 : decode cX1_share 262 = .ok (.aload 5, 2) := dk_25 5 (dk_at dksX1_share_11 6 rfl rfl)
theorem dX1_share_264 : decode cX1_share 264 = .ok (.iload 12, 2) := dk_21 12 (dk_at dksX1_share_11 8 rfl rfl)
theorem dX1_share_266 : decode cX1_share 266 = .ok (.dup2, 1) := dk_92 (dk_at dksX1_share_11 10 rfl rfl)
theorem dX1_share_267 : decode cX1_share 267 = .ok (.laload, 1) := dk_47 (dk_at dksX1_share_11 11 rfl rfl)
theorem dX1_share_268 : decode cX1_share 268 = .ok (.lconst 1, 1) := dk_10 (dk_at dksX1_share_11 12 rfl rfl)
theorem dX1_share_269 : decode cX1_share 269 = .ok (.ladd, 1) := dk_97 (dk_at dksX1_share_11 13 rfl rfl)
theorem dX1_share_270 : decode cX1_share 270 = .ok (.lastore, 1) := dk_80 (dk_at dksX1_share_11 14 rfl rfl)
theorem dX1_share_271 : decode cX1_share 271 = .ok (.lload 10, 2) := dk_22 10 (dk_at dksX1_share_11 15 rfl rfl)
theorem dX1_share_273 : decode cX1_share 273 = .ok (.lconst 1, 1) := dk_10 (dk_at dksX1_share_11 17 rfl rfl)
theorem dX1_share_274 : decode cX1_share 274 = .ok (.lsub, 1) := dk_101 (dk_at dksX1_share_11 18 rfl rfl)
theorem dX1_share_275 : decode cX1_share 275 = .ok (.lstore 10, 2) := dk_55 10 (dk_at dksX1_share_11 19 rfl rfl)
theorem dX1_share_277 : decode cX1_share 277 = .ok (.iinc 12 1, 3) := dk_132 12 1 (dk_at dksX1_share_11 21 rfl rfl)
theorem dX1_share_280 : decode cX1_share 280 = .ok (.goto (-47), 3) := dk_167 255 209 (dk_at dksX1_share_12 0 rfl rfl)
theorem dX1_share_283 : decode cX1_share 283 = .ok (.return_, 1) := dk_177 (dk_at dksX1_share_12 3 rfl rfl)
theorem dX1_share_284 : decode cX1_share 284 = .ok (.lload 10, 2) := dk_22 10 (dk_at dksX1_share_12 4 rfl rfl)
theorem dX1_share_286 : decode cX1_share 286 = .ok (.lconst 0, 1) := dk_9 (dk_at dksX1_share_12 6 rfl rfl)
theorem dX1_share_287 : decode cX1_share 287 = .ok (.lcmp, 1) := dk_148 (dk_at dksX1_share_12 7 rfl rfl)
theorem dX1_share_288 : decode cX1_share 288 = .ok (.ifCond .le 72, 3) := dk_158 0 72 (dk_at dksX1_share_12 8 rfl rfl)
theorem dX1_share_291 : decode cX1_share 291 = .ok (.iconst 0, 1) := dk_3 (dk_at dksX1_share_12 11 rfl rfl)
theorem dX1_share_292 : decode cX1_share 292 = .ok (.istore 12, 2) := dk_54 12 (dk_at dksX1_share_12 12 rfl rfl)
theorem dX1_share_294 : decode cX1_share 294 = .ok (.iconst 1, 1) := dk_4 (dk_at dksX1_share_12 14 rfl rfl)
theorem dX1_share_295 : decode cX1_share 295 = .ok (.istore 13, 2) := dk_54 13 (dk_at dksX1_share_12 15 rfl rfl)
theorem dX1_share_297 : decode cX1_share 297 = .ok (.iload 13, 2) := dk_21 13 (dk_at dksX1_share_12 17 rfl rfl)
theorem dX1_share_299 : decode cX1_share 299 = .ok (.iload 7, 2) := dk_21 7 (dk_at dksX1_share_12 19 rfl rfl)
theorem dX1_share_301 : decode cX1_share 301 = .ok (.if_icmp .ge 31, 3) := dk_162 0 31 (dk_at dksX1_share_12 21 rfl rfl)
theorem dX1_share_304 : decode cX1_share 304 = .ok (.aload_n 0, 1) := dk_42 (dk_at dksX1_share_13 0 rfl rfl)
theorem dX1_share_305 : decode cX1_share 305 = .ok (.getfield 121, 3) := dk_180 0 121 (dk_at dksX1_share_13 1 rfl rfl)
theorem dX1_share_308 : decode cX1_share 308 = .ok (.iload 13, 2) := dk_21 13 (dk_at dksX1_share_13 4 rfl rfl)
theorem dX1_share_310 : decode cX1_share 310 = .ok (.laload, 1) := dk_47 (dk_at dksX1_share_13 6 rfl rfl)
theorem dX1_share_311 : decode cX1_share 311 = .ok (.aload_n 0, 1) := dk_42 (dk_at dksX1_share_13 7 rfl rfl)
theorem dX1_share_312 : decode cX1_share 312 = .ok (.getfield 121, 3) := dk_180 0 121 (dk_at dksX1_share_13 8 rfl rfl)
theorem dX1_share_315 : decode cX1_share 315 = .ok (.iload 12, 2) := dk_21 12 (dk_at dksX1_share_13 11 rfl rfl)
theorem dX1_share_317 : decode cX1_share 317 = .ok (.laload, 1) := dk_47 (dk_at dksX1_share_13 13 rfl rfl)
theorem dX1_share_318 : decode cX1_share 318 = .ok (.lcmp, 1) := dk_148 (dk_at dksX1_share_13 14 rfl rfl)
theorem dX1_share_319 : decode cX1_share 319 = .ok (.ifCond .le 7, 3) := dk_158 0 7 (dk_at dksX1_share_13 15 rfl rfl)
theorem dX1_share_322 : decode cX1_share 322 = .ok (.iload 13, 2) := dk_21 13 (dk_at dksX1_share_13 18 rfl rfl)
theorem dX1_share_324 : decode cX1_share 324 = .ok (.istore 12, 2) := dk_54 12 (dk_at dksX1_share_13 20 rfl rfl)
theorem dX1_share_326 : decode cX1_share 326 = .ok (.iinc 13 1, 3) := dk_132 13 1 (dk_at dksX1_share_14 0 rfl rfl)
theorem dX1_share_329 : decode cX1_share 329 = .ok (.goto (-32), 3) := dk_167 255 224 (dk_at dksX1_share_14 3 rfl rfl)
theorem dX1_share_332 : decode cX1_share 332 = .ok (.aload 5, 2) := dk_25 5 (dk_at dksX1_share_14 6 rfl rfl)
theorem dX1_share_334 : decode cX1_share 334 = .ok (.iload 12, 2) := dk_21 12 (dk_at dksX1_share_14 8 rfl rfl)
theorem dX1_share_336 : decode cX1_share 336 = .ok (.dup2, 1) := dk_92 (dk_at dksX1_share_14 10 rfl rfl)
theorem dX1_share_337 : decode cX1_share 337 = .ok (.laload, 1) := dk_47 (dk_at dksX1_share_14 11 rfl rfl)
theorem dX1_share_338 : decode cX1_share 338 = .ok (.lconst 1, 1) := dk_10 (dk_at dksX1_share_14 12 rfl rfl)
theorem dX1_share_339 : decode cX1_share 339 = .ok (.ladd, 1) := dk_97 (dk_at dksX1_share_14 13 rfl rfl)
theorem dX1_share_340 : decode cX1_share 340 = .ok (.lastore, 1) := dk_80 (dk_at dksX1_share_14 14 rfl rfl)
theorem dX1_share_341 : decode cX1_share 341 = .ok (.aload_n 0, 1) := dk_42 (dk_at dksX1_share_14 15 rfl rfl)
theorem dX1_share_342 : decode cX1_share 342 = .ok (.getfield 121, 3) := dk_180 0 121 (dk_at dksX1_share_14 16 rfl rfl)
theorem dX1_share_345 : decode cX1_share 345 = .ok (.iload 12, 2) := dk_21 12 (dk_at dksX1_share_14 19 rfl rfl)
theorem dX1_share_347 : decode cX1_share 347 = .ok (.ldc2_w 227, 3) := dk_20 0 227 (dk_at dksX1_share_14 21 rfl rfl)
theorem dX1_share_350 : decode cX1_share 350 = .ok (.lastore, 1) := dk_80 (dk_at dksX1_share_15 0 rfl rfl)
theorem dX1_share_351 : decode cX1_share 351 = .ok (.lload 10, 2) := dk_22 10 (dk_at dksX1_share_15 1 rfl rfl)
theorem dX1_share_353 : decode cX1_share 353 = .ok (.lconst 1, 1) := dk_10 (dk_at dksX1_share_15 3 rfl rfl)
theorem dX1_share_354 : decode cX1_share 354 = .ok (.lsub, 1) := dk_101 (dk_at dksX1_share_15 4 rfl rfl)
theorem dX1_share_355 : decode cX1_share 355 = .ok (.lstore 10, 2) := dk_55 10 (dk_at dksX1_share_15 5 rfl rfl)
theorem dX1_share_357 : decode cX1_share 357 = .ok (.goto (-73), 3) := dk_167 255 183 (dk_at dksX1_share_15 7 rfl rfl)
theorem dX1_share_360 : decode cX1_share 360 = .ok (.return_, 1) := dk_177 (dk_at dksX1_share_15 10 rfl rfl)
abbrev cX1_wholeWeight : ByteArray := prog_1_method_21_code
def yX1_wholeWeight : MethodName := ⟨RX1, "wholeWeight", "(I)I"⟩
def dkwX1_wholeWeight_1 : List UInt8 := [96, 46, 96, 61, 132, 3, 1, 167, 255, 229, 28, 172]
abbrev dktX1_wholeWeight_1 : List UInt8 := dkwX1_wholeWeight_1 ++ []
def dkwX1_wholeWeight_0 : List UInt8 := [3, 61, 3, 62, 29, 42, 180, 0, 92, 27, 46, 162, 0, 23, 28, 42, 180, 0, 89, 27, 16, 8, 104, 29]
abbrev dktX1_wholeWeight_0 : List UInt8 := dkwX1_wholeWeight_0 ++ dktX1_wholeWeight_1
theorem dksX1_wholeWeight_0 : cX1_wholeWeight.data.toList.drop 0 = dktX1_wholeWeight_0 := by decide +kernel
theorem dksX1_wholeWeight_1 : cX1_wholeWeight.data.toList.drop 24 = dktX1_wholeWeight_1 := dk_seg dksX1_wholeWeight_0 24 rfl rfl
theorem dX1_wholeWeight_0 : decode cX1_wholeWeight 0 = .ok (.iconst 0, 1) := dk_3 (dk_at dksX1_wholeWeight_0 0 rfl rfl)
theorem dX1_wholeWeight_1 : decode cX1_wholeWeight 1 = .ok (.istore_n 2, 1) := dk_61 (dk_at dksX1_wholeWeight_0 1 rfl rfl)
theorem dX1_wholeWeight_2 : decode cX1_wholeWeight 2 = .ok (.iconst 0, 1) := dk_3 (dk_at dksX1_wholeWeight_0 2 rfl rfl)
theorem dX1_wholeWeight_3 : decode cX1_wholeWeight 3 = .ok (.istore_n 3, 1) := dk_62 (dk_at dksX1_wholeWeight_0 3 rfl rfl)
theorem dX1_wholeWeight_4 : decode cX1_wholeWeight 4 = .ok (.iload_n 3, 1) := dk_29 (dk_at dksX1_wholeWeight_0 4 rfl rfl)
theorem dX1_wholeWeight_5 : decode cX1_wholeWeight 5 = .ok (.aload_n 0, 1) := dk_42 (dk_at dksX1_wholeWeight_0 5 rfl rfl)
theorem dX1_wholeWeight_6 : decode cX1_wholeWeight 6 = .ok (.getfield 92, 3) := dk_180 0 92 (dk_at dksX1_wholeWeight_0 6 rfl rfl)
theorem dX1_wholeWeight_9 : decode cX1_wholeWeight 9 = .ok (.iload_n 1, 1) := dk_27 (dk_at dksX1_wholeWeight_0 9 rfl rfl)
theorem dX1_wholeWeight_10 : decode cX1_wholeWeight 10 = .ok (.iaload, 1) := dk_46 (dk_at dksX1_wholeWeight_0 10 rfl rfl)
theorem dX1_wholeWeight_11 : decode cX1_wholeWeight 11 = .ok (.if_icmp .ge 23, 3) := dk_162 0 23 (dk_at dksX1_wholeWeight_0 11 rfl rfl)
theorem dX1_wholeWeight_14 : decode cX1_wholeWeight 14 = .ok (.iload_n 2, 1) := dk_28 (dk_at dksX1_wholeWeight_0 14 rfl rfl)
theorem dX1_wholeWeight_15 : decode cX1_wholeWeight 15 = .ok (.aload_n 0, 1) := dk_42 (dk_at dksX1_wholeWeight_0 15 rfl rfl)
theorem dX1_wholeWeight_16 : decode cX1_wholeWeight 16 = .ok (.getfield 89, 3) := dk_180 0 89 (dk_at dksX1_wholeWeight_0 16 rfl rfl)
theorem dX1_wholeWeight_19 : decode cX1_wholeWeight 19 = .ok (.iload_n 1, 1) := dk_27 (dk_at dksX1_wholeWeight_0 19 rfl rfl)
theorem dX1_wholeWeight_20 : decode cX1_wholeWeight 20 = .ok (.bipush 8, 2) := dk_16 8 (dk_at dksX1_wholeWeight_0 20 rfl rfl)
theorem dX1_wholeWeight_22 : decode cX1_wholeWeight 22 = .ok (.imul, 1) := dk_104 (dk_at dksX1_wholeWeight_0 22 rfl rfl)
theorem dX1_wholeWeight_23 : decode cX1_wholeWeight 23 = .ok (.iload_n 3, 1) := dk_29 (dk_at dksX1_wholeWeight_0 23 rfl rfl)
theorem dX1_wholeWeight_24 : decode cX1_wholeWeight 24 = .ok (.iadd, 1) := dk_96 (dk_at dksX1_wholeWeight_1 0 rfl rfl)
theorem dX1_wholeWeight_25 : decode cX1_wholeWeight 25 = .ok (.iaload, 1) := dk_46 (dk_at dksX1_wholeWeight_1 1 rfl rfl)
theorem dX1_wholeWeight_26 : decode cX1_wholeWeight 26 = .ok (.iadd, 1) := dk_96 (dk_at dksX1_wholeWeight_1 2 rfl rfl)
theorem dX1_wholeWeight_27 : decode cX1_wholeWeight 27 = .ok (.istore_n 2, 1) := dk_61 (dk_at dksX1_wholeWeight_1 3 rfl rfl)
theorem dX1_wholeWeight_28 : decode cX1_wholeWeight 28 = .ok (.iinc 3 1, 3) := dk_132 3 1 (dk_at dksX1_wholeWeight_1 4 rfl rfl)
theorem dX1_wholeWeight_31 : decode cX1_wholeWeight 31 = .ok (.goto (-27), 3) := dk_167 255 229 (dk_at dksX1_wholeWeight_1 7 rfl rfl)
theorem dX1_wholeWeight_34 : decode cX1_wholeWeight 34 = .ok (.iload_n 2, 1) := dk_28 (dk_at dksX1_wholeWeight_1 10 rfl rfl)
theorem dX1_wholeWeight_35 : decode cX1_wholeWeight 35 = .ok (.ireturn, 1) := dk_172 (dk_at dksX1_wholeWeight_1 11 rfl rfl)
abbrev cX1_weightOf : ByteArray := prog_1_method_22_code
def yX1_weightOf : MethodName := ⟨RX1, "weightOf", "(III)I"⟩
def dkwX1_weightOf_1 : List UInt8 := [104, 28, 96, 46, 172]
abbrev dktX1_weightOf_1 : List UInt8 := dkwX1_weightOf_1 ++ []
def dkwX1_weightOf_0 : List UInt8 := [29, 154, 0, 16, 28, 5, 162, 0, 7, 4, 167, 0, 18, 3, 167, 0, 14, 42, 180, 0, 89, 27, 16, 8]
abbrev dktX1_weightOf_0 : List UInt8 := dkwX1_weightOf_0 ++ dktX1_weightOf_1
theorem dksX1_weightOf_0 : cX1_weightOf.data.toList.drop 0 = dktX1_weightOf_0 := by decide +kernel
theorem dksX1_weightOf_1 : cX1_weightOf.data.toList.drop 24 = dktX1_weightOf_1 := dk_seg dksX1_weightOf_0 24 rfl rfl
theorem dX1_weightOf_0 : decode cX1_weightOf 0 = .ok (.iload_n 3, 1) := dk_29 (dk_at dksX1_weightOf_0 0 rfl rfl)
theorem dX1_weightOf_1 : decode cX1_weightOf 1 = .ok (.ifCond .ne 16, 3) := dk_154 0 16 (dk_at dksX1_weightOf_0 1 rfl rfl)
theorem dX1_weightOf_4 : decode cX1_weightOf 4 = .ok (.iload_n 2, 1) := dk_28 (dk_at dksX1_weightOf_0 4 rfl rfl)
theorem dX1_weightOf_5 : decode cX1_weightOf 5 = .ok (.iconst 2, 1) := dk_5 (dk_at dksX1_weightOf_0 5 rfl rfl)
theorem dX1_weightOf_6 : decode cX1_weightOf 6 = .ok (.if_icmp .ge 7, 3) := dk_162 0 7 (dk_at dksX1_weightOf_0 6 rfl rfl)
theorem dX1_weightOf_9 : decode cX1_weightOf 9 = .ok (.iconst 1, 1) := dk_4 (dk_at dksX1_weightOf_0 9 rfl rfl)
theorem dX1_weightOf_10 : decode cX1_weightOf 10 = .ok (.goto 18, 3) := dk_167 0 18 (dk_at dksX1_weightOf_0 10 rfl rfl)
theorem dX1_weightOf_13 : decode cX1_weightOf 13 = .ok (.iconst 0, 1) := dk_3 (dk_at dksX1_weightOf_0 13 rfl rfl)
theorem dX1_weightOf_14 : decode cX1_weightOf 14 = .ok (.goto 14, 3) := dk_167 0 14 (dk_at dksX1_weightOf_0 14 rfl rfl)
theorem dX1_weightOf_17 : decode cX1_weightOf 17 = .ok (.aload_n 0, 1) := dk_42 (dk_at dksX1_weightOf_0 17 rfl rfl)
theorem dX1_weightOf_18 : decode cX1_weightOf 18 = .ok (.getfield 89, 3) := dk_180 0 89 (dk_at dksX1_weightOf_0 18 rfl rfl)
theorem dX1_weightOf_21 : decode cX1_weightOf 21 = .ok (.iload_n 1, 1) := dk_27 (dk_at dksX1_weightOf_0 21 rfl rfl)
theorem dX1_weightOf_22 : decode cX1_weightOf 22 = .ok (.bipush 8, 2) := dk_16 8 (dk_at dksX1_weightOf_0 22 rfl rfl)
theorem dX1_weightOf_24 : decode cX1_weightOf 24 = .ok (.imul, 1) := dk_104 (dk_at dksX1_weightOf_1 0 rfl rfl)
theorem dX1_weightOf_25 : decode cX1_weightOf 25 = .ok (.iload_n 2, 1) := dk_28 (dk_at dksX1_weightOf_1 1 rfl rfl)
theorem dX1_weightOf_26 : decode cX1_weightOf 26 = .ok (.iadd, 1) := dk_96 (dk_at dksX1_weightOf_1 2 rfl rfl)
theorem dX1_weightOf_27 : decode cX1_weightOf 27 = .ok (.iaload, 1) := dk_46 (dk_at dksX1_weightOf_1 3 rfl rfl)
theorem dX1_weightOf_28 : decode cX1_weightOf 28 = .ok (.ireturn, 1) := dk_172 (dk_at dksX1_weightOf_1 4 rfl rfl)
abbrev cX1_years : ByteArray := prog_1_method_25_code
def yX1_years : MethodName := ⟨RX1, "years", "(II)I"⟩
def dkwX1_years_1 : List UInt8 := [162, 0, 19, 42, 27, 182, 0, 248, 156, 0, 5, 29, 172, 132, 3, 1, 167, 255, 238, 28, 172]
abbrev dktX1_years_1 : List UInt8 := dkwX1_years_1 ++ []
def dkwX1_years_0 : List UInt8 := [42, 27, 182, 0, 183, 153, 0, 13, 28, 155, 0, 9, 28, 16, 40, 164, 0, 5, 2, 172, 3, 62, 29, 28]
abbrev dktX1_years_0 : List UInt8 := dkwX1_years_0 ++ dktX1_years_1
theorem dksX1_years_0 : cX1_years.data.toList.drop 0 = dktX1_years_0 := by decide +kernel
theorem dksX1_years_1 : cX1_years.data.toList.drop 24 = dktX1_years_1 := dk_seg dksX1_years_0 24 rfl rfl
theorem dX1_years_0 : decode cX1_years 0 = .ok (.aload_n 0, 1) := dk_42 (dk_at dksX1_years_0 0 rfl rfl)
theorem dX1_years_1 : decode cX1_years 1 = .ok (.iload_n 1, 1) := dk_27 (dk_at dksX1_years_0 1 rfl rfl)
theorem dX1_years_2 : decode cX1_years 2 = .ok (.invokevirtual 183, 3) := dk_182 0 183 (dk_at dksX1_years_0 2 rfl rfl)
theorem dX1_years_5 : decode cX1_years 5 = .ok (.ifCond .eq 13, 3) := dk_153 0 13 (dk_at dksX1_years_0 5 rfl rfl)
theorem dX1_years_8 : decode cX1_years 8 = .ok (.iload_n 2, 1) := dk_28 (dk_at dksX1_years_0 8 rfl rfl)
theorem dX1_years_9 : decode cX1_years 9 = .ok (.ifCond .lt 9, 3) := dk_155 0 9 (dk_at dksX1_years_0 9 rfl rfl)
theorem dX1_years_12 : decode cX1_years 12 = .ok (.iload_n 2, 1) := dk_28 (dk_at dksX1_years_0 12 rfl rfl)
theorem dX1_years_13 : decode cX1_years 13 = .ok (.bipush 40, 2) := dk_16 40 (dk_at dksX1_years_0 13 rfl rfl)
theorem dX1_years_15 : decode cX1_years 15 = .ok (.if_icmp .le 5, 3) := dk_164 0 5 (dk_at dksX1_years_0 15 rfl rfl)
theorem dX1_years_18 : decode cX1_years 18 = .ok (.iconst (-1), 1) := dk_2 (dk_at dksX1_years_0 18 rfl rfl)
theorem dX1_years_19 : decode cX1_years 19 = .ok (.ireturn, 1) := dk_172 (dk_at dksX1_years_0 19 rfl rfl)
theorem dX1_years_20 : decode cX1_years 20 = .ok (.iconst 0, 1) := dk_3 (dk_at dksX1_years_0 20 rfl rfl)
theorem dX1_years_21 : decode cX1_years 21 = .ok (.istore_n 3, 1) := dk_62 (dk_at dksX1_years_0 21 rfl rfl)
theorem dX1_years_22 : decode cX1_years 22 = .ok (.iload_n 3, 1) := dk_29 (dk_at dksX1_years_0 22 rfl rfl)
theorem dX1_years_23 : decode cX1_years 23 = .ok (.iload_n 2, 1) := dk_28 (dk_at dksX1_years_0 23 rfl rfl)
theorem dX1_years_24 : decode cX1_years 24 = .ok (.if_icmp .ge 19, 3) := dk_162 0 19 (dk_at dksX1_years_1 0 rfl rfl)
theorem dX1_years_27 : decode cX1_years 27 = .ok (.aload_n 0, 1) := dk_42 (dk_at dksX1_years_1 3 rfl rfl)
theorem dX1_years_28 : decode cX1_years 28 = .ok (.iload_n 1, 1) := dk_27 (dk_at dksX1_years_1 4 rfl rfl)
theorem dX1_years_29 : decode cX1_years 29 = .ok (.invokevirtual 248, 3) := dk_182 0 248 (dk_at dksX1_years_1 5 rfl rfl)
theorem dX1_years_32 : decode cX1_years 32 = .ok (.ifCond .ge 5, 3) := dk_156 0 5 (dk_at dksX1_years_1 8 rfl rfl)
theorem dX1_years_35 : decode cX1_years 35 = .ok (.iload_n 3, 1) := dk_29 (dk_at dksX1_years_1 11 rfl rfl)
theorem dX1_years_36 : decode cX1_years 36 = .ok (.ireturn, 1) := dk_172 (dk_at dksX1_years_1 12 rfl rfl)
theorem dX1_years_37 : decode cX1_years 37 = .ok (.iinc 3 1, 3) := dk_132 3 1 (dk_at dksX1_years_1 13 rfl rfl)
theorem dX1_years_40 : decode cX1_years 40 = .ok (.goto (-18), 3) := dk_167 255 238 (dk_at dksX1_years_1 16 rfl rfl)
theorem dX1_years_43 : decode cX1_years 43 = .ok (.iload_n 2, 1) := dk_28 (dk_at dksX1_years_1 19 rfl rfl)
theorem dX1_years_44 : decode cX1_years 44 = .ok (.ireturn, 1) := dk_172 (dk_at dksX1_years_1 20 rfl rfl)
abbrev cX1_failed : ByteArray := prog_1_method_26_code
def yX1_failed : MethodName := ⟨RX1, "failed", "()I"⟩
theorem dX1_failed_0 : decode cX1_failed 0 = .ok (.aload_n 0, 1) := by decide +kernel
theorem dX1_failed_1 : decode cX1_failed 1 = .ok (.getfield 170, 3) := by decide +kernel
theorem dX1_failed_4 : decode cX1_failed 4 = .ok (.ireturn, 1) := by decide +kernel
abbrev cX1_least : ByteArray := prog_1_method_38_code
def yX1_least : MethodName := ⟨RX1, "least", "(IIIII)I"⟩
def dkwX1_least_3 : List UInt8 := [180, 0, 97, 29, 50, 167, 0, 4, 1, 21, 4, 21, 5, 182, 1, 45, 172]
abbrev dktX1_least_3 : List UInt8 := dkwX1_least_3 ++ []
def dkwX1_least_2 : List UInt8 := [184, 1, 42, 154, 0, 5, 2, 172, 42, 42, 180, 0, 97, 27, 50, 28, 28, 5, 160, 0, 12, 42]
abbrev dktX1_least_2 : List UInt8 := dkwX1_least_2 ++ dktX1_least_3
def dkwX1_least_1 : List UInt8 := [29, 182, 0, 183, 154, 0, 13, 167, 0, 8, 29, 2, 159, 0, 5, 2, 172, 21, 4, 21, 5, 17, 7, 208]
abbrev dktX1_least_1 : List UInt8 := dkwX1_least_1 ++ dktX1_least_2
def dkwX1_least_0 : List UInt8 := [42, 27, 182, 0, 183, 153, 0, 34, 28, 155, 0, 30, 28, 16, 6, 163, 0, 24, 28, 5, 160, 0, 14, 42]
abbrev dktX1_least_0 : List UInt8 := dkwX1_least_0 ++ dktX1_least_1
theorem dksX1_least_0 : cX1_least.data.toList.drop 0 = dktX1_least_0 := by decide +kernel
theorem dksX1_least_1 : cX1_least.data.toList.drop 24 = dktX1_least_1 := dk_seg dksX1_least_0 24 rfl rfl
theorem dksX1_least_2 : cX1_least.data.toList.drop 48 = dktX1_least_2 := dk_seg dksX1_least_1 24 rfl rfl
theorem dksX1_least_3 : cX1_least.data.toList.drop 70 = dktX1_least_3 := dk_seg dksX1_least_2 22 rfl rfl
theorem dX1_least_0 : decode cX1_least 0 = .ok (.aload_n 0, 1) := dk_42 (dk_at dksX1_least_0 0 rfl rfl)
theorem dX1_least_1 : decode cX1_least 1 = .ok (.iload_n 1, 1) := dk_27 (dk_at dksX1_least_0 1 rfl rfl)
theorem dX1_least_2 : decode cX1_least 2 = .ok (.invokevirtual 183, 3) := dk_182 0 183 (dk_at dksX1_least_0 2 rfl rfl)
theorem dX1_least_5 : decode cX1_least 5 = .ok (.ifCond .eq 34, 3) := dk_153 0 34 (dk_at dksX1_least_0 5 rfl rfl)
theorem dX1_least_8 : decode cX1_least 8 = .ok (.iload_n 2, 1) := dk_28 (dk_at dksX1_least_0 8 rfl rfl)
theorem dX1_least_9 : decode cX1_least 9 = .ok (.ifCond .lt 30, 3) := dk_155 0 30 (dk_at dksX1_least_0 9 rfl rfl)
theorem dX1_least_12 : decode cX1_least 12 = .ok (.iload_n 2, 1) := dk_28 (dk_at dksX1_least_0 12 rfl rfl)
theorem dX1_least_13 : decode cX1_least 13 = .ok (.bipush 6, 2) := dk_16 6 (dk_at dksX1_least_0 13 rfl rfl)
theorem dX1_least_15 : decode cX1_least 15 = .ok (.if_icmp .gt 24, 3) := dk_163 0 24 (dk_at dksX1_least_0 15 rfl rfl)
theorem dX1_least_18 : decode cX1_least 18 = .ok (.iload_n 2, 1) := dk_28 (dk_at dksX1_least_0 18 rfl rfl)
theorem dX1_least_19 : decode cX1_least 19 = .ok (.iconst 2, 1) := dk_5 (dk_at dksX1_least_0 19 rfl rfl)
theorem dX1_least_20 : decode cX1_least 20 = .ok (.if_icmp .ne 14, 3) := dk_160 0 14 (dk_at dksX1_least_0 20 rfl rfl)
theorem dX1_least_23 : decode cX1_least 23 = .ok (.aload_n 0, 1) := dk_42 (dk_at dksX1_least_0 23 rfl rfl)
theorem dX1_least_24 : decode cX1_least 24 = .ok (.iload_n 3, 1) := dk_29 (dk_at dksX1_least_1 0 rfl rfl)
theorem dX1_least_25 : decode cX1_least 25 = .ok (.invokevirtual 183, 3) := dk_182 0 183 (dk_at dksX1_least_1 1 rfl rfl)
theorem dX1_least_28 : decode cX1_least 28 = .ok (.ifCond .ne 13, 3) := dk_154 0 13 (dk_at dksX1_least_1 4 rfl rfl)
theorem dX1_least_31 : decode cX1_least 31 = .ok (.goto 8, 3) := dk_167 0 8 (dk_at dksX1_least_1 7 rfl rfl)
theorem dX1_least_34 : decode cX1_least 34 = .ok (.iload_n 3, 1) := dk_29 (dk_at dksX1_least_1 10 rfl rfl)
theorem dX1_least_35 : decode cX1_least 35 = .ok (.iconst (-1), 1) := dk_2 (dk_at dksX1_least_1 11 rfl rfl)
theorem dX1_least_36 : decode cX1_least 36 = .ok (.if_icmp .eq 5, 3) := dk_159 0 5 (dk_at dksX1_least_1 12 rfl rfl)
theorem dX1_least_39 : decode cX1_least 39 = .ok (.iconst (-1), 1) := dk_2 (dk_at dksX1_least_1 15 rfl rfl)
theorem dX1_least_40 : decode cX1_least 40 = .ok (.ireturn, 1) := dk_172 (dk_at dksX1_least_1 16 rfl rfl)
theorem dX1_least_41 : decode cX1_least 41 = .ok (.iload 4, 2) := dk_21 4 (dk_at dksX1_least_1 17 rfl rfl)
theorem dX1_least_43 : decode cX1_least 43 = .ok (.iload 5, 2) := dk_21 5 (dk_at dksX1_least_1 19 rfl rfl)
theorem dX1_least_45 : decode cX1_least 45 = .ok (.sipush 2000, 3) := dk_17 7 208 (dk_at dksX1_least_1 21 rfl rfl)
theorem dX1_least_48 : decode cX1_least 48 = .ok (.invokestatic 298, 3) := dk_184 1 42 (dk_at dksX1_least_2 0 rfl rfl)
theorem dX1_least_51 : decode cX1_least 51 = .ok (.ifCond .ne 5, 3) := dk_154 0 5 (dk_at dksX1_least_2 3 rfl rfl)
theorem dX1_least_54 : decode cX1_least 54 = .ok (.iconst (-1), 1) := dk_2 (dk_at dksX1_least_2 6 rfl rfl)
theorem dX1_least_55 : decode cX1_least 55 = .ok (.ireturn, 1) := dk_172 (dk_at dksX1_least_2 7 rfl rfl)
theorem dX1_least_56 : decode cX1_least 56 = .ok (.aload_n 0, 1) := dk_42 (dk_at dksX1_least_2 8 rfl rfl)
theorem dX1_least_57 : decode cX1_least 57 = .ok (.aload_n 0, 1) := dk_42 (dk_at dksX1_least_2 9 rfl rfl)
theorem dX1_least_58 : decode cX1_least 58 = .ok (.getfield 97, 3) := dk_180 0 97 (dk_at dksX1_least_2 10 rfl rfl)
theorem dX1_least_61 : decode cX1_least 61 = .ok (.iload_n 1, 1) := dk_27 (dk_at dksX1_least_2 13 rfl rfl)
theorem dX1_least_62 : decode cX1_least 62 = .ok (.aaload, 1) := dk_50 (dk_at dksX1_least_2 14 rfl rfl)
theorem dX1_least_63 : decode cX1_least 63 = .ok (.iload_n 2, 1) := dk_28 (dk_at dksX1_least_2 15 rfl rfl)
theorem dX1_least_64 : decode cX1_least 64 = .ok (.iload_n 2, 1) := dk_28 (dk_at dksX1_least_2 16 rfl rfl)
theorem dX1_least_65 : decode cX1_least 65 = .ok (.iconst 2, 1) := dk_5 (dk_at dksX1_least_2 17 rfl rfl)
theorem dX1_least_66 : decode cX1_least 66 = .ok (.if_icmp .ne 12, 3) := dk_160 0 12 (dk_at dksX1_least_2 18 rfl rfl)
theorem dX1_least_69 : decode cX1_least 69 = .ok (.aload_n 0, 1) := dk_42 (dk_at dksX1_least_2 21 rfl rfl)
theorem dX1_least_70 : decode cX1_least 70 = .ok (.getfield 97, 3) := dk_180 0 97 (dk_at dksX1_least_3 0 rfl rfl)
theorem dX1_least_73 : decode cX1_least 73 = .ok (.iload_n 3, 1) := dk_29 (dk_at dksX1_least_3 3 rfl rfl)
theorem dX1_least_74 : decode cX1_least 74 = .ok (.aaload, 1) := dk_50 (dk_at dksX1_least_3 4 rfl rfl)
theorem dX1_least_75 : decode cX1_least 75 = .ok (.goto 4, 3) := dk_167 0 4 (dk_at dksX1_least_3 5 rfl rfl)
theorem dX1_least_78 : decode cX1_least 78 = .ok (.aconst_null, 1) := dk_1 (dk_at dksX1_least_3 8 rfl rfl)
theorem dX1_least_79 : decode cX1_least 79 = .ok (.iload 4, 2) := dk_21 4 (dk_at dksX1_least_3 9 rfl rfl)
theorem dX1_least_81 : decode cX1_least 81 = .ok (.iload 5, 2) := dk_21 5 (dk_at dksX1_least_3 11 rfl rfl)
theorem dX1_least_83 : decode cX1_least 83 = .ok (.invokevirtual 301, 3) := dk_182 1 45 (dk_at dksX1_least_3 13 rfl rfl)
theorem dX1_least_86 : decode cX1_least 86 = .ok (.ireturn, 1) := dk_172 (dk_at dksX1_least_3 16 rfl rfl)
abbrev cX1_span : ByteArray := prog_1_method_36_code
def yX1_span : MethodName := ⟨RX1, "span", "(III)Z"⟩
def dkwX1_span_1 : List UInt8 := [161, 0, 14, 27, 26, 100, 28, 163, 0, 7, 4, 167, 0, 4, 3, 172]
abbrev dktX1_span_1 : List UInt8 := dkwX1_span_1 ++ []
def dkwX1_span_0 : List UInt8 := [26, 18, 181, 18, 73, 184, 0, 69, 153, 0, 30, 27, 18, 181, 18, 73, 184, 0, 69, 153, 0, 19, 27, 26]
abbrev dktX1_span_0 : List UInt8 := dkwX1_span_0 ++ dktX1_span_1
theorem dksX1_span_0 : cX1_span.data.toList.drop 0 = dktX1_span_0 := by decide +kernel
theorem dksX1_span_1 : cX1_span.data.toList.drop 24 = dktX1_span_1 := dk_seg dksX1_span_0 24 rfl rfl
theorem dX1_span_0 : decode cX1_span 0 = .ok (.iload_n 0, 1) := dk_26 (dk_at dksX1_span_0 0 rfl rfl)
theorem dX1_span_1 : decode cX1_span 1 = .ok (.ldc 181, 2) := dk_18 181 (dk_at dksX1_span_0 1 rfl rfl)
theorem dX1_span_3 : decode cX1_span 3 = .ok (.ldc 73, 2) := dk_18 73 (dk_at dksX1_span_0 3 rfl rfl)
theorem dX1_span_5 : decode cX1_span 5 = .ok (.invokestatic 69, 3) := dk_184 0 69 (dk_at dksX1_span_0 5 rfl rfl)
theorem dX1_span_8 : decode cX1_span 8 = .ok (.ifCond .eq 30, 3) := dk_153 0 30 (dk_at dksX1_span_0 8 rfl rfl)
theorem dX1_span_11 : decode cX1_span 11 = .ok (.iload_n 1, 1) := dk_27 (dk_at dksX1_span_0 11 rfl rfl)
theorem dX1_span_12 : decode cX1_span 12 = .ok (.ldc 181, 2) := dk_18 181 (dk_at dksX1_span_0 12 rfl rfl)
theorem dX1_span_14 : decode cX1_span 14 = .ok (.ldc 73, 2) := dk_18 73 (dk_at dksX1_span_0 14 rfl rfl)
theorem dX1_span_16 : decode cX1_span 16 = .ok (.invokestatic 69, 3) := dk_184 0 69 (dk_at dksX1_span_0 16 rfl rfl)
theorem dX1_span_19 : decode cX1_span 19 = .ok (.ifCond .eq 19, 3) := dk_153 0 19 (dk_at dksX1_span_0 19 rfl rfl)
theorem dX1_span_22 : decode cX1_span 22 = .ok (.iload_n 1, 1) := dk_27 (dk_at dksX1_span_0 22 rfl rfl)
theorem dX1_span_23 : decode cX1_span 23 = .ok (.iload_n 0, 1) := dk_26 (dk_at dksX1_span_0 23 rfl rfl)
theorem dX1_span_24 : decode cX1_span 24 = .ok (.if_icmp .lt 14, 3) := dk_161 0 14 (dk_at dksX1_span_1 0 rfl rfl)
theorem dX1_span_27 : decode cX1_span 27 = .ok (.iload_n 1, 1) := dk_27 (dk_at dksX1_span_1 3 rfl rfl)
theorem dX1_span_28 : decode cX1_span 28 = .ok (.iload_n 0, 1) := dk_26 (dk_at dksX1_span_1 4 rfl rfl)
theorem dX1_span_29 : decode cX1_span 29 = .ok (.isub, 1) := dk_100 (dk_at dksX1_span_1 5 rfl rfl)
theorem dX1_span_30 : decode cX1_span 30 = .ok (.iload_n 2, 1) := dk_28 (dk_at dksX1_span_1 6 rfl rfl)
theorem dX1_span_31 : decode cX1_span 31 = .ok (.if_icmp .gt 7, 3) := dk_163 0 7 (dk_at dksX1_span_1 7 rfl rfl)
theorem dX1_span_34 : decode cX1_span 34 = .ok (.iconst 1, 1) := dk_4 (dk_at dksX1_span_1 10 rfl rfl)
theorem dX1_span_35 : decode cX1_span 35 = .ok (.goto 4, 3) := dk_167 0 4 (dk_at dksX1_span_1 11 rfl rfl)
theorem dX1_span_38 : decode cX1_span 38 = .ok (.iconst 0, 1) := dk_3 (dk_at dksX1_span_1 14 rfl rfl)
theorem dX1_span_39 : decode cX1_span 39 = .ok (.ireturn, 1) := dk_172 (dk_at dksX1_span_1 15 rfl rfl)
abbrev cX1_firstBreak : ByteArray := prog_1_method_37_code
def yX1_firstBreak : MethodName := ⟨RX1, "firstBreak", "(LPennyJudge$Program;ILPennyJudge$Program;II)I"⟩
def dkwX1_firstBreak_1 : List UInt8 := [21, 6, 172, 132, 6, 1, 167, 255, 231, 19, 1, 41, 172]
abbrev dktX1_firstBreak_1 : List UInt8 := dkwX1_firstBreak_1 ++ []
def dkwX1_firstBreak_0 : List UInt8 := [21, 4, 54, 6, 21, 6, 21, 5, 163, 0, 24, 42, 43, 28, 45, 21, 6, 182, 1, 37, 153, 0, 6]
abbrev dktX1_firstBreak_0 : List UInt8 := dkwX1_firstBreak_0 ++ dktX1_firstBreak_1
theorem dksX1_firstBreak_0 : cX1_firstBreak.data.toList.drop 0 = dktX1_firstBreak_0 := by decide +kernel
theorem dksX1_firstBreak_1 : cX1_firstBreak.data.toList.drop 23 = dktX1_firstBreak_1 := dk_seg dksX1_firstBreak_0 23 rfl rfl
theorem dX1_firstBreak_0 : decode cX1_firstBreak 0 = .ok (.iload 4, 2) := dk_21 4 (dk_at dksX1_firstBreak_0 0 rfl rfl)
theorem dX1_firstBreak_2 : decode cX1_firstBreak 2 = .ok (.istore 6, 2) := dk_54 6 (dk_at dksX1_firstBreak_0 2 rfl rfl)
theorem dX1_firstBreak_4 : decode cX1_firstBreak 4 = .ok (.iload 6, 2) := dk_21 6 (dk_at dksX1_firstBreak_0 4 rfl rfl)
theorem dX1_firstBreak_6 : decode cX1_firstBreak 6 = .ok (.iload 5, 2) := dk_21 5 (dk_at dksX1_firstBreak_0 6 rfl rfl)
theorem dX1_firstBreak_8 : decode cX1_firstBreak 8 = .ok (.if_icmp .gt 24, 3) := dk_163 0 24 (dk_at dksX1_firstBreak_0 8 rfl rfl)
theorem dX1_firstBreak_11 : decode cX1_firstBreak 11 = .ok (.aload_n 0, 1) := dk_42 (dk_at dksX1_firstBreak_0 11 rfl rfl)
theorem dX1_firstBreak_12 : decode cX1_firstBreak 12 = .ok (.aload_n 1, 1) := dk_43 (dk_at dksX1_firstBreak_0 12 rfl rfl)
theorem dX1_firstBreak_13 : decode cX1_firstBreak 13 = .ok (.iload_n 2, 1) := dk_28 (dk_at dksX1_firstBreak_0 13 rfl rfl)
theorem dX1_firstBreak_14 : decode cX1_firstBreak 14 = .ok (.aload_n 3, 1) := dk_45 (dk_at dksX1_firstBreak_0 14 rfl rfl)
theorem dX1_firstBreak_15 : decode cX1_firstBreak 15 = .ok (.iload 6, 2) := dk_21 6 (dk_at dksX1_firstBreak_0 15 rfl rfl)
theorem dX1_firstBreak_17 : decode cX1_firstBreak 17 = .ok (.invokevirtual 293, 3) := dk_182 1 37 (dk_at dksX1_firstBreak_0 17 rfl rfl)
theorem dX1_firstBreak_20 : decode cX1_firstBreak 20 = .ok (.ifCond .eq 6, 3) := dk_153 0 6 (dk_at dksX1_firstBreak_0 20 rfl rfl)
theorem dX1_firstBreak_23 : decode cX1_firstBreak 23 = .ok (.iload 6, 2) := dk_21 6 (dk_at dksX1_firstBreak_1 0 rfl rfl)
theorem dX1_firstBreak_25 : decode cX1_firstBreak 25 = .ok (.ireturn, 1) := dk_172 (dk_at dksX1_firstBreak_1 2 rfl rfl)
theorem dX1_firstBreak_26 : decode cX1_firstBreak 26 = .ok (.iinc 6 1, 3) := dk_132 6 1 (dk_at dksX1_firstBreak_1 3 rfl rfl)
theorem dX1_firstBreak_29 : decode cX1_firstBreak 29 = .ok (.goto (-25), 3) := dk_167 255 231 (dk_at dksX1_firstBreak_1 6 rfl rfl)
theorem dX1_firstBreak_32 : decode cX1_firstBreak 32 = .ok (.ldc_w 297, 3) := dk_19 1 41 (dk_at dksX1_firstBreak_1 9 rfl rfl)
theorem dX1_firstBreak_35 : decode cX1_firstBreak 35 = .ok (.ireturn, 1) := dk_172 (dk_at dksX1_firstBreak_1 12 rfl rfl)
abbrev cX1_breaksLaw : ByteArray := prog_1_method_35_code
def yX1_breaksLaw : MethodName := ⟨RX1, "breaksLaw", "(LPennyJudge$Program;ILPennyJudge$Program;I)Z"⟩
def dkwX1_breaksLaw_12 : List UInt8 := [167, 0, 4, 3, 172]
abbrev dktX1_breaksLaw_12 : List UInt8 := dkwX1_breaksLaw_12 ++ []
def dkwX1_breaksLaw_11 : List UInt8 := [180, 0, 115, 182, 0, 175, 43, 42, 180, 0, 115, 182, 1, 33, 42, 4, 182, 1, 26, 154, 0, 7, 4]
abbrev dktX1_breaksLaw_11 : List UInt8 := dkwX1_breaksLaw_11 ++ dktX1_breaksLaw_12
def dkwX1_breaksLaw_10 : List UInt8 := [3, 172, 42, 180, 0, 130, 3, 21, 4, 79, 42, 180, 0, 115, 42, 180, 0, 130, 4, 182, 0, 229, 42]
abbrev dktX1_breaksLaw_10 : List UInt8 := dkwX1_breaksLaw_10 ++ dktX1_breaksLaw_11
def dkwX1_breaksLaw_9 : List UInt8 := [153, 0, 17, 42, 180, 0, 112, 180, 0, 234, 158, 0, 7, 4, 167, 0, 4, 3, 172, 21, 5, 154, 0, 5]
abbrev dktX1_breaksLaw_9 : List UInt8 := dkwX1_breaksLaw_9 ++ dktX1_breaksLaw_10
def dkwX1_breaksLaw_8 : List UInt8 := [153, 0, 7, 4, 167, 0, 4, 3, 172, 21, 5, 154, 0, 7, 4, 167, 0, 4, 3, 172, 21, 5]
abbrev dktX1_breaksLaw_8 : List UInt8 := dkwX1_breaksLaw_8 ++ dktX1_breaksLaw_9
def dkwX1_breaksLaw_7 : List UInt8 := [4, 182, 1, 26, 154, 0, 7, 4, 167, 0, 4, 3, 172, 21, 5, 153, 0, 14, 42, 182, 1, 29]
abbrev dktX1_breaksLaw_7 : List UInt8 := dkwX1_breaksLaw_7 ++ dktX1_breaksLaw_8
def dkwX1_breaksLaw_6 : List UInt8 := [42, 180, 0, 115, 21, 4, 182, 1, 22, 54, 9, 21, 5, 21, 9, 160, 0, 16, 21, 5, 153, 0, 15, 42]
abbrev dktX1_breaksLaw_6 : List UInt8 := dkwX1_breaksLaw_6 ++ dktX1_breaksLaw_7
def dkwX1_breaksLaw_5 : List UInt8 := [160, 0, 16, 21, 5, 153, 0, 15, 42, 2, 182, 1, 26, 154, 0, 7, 4, 167, 0, 4, 3, 172, 42, 45]
abbrev dktX1_breaksLaw_5 : List UInt8 := dkwX1_breaksLaw_5 ++ dktX1_breaksLaw_6
def dkwX1_breaksLaw_4 : List UInt8 := [167, 0, 4, 3, 172, 42, 43, 42, 180, 0, 115, 21, 4, 116, 182, 1, 22, 54, 8, 21, 5, 21, 8]
abbrev dktX1_breaksLaw_4 : List UInt8 := dkwX1_breaksLaw_4 ++ dktX1_breaksLaw_5
def dkwX1_breaksLaw_3 : List UInt8 := [47, 97, 55, 6, 132, 8, 1, 167, 255, 231, 21, 5, 153, 0, 14, 22, 6, 9, 148, 153, 0, 7, 4]
abbrev dktX1_breaksLaw_3 : List UInt8 := dkwX1_breaksLaw_3 ++ dktX1_breaksLaw_4
def dkwX1_breaksLaw_2 : List UInt8 := [9, 55, 6, 3, 54, 8, 21, 8, 16, 8, 162, 0, 24, 22, 6, 42, 180, 0, 112, 180, 0, 233, 21, 8]
abbrev dktX1_breaksLaw_2 : List UInt8 := dkwX1_breaksLaw_2 ++ dktX1_breaksLaw_3
def dkwX1_breaksLaw_1 : List UInt8 := [170, 0, 0, 0, 0, 219, 0, 0, 0, 0, 0, 0, 0, 5, 0, 0, 0, 38, 0, 0, 0, 90, 0, 0, 0, 130, 0, 0, 0, 169, 0, 0, 0, 187, 0, 0, 0, 198]
abbrev dktX1_breaksLaw_1 : List UInt8 := dkwX1_breaksLaw_1 ++ dktX1_breaksLaw_2
def dkwX1_breaksLaw_0 : List UInt8 := [42, 43, 42, 180, 0, 112, 21, 4, 182, 1, 22, 54, 5, 28]
abbrev dktX1_breaksLaw_0 : List UInt8 := dkwX1_breaksLaw_0 ++ dktX1_breaksLaw_1
theorem dksX1_breaksLaw_0 : cX1_breaksLaw.data.toList.drop 0 = dktX1_breaksLaw_0 := by decide +kernel
theorem dksX1_breaksLaw_1 : cX1_breaksLaw.data.toList.drop 14 = dktX1_breaksLaw_1 := dk_seg dksX1_breaksLaw_0 14 rfl rfl
theorem dksX1_breaksLaw_2 : cX1_breaksLaw.data.toList.drop 52 = dktX1_breaksLaw_2 := dk_seg dksX1_breaksLaw_1 38 rfl rfl
theorem dksX1_breaksLaw_3 : cX1_breaksLaw.data.toList.drop 76 = dktX1_breaksLaw_3 := dk_seg dksX1_breaksLaw_2 24 rfl rfl
theorem dksX1_breaksLaw_4 : cX1_breaksLaw.data.toList.drop 99 = dktX1_breaksLaw_4 := dk_seg dksX1_breaksLaw_3 23 rfl rfl
theorem dksX1_breaksLaw_5 : cX1_breaksLaw.data.toList.drop 122 = dktX1_breaksLaw_5 := dk_seg dksX1_breaksLaw_4 23 rfl rfl
theorem dksX1_breaksLaw_6 : cX1_breaksLaw.data.toList.drop 146 = dktX1_breaksLaw_6 := dk_seg dksX1_breaksLaw_5 24 rfl rfl
theorem dksX1_breaksLaw_7 : cX1_breaksLaw.data.toList.drop 170 = dktX1_breaksLaw_7 := dk_seg dksX1_breaksLaw_6 24 rfl rfl
theorem dksX1_breaksLaw_8 : cX1_breaksLaw.data.toList.drop 192 = dktX1_breaksLaw_8 := dk_seg dksX1_breaksLaw_7 22 rfl rfl
theorem dksX1_breaksLaw_9 : cX1_breaksLaw.data.toList.drop 214 = dktX1_breaksLaw_9 := dk_seg dksX1_breaksLaw_8 22 rfl rfl
theorem dksX1_breaksLaw_10 : cX1_breaksLaw.data.toList.drop 238 = dktX1_breaksLaw_10 := dk_seg dksX1_breaksLaw_9 24 rfl rfl
theorem dksX1_breaksLaw_11 : cX1_breaksLaw.data.toList.drop 261 = dktX1_breaksLaw_11 := dk_seg dksX1_breaksLaw_10 23 rfl rfl
theorem dksX1_breaksLaw_12 : cX1_breaksLaw.data.toList.drop 284 = dktX1_breaksLaw_12 := dk_seg dksX1_breaksLaw_11 23 rfl rfl
theorem dX1_breaksLaw_0 : decode cX1_breaksLaw 0 = .ok (.aload_n 0, 1) := dk_42 (dk_at dksX1_breaksLaw_0 0 rfl rfl)
theorem dX1_breaksLaw_1 : decode cX1_breaksLaw 1 = .ok (.aload_n 1, 1) := dk_43 (dk_at dksX1_breaksLaw_0 1 rfl rfl)
theorem dX1_breaksLaw_2 : decode cX1_breaksLaw 2 = .ok (.aload_n 0, 1) := dk_42 (dk_at dksX1_breaksLaw_0 2 rfl rfl)
theorem dX1_breaksLaw_3 : decode cX1_breaksLaw 3 = .ok (.getfield 112, 3) := dk_180 0 112 (dk_at dksX1_breaksLaw_0 3 rfl rfl)
theorem dX1_breaksLaw_6 : decode cX1_breaksLaw 6 = .ok (.iload 4, 2) := dk_21 4 (dk_at dksX1_breaksLaw_0 6 rfl rfl)
theorem dX1_breaksLaw_8 : decode cX1_breaksLaw 8 = .ok (.invokevirtual 278, 3) := dk_182 1 22 (dk_at dksX1_breaksLaw_0 8 rfl rfl)
theorem dX1_breaksLaw_11 : decode cX1_breaksLaw 11 = .ok (.istore 5, 2) := dk_54 5 (dk_at dksX1_breaksLaw_0 11 rfl rfl)
theorem dX1_breaksLaw_13 : decode cX1_breaksLaw 13 = .ok (.iload_n 2, 1) := dk_28 (dk_at dksX1_breaksLaw_0 13 rfl rfl)
theorem dX1_breaksLaw_14 : decode cX1_breaksLaw 14 = .ok (.tableswitch 219 0 5 #[38, 90, 130, 169, 187, 198], 38) := by decide +kernel
theorem dX1_breaksLaw_52 : decode cX1_breaksLaw 52 = .ok (.lconst 0, 1) := dk_9 (dk_at dksX1_breaksLaw_2 0 rfl rfl)
theorem dX1_breaksLaw_53 : decode cX1_breaksLaw 53 = .ok (.lstore 6, 2) := dk_55 6 (dk_at dksX1_breaksLaw_2 1 rfl rfl)
theorem dX1_breaksLaw_55 : decode cX1_breaksLaw 55 = .ok (.iconst 0, 1) := dk_3 (dk_at dksX1_breaksLaw_2 3 rfl rfl)
theorem dX1_breaksLaw_56 : decode cX1_breaksLaw 56 = .ok (.istore 8, 2) := dk_54 8 (dk_at dksX1_breaksLaw_2 4 rfl rfl)
theorem dX1_breaksLaw_58 : decode cX1_breaksLaw 58 = .ok (.iload 8, 2) := dk_21 8 (dk_at dksX1_breaksLaw_2 6 rfl rfl)
theorem dX1_breaksLaw_60 : decode cX1_breaksLaw 60 = .ok (.bipush 8, 2) := dk_16 8 (dk_at dksX1_breaksLaw_2 8 rfl rfl)
theorem dX1_breaksLaw_62 : decode cX1_breaksLaw 62 = .ok (.if_icmp .ge 24, 3) := dk_162 0 24 (dk_at dksX1_breaksLaw_2 10 rfl rfl)
theorem dX1_breaksLaw_65 : decode cX1_breaksLaw 65 = .ok (.lload 6, 2) := dk_22 6 (dk_at dksX1_breaksLaw_2 13 rfl rfl)
theorem dX1_breaksLaw_67 : decode cX1_breaksLaw 67 = .ok (.aload_n 0, 1) := dk_42 (dk_at dksX1_breaksLaw_2 15 rfl rfl)
theorem dX1_breaksLaw_68 : decode cX1_breaksLaw 68 = .ok (.getfield 112, 3) := dk_180 0 112 (dk_at dksX1_breaksLaw_2 16 rfl rfl)
theorem dX1_breaksLaw_71 : decode cX1_breaksLaw 71 = .ok (.getfield 233, 3) := dk_180 0 233 (dk_at dksX1_breaksLaw_2 19 rfl rfl)
theorem dX1_breaksLaw_74 : decode cX1_breaksLaw 74 = .ok (.iload 8, 2) := dk_21 8 (dk_at dksX1_breaksLaw_2 22 rfl rfl)
theorem dX1_breaksLaw_76 : decode cX1_breaksLaw 76 = .ok (.laload, 1) := dk_47 (dk_at dksX1_breaksLaw_3 0 rfl rfl)
theorem dX1_breaksLaw_77 : decode cX1_breaksLaw 77 = .ok (.ladd, 1) := dk_97 (dk_at dksX1_breaksLaw_3 1 rfl rfl)
theorem dX1_breaksLaw_78 : decode cX1_breaksLaw 78 = .ok (.lstore 6, 2) := dk_55 6 (dk_at dksX1_breaksLaw_3 2 rfl rfl)
theorem dX1_breaksLaw_80 : decode cX1_breaksLaw 80 = .ok (.iinc 8 1, 3) := dk_132 8 1 (dk_at dksX1_breaksLaw_3 4 rfl rfl)
theorem dX1_breaksLaw_83 : decode cX1_breaksLaw 83 = .ok (.goto (-25), 3) := dk_167 255 231 (dk_at dksX1_breaksLaw_3 7 rfl rfl)
theorem dX1_breaksLaw_86 : decode cX1_breaksLaw 86 = .ok (.iload 5, 2) := dk_21 5 (dk_at dksX1_breaksLaw_3 10 rfl rfl)
theorem dX1_breaksLaw_88 : decode cX1_breaksLaw 88 = .ok (.ifCond .eq 14, 3) := dk_153 0 14 (dk_at dksX1_breaksLaw_3 12 rfl rfl)
theorem dX1_breaksLaw_91 : decode cX1_breaksLaw 91 = .ok (.lload 6, 2) := dk_22 6 (dk_at dksX1_breaksLaw_3 15 rfl rfl)
theorem dX1_breaksLaw_93 : decode cX1_breaksLaw 93 = .ok (.lconst 0, 1) := dk_9 (dk_at dksX1_breaksLaw_3 17 rfl rfl)
theorem dX1_breaksLaw_94 : decode cX1_breaksLaw 94 = .ok (.lcmp, 1) := dk_148 (dk_at dksX1_breaksLaw_3 18 rfl rfl)
theorem dX1_breaksLaw_95 : decode cX1_breaksLaw 95 = .ok (.ifCond .eq 7, 3) := dk_153 0 7 (dk_at dksX1_breaksLaw_3 19 rfl rfl)
theorem dX1_breaksLaw_98 : decode cX1_breaksLaw 98 = .ok (.iconst 1, 1) := dk_4 (dk_at dksX1_breaksLaw_3 22 rfl rfl)
theorem dX1_breaksLaw_99 : decode cX1_breaksLaw 99 = .ok (.goto 4, 3) := dk_167 0 4 (dk_at dksX1_breaksLaw_4 0 rfl rfl)
theorem dX1_breaksLaw_102 : decode cX1_breaksLaw 102 = .ok (.iconst 0, 1) := dk_3 (dk_at dksX1_breaksLaw_4 3 rfl rfl)
theorem dX1_breaksLaw_103 : decode cX1_breaksLaw 103 = .ok (.ireturn, 1) := dk_172 (dk_at dksX1_breaksLaw_4 4 rfl rfl)
theorem dX1_breaksLaw_104 : decode cX1_breaksLaw 104 = .ok (.aload_n 0, 1) := dk_42 (dk_at dksX1_breaksLaw_4 5 rfl rfl)
theorem dX1_breaksLaw_105 : decode cX1_breaksLaw 105 = .ok (.aload_n 1, 1) := dk_43 (dk_at dksX1_breaksLaw_4 6 rfl rfl)
theorem dX1_breaksLaw_106 : decode cX1_breaksLaw 106 = .ok (.aload_n 0, 1) := dk_42 (dk_at dksX1_breaksLaw_4 7 rfl rfl)
theorem dX1_breaksLaw_107 : decode cX1_breaksLaw 107 = .ok (.getfield 115, 3) := dk_180 0 115 (dk_at dksX1_breaksLaw_4 8 rfl rfl)
theorem dX1_breaksLaw_110 : decode cX1_breaksLaw 110 = .ok (.iload 4, 2) := dk_21 4 (dk_at dksX1_breaksLaw_4 11 rfl rfl)
theorem dX1_breaksLaw_112 : decode cX1_breaksLaw 112 = .ok (.ineg, 1) := dk_116 (dk_at dksX1_breaksLaw_4 13 rfl rfl)
theorem dX1_breaksLaw_113 : decode cX1_breaksLaw 113 = .ok (.invokevirtual 278, 3) := dk_182 1 22 (dk_at dksX1_breaksLaw_4 14 rfl rfl)
theorem dX1_breaksLaw_116 : decode cX1_breaksLaw 116 = .ok (.istore 8, 2) := dk_54 8 (dk_at dksX1_breaksLaw_4 17 rfl rfl)
theorem dX1_breaksLaw_118 : decode cX1_breaksLaw 118 = .ok (.iload 5, 2) := dk_21 5 (dk_at dksX1_breaksLaw_4 19 rfl rfl)
theorem dX1_breaksLaw_120 : decode cX1_breaksLaw 120 = .ok (.iload 8, 2) := dk_21 8 (dk_at dksX1_breaksLaw_4 21 rfl rfl)
theorem dX1_breaksLaw_122 : decode cX1_breaksLaw 122 = .ok (.if_icmp .ne 16, 3) := dk_160 0 16 (dk_at dksX1_breaksLaw_5 0 rfl rfl)
theorem dX1_breaksLaw_125 : decode cX1_breaksLaw 125 = .ok (.iload 5, 2) := dk_21 5 (dk_at dksX1_breaksLaw_5 3 rfl rfl)
theorem dX1_breaksLaw_127 : decode cX1_breaksLaw 127 = .ok (.ifCond .eq 15, 3) := dk_153 0 15 (dk_at dksX1_breaksLaw_5 5 rfl rfl)
theorem dX1_breaksLaw_130 : decode cX1_breaksLaw 130 = .ok (.aload_n 0, 1) := dk_42 (dk_at dksX1_breaksLaw_5 8 rfl rfl)
theorem dX1_breaksLaw_131 : decode cX1_breaksLaw 131 = .ok (.iconst (-1), 1) := dk_2 (dk_at dksX1_breaksLaw_5 9 rfl rfl)
theorem dX1_breaksLaw_132 : decode cX1_breaksLaw 132 = .ok (.invokevirtual 282, 3) := dk_182 1 26 (dk_at dksX1_breaksLaw_5 10 rfl rfl)
theorem dX1_breaksLaw_135 : decode cX1_breaksLaw 135 = .ok (.ifCond .ne 7, 3) := dk_154 0 7 (dk_at dksX1_breaksLaw_5 13 rfl rfl)
theorem dX1_breaksLaw_138 : decode cX1_breaksLaw 138 = .ok (.iconst 1, 1) := dk_4 (dk_at dksX1_breaksLaw_5 16 rfl rfl)
theorem dX1_breaksLaw_139 : decode cX1_breaksLaw 139 = .ok (.goto 4, 3) := dk_167 0 4 (dk_at dksX1_breaksLaw_5 17 rfl rfl)
theorem dX1_breaksLaw_142 : decode cX1_breaksLaw 142 = .ok (.iconst 0, 1) := dk_3 (dk_at dksX1_breaksLaw_5 20 rfl rfl)
theorem dX1_breaksLaw_143 : decode cX1_breaksLaw 143 = .ok (.ireturn, 1) := dk_172 (dk_at dksX1_breaksLaw_5 21 rfl rfl)
theorem dX1_breaksLaw_144 : decode cX1_breaksLaw 144 = .ok (.aload_n 0, 1) := dk_42 (dk_at dksX1_breaksLaw_5 22 rfl rfl)
theorem dX1_breaksLaw_145 : decode cX1_breaksLaw 145 = .ok (.aload_n 3, 1) := dk_45 (dk_at dksX1_breaksLaw_5 23 rfl rfl)
theorem dX1_breaksLaw_146 : decode cX1_breaksLaw 146 = .ok (.aload_n 0, 1) := dk_42 (dk_at dksX1_breaksLaw_6 0 rfl rfl)
theorem dX1_breaksLaw_147 : decode cX1_breaksLaw 147 = .ok (.getfield 115, 3) := dk_180 0 115 (dk_at dksX1_breaksLaw_6 1 rfl rfl)
theorem dX1_breaksLaw_150 : decode cX1_breaksLaw 150 = .ok (.iload 4, 2) := dk_21 4 (dk_at dksX1_breaksLaw_6 4 rfl rfl)
theorem dX1_breaksLaw_152 : decode cX1_breaksLaw 152 = .ok (.invokevirtual 278, 3) := dk_182 1 22 (dk_at dksX1_breaksLaw_6 6 rfl rfl)
theorem dX1_breaksLaw_155 : decode cX1_breaksLaw 155 = .ok (.istore 9, 2) := dk_54 9 (dk_at dksX1_breaksLaw_6 9 rfl rfl)
theorem dX1_breaksLaw_157 : decode cX1_breaksLaw 157 = .ok (.iload 5, 2) := dk_21 5 (dk_at dksX1_breaksLaw_6 11 rfl rfl)
theorem dX1_breaksLaw_159 : decode cX1_breaksLaw 159 = .ok (.iload 9, 2) := dk_21 9 (dk_at dksX1_breaksLaw_6 13 rfl rfl)
theorem dX1_breaksLaw_161 : decode cX1_breaksLaw 161 = .ok (.if_icmp .ne 16, 3) := dk_160 0 16 (dk_at dksX1_breaksLaw_6 15 rfl rfl)
theorem dX1_breaksLaw_164 : decode cX1_breaksLaw 164 = .ok (.iload 5, 2) := dk_21 5 (dk_at dksX1_breaksLaw_6 18 rfl rfl)
theorem dX1_breaksLaw_166 : decode cX1_breaksLaw 166 = .ok (.ifCond .eq 15, 3) := dk_153 0 15 (dk_at dksX1_breaksLaw_6 20 rfl rfl)
theorem dX1_breaksLaw_169 : decode cX1_breaksLaw 169 = .ok (.aload_n 0, 1) := dk_42 (dk_at dksX1_breaksLaw_6 23 rfl rfl)
theorem dX1_breaksLaw_170 : decode cX1_breaksLaw 170 = .ok (.iconst 1, 1) := dk_4 (dk_at dksX1_breaksLaw_7 0 rfl rfl)
theorem dX1_breaksLaw_171 : decode cX1_breaksLaw 171 = .ok (.invokevirtual 282, 3) := dk_182 1 26 (dk_at dksX1_breaksLaw_7 1 rfl rfl)
theorem dX1_breaksLaw_174 : decode cX1_breaksLaw 174 = .ok (.ifCond .ne 7, 3) := dk_154 0 7 (dk_at dksX1_breaksLaw_7 4 rfl rfl)
theorem dX1_breaksLaw_177 : decode cX1_breaksLaw 177 = .ok (.iconst 1, 1) := dk_4 (dk_at dksX1_breaksLaw_7 7 rfl rfl)
theorem dX1_breaksLaw_178 : decode cX1_breaksLaw 178 = .ok (.goto 4, 3) := dk_167 0 4 (dk_at dksX1_breaksLaw_7 8 rfl rfl)
theorem dX1_breaksLaw_181 : decode cX1_breaksLaw 181 = .ok (.iconst 0, 1) := dk_3 (dk_at dksX1_breaksLaw_7 11 rfl rfl)
theorem dX1_breaksLaw_182 : decode cX1_breaksLaw 182 = .ok (.ireturn, 1) := dk_172 (dk_at dksX1_breaksLaw_7 12 rfl rfl)
theorem dX1_breaksLaw_183 : decode cX1_breaksLaw 183 = .ok (.iload 5, 2) := dk_21 5 (dk_at dksX1_breaksLaw_7 13 rfl rfl)
theorem dX1_breaksLaw_185 : decode cX1_breaksLaw 185 = .ok (.ifCond .eq 14, 3) := dk_153 0 14 (dk_at dksX1_breaksLaw_7 15 rfl rfl)
theorem dX1_breaksLaw_188 : decode cX1_breaksLaw 188 = .ok (.aload_n 0, 1) := dk_42 (dk_at dksX1_breaksLaw_7 18 rfl rfl)
theorem dX1_breaksLaw_189 : decode cX1_breaksLaw 189 = .ok (.invokevirtual 285, 3) := dk_182 1 29 (dk_at dksX1_breaksLaw_7 19 rfl rfl)
theorem dX1_breaksLaw_192 : decode cX1_breaksLaw 192 = .ok (.ifCond .eq 7, 3) := dk_153 0 7 (dk_at dksX1_breaksLaw_8 0 rfl rfl)
theorem dX1_breaksLaw_195 : decode cX1_breaksLaw 195 = .ok (.iconst 1, 1) := dk_4 (dk_at dksX1_breaksLaw_8 3 rfl rfl)
theorem dX1_breaksLaw_196 : decode cX1_breaksLaw 196 = .ok (.goto 4, 3) := dk_167 0 4 (dk_at dksX1_breaksLaw_8 4 rfl rfl)
theorem dX1_breaksLaw_199 : decode cX1_breaksLaw 199 = .ok (.iconst 0, 1) := dk_3 (dk_at dksX1_breaksLaw_8 7 rfl rfl)
theorem dX1_breaksLaw_200 : decode cX1_breaksLaw 200 = .ok (.ireturn, 1) := dk_172 (dk_at dksX1_breaksLaw_8 8 rfl rfl)
theorem dX1_breaksLaw_201 : decode cX1_breaksLaw 201 = .ok (.iload 5, 2) := dk_21 5 (dk_at dksX1_breaksLaw_8 9 rfl rfl)
theorem dX1_breaksLaw_203 : decode cX1_breaksLaw 203 = .ok (.ifCond .ne 7, 3) := dk_154 0 7 (dk_at dksX1_breaksLaw_8 11 rfl rfl)
theorem dX1_breaksLaw_206 : decode cX1_breaksLaw 206 = .ok (.iconst 1, 1) := dk_4 (dk_at dksX1_breaksLaw_8 14 rfl rfl)
theorem dX1_breaksLaw_207 : decode cX1_breaksLaw 207 = .ok (.goto 4, 3) := dk_167 0 4 (dk_at dksX1_breaksLaw_8 15 rfl rfl)
theorem dX1_breaksLaw_210 : decode cX1_breaksLaw 210 = .ok (.iconst 0, 1) := dk_3 (dk_at dksX1_breaksLaw_8 18 rfl rfl)
theorem dX1_breaksLaw_211 : decode cX1_breaksLaw 211 = .ok (.ireturn, 1) := dk_172 (dk_at dksX1_breaksLaw_8 19 rfl rfl)
theorem dX1_breaksLaw_212 : decode cX1_breaksLaw 212 = .ok (.iload 5, 2) := dk_21 5 (dk_at dksX1_breaksLaw_8 20 rfl rfl)
theorem dX1_breaksLaw_214 : decode cX1_breaksLaw 214 = .ok (.ifCond .eq 17, 3) := dk_153 0 17 (dk_at dksX1_breaksLaw_9 0 rfl rfl)
theorem dX1_breaksLaw_217 : decode cX1_breaksLaw 217 = .ok (.aload_n 0, 1) := dk_42 (dk_at dksX1_breaksLaw_9 3 rfl rfl)
theorem dX1_breaksLaw_218 : decode cX1_breaksLaw 218 = .ok (.getfield 112, 3) := dk_180 0 112 (dk_at dksX1_breaksLaw_9 4 rfl rfl)
theorem dX1_breaksLaw_221 : decode cX1_breaksLaw 221 = .ok (.getfield 234, 3) := dk_180 0 234 (dk_at dksX1_breaksLaw_9 7 rfl rfl)
theorem dX1_breaksLaw_224 : decode cX1_breaksLaw 224 = .ok (.ifCond .le 7, 3) := dk_158 0 7 (dk_at dksX1_breaksLaw_9 10 rfl rfl)
theorem dX1_breaksLaw_227 : decode cX1_breaksLaw 227 = .ok (.iconst 1, 1) := dk_4 (dk_at dksX1_breaksLaw_9 13 rfl rfl)
theorem dX1_breaksLaw_228 : decode cX1_breaksLaw 228 = .ok (.goto 4, 3) := dk_167 0 4 (dk_at dksX1_breaksLaw_9 14 rfl rfl)
theorem dX1_breaksLaw_231 : decode cX1_breaksLaw 231 = .ok (.iconst 0, 1) := dk_3 (dk_at dksX1_breaksLaw_9 17 rfl rfl)
theorem dX1_breaksLaw_232 : decode cX1_breaksLaw 232 = .ok (.ireturn, 1) := dk_172 (dk_at dksX1_breaksLaw_9 18 rfl rfl)
theorem dX1_breaksLaw_233 : decode cX1_breaksLaw 233 = .ok (.iload 5, 2) := dk_21 5 (dk_at dksX1_breaksLaw_9 19 rfl rfl)
theorem dX1_breaksLaw_235 : decode cX1_breaksLaw 235 = .ok (.ifCond .ne 5, 3) := dk_154 0 5 (dk_at dksX1_breaksLaw_9 21 rfl rfl)
theorem dX1_breaksLaw_238 : decode cX1_breaksLaw 238 = .ok (.iconst 0, 1) := dk_3 (dk_at dksX1_breaksLaw_10 0 rfl rfl)
theorem dX1_breaksLaw_239 : decode cX1_breaksLaw 239 = .ok (.ireturn, 1) := dk_172 (dk_at dksX1_breaksLaw_10 1 rfl rfl)
theorem dX1_breaksLaw_240 : decode cX1_breaksLaw 240 = .ok (.aload_n 0, 1) := dk_42 (dk_at dksX1_breaksLaw_10 2 rfl rfl)
theorem dX1_breaksLaw_241 : decode cX1_breaksLaw 241 = .ok (.getfield 130, 3) := dk_180 0 130 (dk_at dksX1_breaksLaw_10 3 rfl rfl)
theorem dX1_breaksLaw_244 : decode cX1_breaksLaw 244 = .ok (.iconst 0, 1) := dk_3 (dk_at dksX1_breaksLaw_10 6 rfl rfl)
theorem dX1_breaksLaw_245 : decode cX1_breaksLaw 245 = .ok (.iload 4, 2) := dk_21 4 (dk_at dksX1_breaksLaw_10 7 rfl rfl)
theorem dX1_breaksLaw_247 : decode cX1_breaksLaw 247 = .ok (.iastore, 1) := dk_79 (dk_at dksX1_breaksLaw_10 9 rfl rfl)
theorem dX1_breaksLaw_248 : decode cX1_breaksLaw 248 = .ok (.aload_n 0, 1) := dk_42 (dk_at dksX1_breaksLaw_10 10 rfl rfl)
theorem dX1_breaksLaw_249 : decode cX1_breaksLaw 249 = .ok (.getfield 115, 3) := dk_180 0 115 (dk_at dksX1_breaksLaw_10 11 rfl rfl)
theorem dX1_breaksLaw_252 : decode cX1_breaksLaw 252 = .ok (.aload_n 0, 1) := dk_42 (dk_at dksX1_breaksLaw_10 14 rfl rfl)
theorem dX1_breaksLaw_253 : decode cX1_breaksLaw 253 = .ok (.getfield 130, 3) := dk_180 0 130 (dk_at dksX1_breaksLaw_10 15 rfl rfl)
theorem dX1_breaksLaw_256 : decode cX1_breaksLaw 256 = .ok (.iconst 1, 1) := dk_4 (dk_at dksX1_breaksLaw_10 18 rfl rfl)
theorem dX1_breaksLaw_257 : decode cX1_breaksLaw 257 = .ok (.invokevirtual 229, 3) := dk_182 0 229 (dk_at dksX1_breaksLaw_10 19 rfl rfl)
theorem dX1_breaksLaw_260 : decode cX1_breaksLaw 260 = .ok (.aload_n 0, 1) := dk_42 (dk_at dksX1_breaksLaw_10 22 rfl rfl)
theorem dX1_breaksLaw_261 : decode cX1_breaksLaw 261 = .ok (.getfield 115, 3) := dk_180 0 115 (dk_at dksX1_breaksLaw_11 0 rfl rfl)
theorem dX1_breaksLaw_264 : decode cX1_breaksLaw 264 = .ok (.invokevirtual 175, 3) := dk_182 0 175 (dk_at dksX1_breaksLaw_11 3 rfl rfl)
theorem dX1_breaksLaw_267 : decode cX1_breaksLaw 267 = .ok (.aload_n 1, 1) := dk_43 (dk_at dksX1_breaksLaw_11 6 rfl rfl)
theorem dX1_breaksLaw_268 : decode cX1_breaksLaw 268 = .ok (.aload_n 0, 1) := dk_42 (dk_at dksX1_breaksLaw_11 7 rfl rfl)
theorem dX1_breaksLaw_269 : decode cX1_breaksLaw 269 = .ok (.getfield 115, 3) := dk_180 0 115 (dk_at dksX1_breaksLaw_11 8 rfl rfl)
theorem dX1_breaksLaw_272 : decode cX1_breaksLaw 272 = .ok (.invokevirtual 289, 3) := dk_182 1 33 (dk_at dksX1_breaksLaw_11 11 rfl rfl)
theorem dX1_breaksLaw_275 : decode cX1_breaksLaw 275 = .ok (.aload_n 0, 1) := dk_42 (dk_at dksX1_breaksLaw_11 14 rfl rfl)
theorem dX1_breaksLaw_276 : decode cX1_breaksLaw 276 = .ok (.iconst 1, 1) := dk_4 (dk_at dksX1_breaksLaw_11 15 rfl rfl)
theorem dX1_breaksLaw_277 : decode cX1_breaksLaw 277 = .ok (.invokevirtual 282, 3) := dk_182 1 26 (dk_at dksX1_breaksLaw_11 16 rfl rfl)
theorem dX1_breaksLaw_280 : decode cX1_breaksLaw 280 = .ok (.ifCond .ne 7, 3) := dk_154 0 7 (dk_at dksX1_breaksLaw_11 19 rfl rfl)
theorem dX1_breaksLaw_283 : decode cX1_breaksLaw 283 = .ok (.iconst 1, 1) := dk_4 (dk_at dksX1_breaksLaw_11 22 rfl rfl)
theorem dX1_breaksLaw_284 : decode cX1_breaksLaw 284 = .ok (.goto 4, 3) := dk_167 0 4 (dk_at dksX1_breaksLaw_12 0 rfl rfl)
theorem dX1_breaksLaw_287 : decode cX1_breaksLaw 287 = .ok (.iconst 0, 1) := dk_3 (dk_at dksX1_breaksLaw_12 3 rfl rfl)
theorem dX1_breaksLaw_288 : decode cX1_breaksLaw 288 = .ok (.ireturn, 1) := dk_172 (dk_at dksX1_breaksLaw_12 4 rfl rfl)
abbrev cX1_runs : ByteArray := prog_1_method_32_code
def yX1_runs : MethodName := ⟨RX1, "runs", "(LPennyJudge$Program;LPennyJudge$Run;I)Z"⟩
def dkwX1_runs_1 : List UInt8 := [182, 1, 14, 155, 0, 7, 4, 167, 0, 4, 3, 172]
abbrev dktX1_runs_1 : List UInt8 := dkwX1_runs_1 ++ []
def dkwX1_runs_0 : List UInt8 := [42, 180, 0, 130, 3, 29, 79, 44, 42, 180, 0, 130, 4, 182, 0, 229, 44, 182, 0, 175, 43, 44]
abbrev dktX1_runs_0 : List UInt8 := dkwX1_runs_0 ++ dktX1_runs_1
theorem dksX1_runs_0 : cX1_runs.data.toList.drop 0 = dktX1_runs_0 := by decide +kernel
theorem dksX1_runs_1 : cX1_runs.data.toList.drop 22 = dktX1_runs_1 := dk_seg dksX1_runs_0 22 rfl rfl
theorem dX1_runs_0 : decode cX1_runs 0 = .ok (.aload_n 0, 1) := dk_42 (dk_at dksX1_runs_0 0 rfl rfl)
theorem dX1_runs_1 : decode cX1_runs 1 = .ok (.getfield 130, 3) := dk_180 0 130 (dk_at dksX1_runs_0 1 rfl rfl)
theorem dX1_runs_4 : decode cX1_runs 4 = .ok (.iconst 0, 1) := dk_3 (dk_at dksX1_runs_0 4 rfl rfl)
theorem dX1_runs_5 : decode cX1_runs 5 = .ok (.iload_n 3, 1) := dk_29 (dk_at dksX1_runs_0 5 rfl rfl)
theorem dX1_runs_6 : decode cX1_runs 6 = .ok (.iastore, 1) := dk_79 (dk_at dksX1_runs_0 6 rfl rfl)
theorem dX1_runs_7 : decode cX1_runs 7 = .ok (.aload_n 2, 1) := dk_44 (dk_at dksX1_runs_0 7 rfl rfl)
theorem dX1_runs_8 : decode cX1_runs 8 = .ok (.aload_n 0, 1) := dk_42 (dk_at dksX1_runs_0 8 rfl rfl)
theorem dX1_runs_9 : decode cX1_runs 9 = .ok (.getfield 130, 3) := dk_180 0 130 (dk_at dksX1_runs_0 9 rfl rfl)
theorem dX1_runs_12 : decode cX1_runs 12 = .ok (.iconst 1, 1) := dk_4 (dk_at dksX1_runs_0 12 rfl rfl)
theorem dX1_runs_13 : decode cX1_runs 13 = .ok (.invokevirtual 229, 3) := dk_182 0 229 (dk_at dksX1_runs_0 13 rfl rfl)
theorem dX1_runs_16 : decode cX1_runs 16 = .ok (.aload_n 2, 1) := dk_44 (dk_at dksX1_runs_0 16 rfl rfl)
theorem dX1_runs_17 : decode cX1_runs 17 = .ok (.invokevirtual 175, 3) := dk_182 0 175 (dk_at dksX1_runs_0 17 rfl rfl)
theorem dX1_runs_20 : decode cX1_runs 20 = .ok (.aload_n 1, 1) := dk_43 (dk_at dksX1_runs_0 20 rfl rfl)
theorem dX1_runs_21 : decode cX1_runs 21 = .ok (.aload_n 2, 1) := dk_44 (dk_at dksX1_runs_0 21 rfl rfl)
theorem dX1_runs_22 : decode cX1_runs 22 = .ok (.invokevirtual 270, 3) := dk_182 1 14 (dk_at dksX1_runs_1 0 rfl rfl)
theorem dX1_runs_25 : decode cX1_runs 25 = .ok (.ifCond .lt 7, 3) := dk_155 0 7 (dk_at dksX1_runs_1 3 rfl rfl)
theorem dX1_runs_28 : decode cX1_runs 28 = .ok (.iconst 1, 1) := dk_4 (dk_at dksX1_runs_1 6 rfl rfl)
theorem dX1_runs_29 : decode cX1_runs 29 = .ok (.goto 4, 3) := dk_167 0 4 (dk_at dksX1_runs_1 7 rfl rfl)
theorem dX1_runs_32 : decode cX1_runs 32 = .ok (.iconst 0, 1) := dk_3 (dk_at dksX1_runs_1 10 rfl rfl)
theorem dX1_runs_33 : decode cX1_runs 33 = .ok (.ireturn, 1) := dk_172 (dk_at dksX1_runs_1 11 rfl rfl)
abbrev cX1_alike : ByteArray := prog_1_method_33_code
def yX1_alike : MethodName := ⟨RX1, "alike", "(I)Z"⟩
def dkwX1_alike_1 : List UInt8 := [180, 0, 233, 28, 47, 105, 148, 153, 0, 5, 3, 172, 132, 2, 1, 167, 255, 220, 4, 172]
abbrev dktX1_alike_1 : List UInt8 := dkwX1_alike_1 ++ []
def dkwX1_alike_0 : List UInt8 := [3, 61, 28, 16, 8, 162, 0, 36, 42, 180, 0, 112, 180, 0, 233, 28, 47, 27, 133, 42, 180, 0, 115]
abbrev dktX1_alike_0 : List UInt8 := dkwX1_alike_0 ++ dktX1_alike_1
theorem dksX1_alike_0 : cX1_alike.data.toList.drop 0 = dktX1_alike_0 := by decide +kernel
theorem dksX1_alike_1 : cX1_alike.data.toList.drop 23 = dktX1_alike_1 := dk_seg dksX1_alike_0 23 rfl rfl
theorem dX1_alike_0 : decode cX1_alike 0 = .ok (.iconst 0, 1) := dk_3 (dk_at dksX1_alike_0 0 rfl rfl)
theorem dX1_alike_1 : decode cX1_alike 1 = .ok (.istore_n 2, 1) := dk_61 (dk_at dksX1_alike_0 1 rfl rfl)
theorem dX1_alike_2 : decode cX1_alike 2 = .ok (.iload_n 2, 1) := dk_28 (dk_at dksX1_alike_0 2 rfl rfl)
theorem dX1_alike_3 : decode cX1_alike 3 = .ok (.bipush 8, 2) := dk_16 8 (dk_at dksX1_alike_0 3 rfl rfl)
theorem dX1_alike_5 : decode cX1_alike 5 = .ok (.if_icmp .ge 36, 3) := dk_162 0 36 (dk_at dksX1_alike_0 5 rfl rfl)
theorem dX1_alike_8 : decode cX1_alike 8 = .ok (.aload_n 0, 1) := dk_42 (dk_at dksX1_alike_0 8 rfl rfl)
theorem dX1_alike_9 : decode cX1_alike 9 = .ok (.getfield 112, 3) := dk_180 0 112 (dk_at dksX1_alike_0 9 rfl rfl)
theorem dX1_alike_12 : decode cX1_alike 12 = .ok (.getfield 233, 3) := dk_180 0 233 (dk_at dksX1_alike_0 12 rfl rfl)
theorem dX1_alike_15 : decode cX1_alike 15 = .ok (.iload_n 2, 1) := dk_28 (dk_at dksX1_alike_0 15 rfl rfl)
theorem dX1_alike_16 : decode cX1_alike 16 = .ok (.laload, 1) := dk_47 (dk_at dksX1_alike_0 16 rfl rfl)
theorem dX1_alike_17 : decode cX1_alike 17 = .ok (.iload_n 1, 1) := dk_27 (dk_at dksX1_alike_0 17 rfl rfl)
theorem dX1_alike_18 : decode cX1_alike 18 = .ok (.i2l, 1) := dk_133 (dk_at dksX1_alike_0 18 rfl rfl)
theorem dX1_alike_19 : decode cX1_alike 19 = .ok (.aload_n 0, 1) := dk_42 (dk_at dksX1_alike_0 19 rfl rfl)
theorem dX1_alike_20 : decode cX1_alike 20 = .ok (.getfield 115, 3) := dk_180 0 115 (dk_at dksX1_alike_0 20 rfl rfl)
theorem dX1_alike_23 : decode cX1_alike 23 = .ok (.getfield 233, 3) := dk_180 0 233 (dk_at dksX1_alike_1 0 rfl rfl)
theorem dX1_alike_26 : decode cX1_alike 26 = .ok (.iload_n 2, 1) := dk_28 (dk_at dksX1_alike_1 3 rfl rfl)
theorem dX1_alike_27 : decode cX1_alike 27 = .ok (.laload, 1) := dk_47 (dk_at dksX1_alike_1 4 rfl rfl)
theorem dX1_alike_28 : decode cX1_alike 28 = .ok (.lmul, 1) := dk_105 (dk_at dksX1_alike_1 5 rfl rfl)
theorem dX1_alike_29 : decode cX1_alike 29 = .ok (.lcmp, 1) := dk_148 (dk_at dksX1_alike_1 6 rfl rfl)
theorem dX1_alike_30 : decode cX1_alike 30 = .ok (.ifCond .eq 5, 3) := dk_153 0 5 (dk_at dksX1_alike_1 7 rfl rfl)
theorem dX1_alike_33 : decode cX1_alike 33 = .ok (.iconst 0, 1) := dk_3 (dk_at dksX1_alike_1 10 rfl rfl)
theorem dX1_alike_34 : decode cX1_alike 34 = .ok (.ireturn, 1) := dk_172 (dk_at dksX1_alike_1 11 rfl rfl)
theorem dX1_alike_35 : decode cX1_alike 35 = .ok (.iinc 2 1, 3) := dk_132 2 1 (dk_at dksX1_alike_1 12 rfl rfl)
theorem dX1_alike_38 : decode cX1_alike 38 = .ok (.goto (-36), 3) := dk_167 255 220 (dk_at dksX1_alike_1 15 rfl rfl)
theorem dX1_alike_41 : decode cX1_alike 41 = .ok (.iconst 1, 1) := dk_4 (dk_at dksX1_alike_1 18 rfl rfl)
theorem dX1_alike_42 : decode cX1_alike 42 = .ok (.ireturn, 1) := dk_172 (dk_at dksX1_alike_1 19 rfl rfl)
abbrev cX1_farShare : ByteArray := prog_1_method_34_code
def yX1_farShare : MethodName := ⟨RX1, "farShare", "()Z"⟩
def dkwX1_farShare_5 : List UInt8 := [117, 148, 157, 0, 5, 4, 172, 132, 5, 1, 167, 255, 192, 3, 172]
abbrev dktX1_farShare_5 : List UInt8 := dkwX1_farShare_5 ++ []
def dkwX1_farShare_4 : List UInt8 := [180, 1, 16, 21, 5, 27, 182, 0, 219, 133, 105, 101, 55, 6, 22, 6, 33, 148, 156, 0, 11, 22, 6, 33]
abbrev dktX1_farShare_4 : List UInt8 := dkwX1_farShare_4 ++ dktX1_farShare_5
def dkwX1_farShare_3 : List UInt8 := [180, 0, 112, 180, 1, 8, 21, 5, 47, 33, 105, 42, 180, 0, 112, 180, 1, 19, 42, 42, 180, 0, 112]
abbrev dktX1_farShare_3 : List UInt8 := dkwX1_farShare_3 ++ dktX1_farShare_4
def dkwX1_farShare_2 : List UInt8 := [154, 0, 9, 20, 0, 7, 167, 0, 5, 27, 133, 66, 3, 54, 5, 21, 5, 28, 162, 0, 64, 42]
abbrev dktX1_farShare_2 : List UInt8 := dkwX1_farShare_2 ++ dktX1_farShare_3
def dkwX1_farShare_1 : List UInt8 := [27, 154, 0, 7, 5, 167, 0, 15, 42, 180, 0, 92, 42, 180, 0, 112, 180, 1, 16, 46, 61, 27]
abbrev dktX1_farShare_1 : List UInt8 := dkwX1_farShare_1 ++ dktX1_farShare_2
def dkwX1_farShare_0 : List UInt8 := [42, 180, 0, 112, 180, 1, 16, 156, 0, 5, 3, 172, 42, 42, 180, 0, 112, 180, 1, 16, 182, 0, 215, 60]
abbrev dktX1_farShare_0 : List UInt8 := dkwX1_farShare_0 ++ dktX1_farShare_1
theorem dksX1_farShare_0 : cX1_farShare.data.toList.drop 0 = dktX1_farShare_0 := by decide +kernel
theorem dksX1_farShare_1 : cX1_farShare.data.toList.drop 24 = dktX1_farShare_1 := dk_seg dksX1_farShare_0 24 rfl rfl
theorem dksX1_farShare_2 : cX1_farShare.data.toList.drop 46 = dktX1_farShare_2 := dk_seg dksX1_farShare_1 22 rfl rfl
theorem dksX1_farShare_3 : cX1_farShare.data.toList.drop 68 = dktX1_farShare_3 := dk_seg dksX1_farShare_2 22 rfl rfl
theorem dksX1_farShare_4 : cX1_farShare.data.toList.drop 91 = dktX1_farShare_4 := dk_seg dksX1_farShare_3 23 rfl rfl
theorem dksX1_farShare_5 : cX1_farShare.data.toList.drop 115 = dktX1_farShare_5 := dk_seg dksX1_farShare_4 24 rfl rfl
theorem dX1_farShare_0 : decode cX1_farShare 0 = .ok (.aload_n 0, 1) := dk_42 (dk_at dksX1_farShare_0 0 rfl rfl)
theorem dX1_farShare_1 : decode cX1_farShare 1 = .ok (.getfield 112, 3) := dk_180 0 112 (dk_at dksX1_farShare_0 1 rfl rfl)
theorem dX1_farShare_4 : decode cX1_farShare 4 = .ok (.getfield 272, 3) := dk_180 1 16 (dk_at dksX1_farShare_0 4 rfl rfl)
theorem dX1_farShare_7 : decode cX1_farShare 7 = .ok (.ifCond .ge 5, 3) := dk_156 0 5 (dk_at dksX1_farShare_0 7 rfl rfl)
theorem dX1_farShare_10 : decode cX1_farShare 10 = .ok (.iconst 0, 1) := dk_3 (dk_at dksX1_farShare_0 10 rfl rfl)
theorem dX1_farShare_11 : decode cX1_farShare 11 = .ok (.ireturn, 1) := dk_172 (dk_at dksX1_farShare_0 11 rfl rfl)
theorem dX1_farShare_12 : decode cX1_farShare 12 = .ok (.aload_n 0, 1) := dk_42 (dk_at dksX1_farShare_0 12 rfl rfl)
theorem dX1_farShare_13 : decode cX1_farShare 13 = .ok (.aload_n 0, 1) := dk_42 (dk_at dksX1_farShare_0 13 rfl rfl)
theorem dX1_farShare_14 : decode cX1_farShare 14 = .ok (.getfield 112, 3) := dk_180 0 112 (dk_at dksX1_farShare_0 14 rfl rfl)
theorem dX1_farShare_17 : decode cX1_farShare 17 = .ok (.getfield 272, 3) := dk_180 1 16 (dk_at dksX1_farShare_0 17 rfl rfl)
theorem dX1_farShare_20 : decode cX1_farShare 20 = .ok (.invokevirtual 215, 3) := dk_182 0 215 (dk_at dksX1_farShare_0 20 rfl rfl)
theorem dX1_farShare_23 : decode cX1_farShare 23 = .ok (.istore_n 1, 1) := dk_60 (dk_at dksX1_farShare_0 23 rfl rfl)
theorem dX1_farShare_24 : decode cX1_farShare 24 = .ok (.iload_n 1, 1) := dk_27 (dk_at dksX1_farShare_1 0 rfl rfl)
theorem dX1_farShare_25 : decode cX1_farShare 25 = .ok (.ifCond .ne 7, 3) := dk_154 0 7 (dk_at dksX1_farShare_1 1 rfl rfl)
theorem dX1_farShare_28 : decode cX1_farShare 28 = .ok (.iconst 2, 1) := dk_5 (dk_at dksX1_farShare_1 4 rfl rfl)
theorem dX1_farShare_29 : decode cX1_farShare 29 = .ok (.goto 15, 3) := dk_167 0 15 (dk_at dksX1_farShare_1 5 rfl rfl)
theorem dX1_farShare_32 : decode cX1_farShare 32 = .ok (.aload_n 0, 1) := dk_42 (dk_at dksX1_farShare_1 8 rfl rfl)
theorem dX1_farShare_33 : decode cX1_farShare 33 = .ok (.getfield 92, 3) := dk_180 0 92 (dk_at dksX1_farShare_1 9 rfl rfl)
theorem dX1_farShare_36 : decode cX1_farShare 36 = .ok (.aload_n 0, 1) := dk_42 (dk_at dksX1_farShare_1 12 rfl rfl)
theorem dX1_farShare_37 : decode cX1_farShare 37 = .ok (.getfield 112, 3) := dk_180 0 112 (dk_at dksX1_farShare_1 13 rfl rfl)
theorem dX1_farShare_40 : decode cX1_farShare 40 = .ok (.getfield 272, 3) := dk_180 1 16 (dk_at dksX1_farShare_1 16 rfl rfl)
theorem dX1_farShare_43 : decode cX1_farShare 43 = .ok (.iaload, 1) := dk_46 (dk_at dksX1_farShare_1 19 rfl rfl)
theorem dX1_farShare_44 : decode cX1_farShare 44 = .ok (.istore_n 2, 1) := dk_61 (dk_at dksX1_farShare_1 20 rfl rfl)
theorem dX1_farShare_45 : decode cX1_farShare 45 = .ok (.iload_n 1, 1) := dk_27 (dk_at dksX1_farShare_1 21 rfl rfl)
theorem dX1_farShare_46 : decode cX1_farShare 46 = .ok (.ifCond .ne 9, 3) := dk_154 0 9 (dk_at dksX1_farShare_2 0 rfl rfl)
theorem dX1_farShare_49 : decode cX1_farShare 49 = .ok (.ldc2_w 7, 3) := dk_20 0 7 (dk_at dksX1_farShare_2 3 rfl rfl)
theorem dX1_farShare_52 : decode cX1_farShare 52 = .ok (.goto 5, 3) := dk_167 0 5 (dk_at dksX1_farShare_2 6 rfl rfl)
theorem dX1_farShare_55 : decode cX1_farShare 55 = .ok (.iload_n 1, 1) := dk_27 (dk_at dksX1_farShare_2 9 rfl rfl)
theorem dX1_farShare_56 : decode cX1_farShare 56 = .ok (.i2l, 1) := dk_133 (dk_at dksX1_farShare_2 10 rfl rfl)
theorem dX1_farShare_57 : decode cX1_farShare 57 = .ok (.lstore_n 3, 1) := dk_66 (dk_at dksX1_farShare_2 11 rfl rfl)
theorem dX1_farShare_58 : decode cX1_farShare 58 = .ok (.iconst 0, 1) := dk_3 (dk_at dksX1_farShare_2 12 rfl rfl)
theorem dX1_farShare_59 : decode cX1_farShare 59 = .ok (.istore 5, 2) := dk_54 5 (dk_at dksX1_farShare_2 13 rfl rfl)
theorem dX1_farShare_61 : decode cX1_farShare 61 = .ok (.iload 5, 2) := dk_21 5 (dk_at dksX1_farShare_2 15 rfl rfl)
theorem dX1_farShare_63 : decode cX1_farShare 63 = .ok (.iload_n 2, 1) := dk_28 (dk_at dksX1_farShare_2 17 rfl rfl)
theorem dX1_farShare_64 : decode cX1_farShare 64 = .ok (.if_icmp .ge 64, 3) := dk_162 0 64 (dk_at dksX1_farShare_2 18 rfl rfl)
theorem dX1_farShare_67 : decode cX1_farShare 67 = .ok (.aload_n 0, 1) := dk_42 (dk_at dksX1_farShare_2 21 rfl rfl)
theorem dX1_farShare_68 : decode cX1_farShare 68 = .ok (.getfield 112, 3) := dk_180 0 112 (dk_at dksX1_farShare_3 0 rfl rfl)
theorem dX1_farShare_71 : decode cX1_farShare 71 = .ok (.getfield 264, 3) := dk_180 1 8 (dk_at dksX1_farShare_3 3 rfl rfl)
theorem dX1_farShare_74 : decode cX1_farShare 74 = .ok (.iload 5, 2) := dk_21 5 (dk_at dksX1_farShare_3 6 rfl rfl)
theorem dX1_farShare_76 : decode cX1_farShare 76 = .ok (.laload, 1) := dk_47 (dk_at dksX1_farShare_3 8 rfl rfl)
theorem dX1_farShare_77 : decode cX1_farShare 77 = .ok (.lload_n 3, 1) := dk_33 (dk_at dksX1_farShare_3 9 rfl rfl)
theorem dX1_farShare_78 : decode cX1_farShare 78 = .ok (.lmul, 1) := dk_105 (dk_at dksX1_farShare_3 10 rfl rfl)
theorem dX1_farShare_79 : decode cX1_farShare 79 = .ok (.aload_n 0, 1) := dk_42 (dk_at dksX1_farShare_3 11 rfl rfl)
theorem dX1_farShare_80 : decode cX1_farShare 80 = .ok (.getfield 112, 3) := dk_180 0 112 (dk_at dksX1_farShare_3 12 rfl rfl)
theorem dX1_farShare_83 : decode cX1_farShare 83 = .ok (.getfield 275, 3) := dk_180 1 19 (dk_at dksX1_farShare_3 15 rfl rfl)
theorem dX1_farShare_86 : decode cX1_farShare 86 = .ok (.aload_n 0, 1) := dk_42 (dk_at dksX1_farShare_3 18 rfl rfl)
theorem dX1_farShare_87 : decode cX1_farShare 87 = .ok (.aload_n 0, 1) := dk_42 (dk_at dksX1_farShare_3 19 rfl rfl)
theorem dX1_farShare_88 : decode cX1_farShare 88 = .ok (.getfield 112, 3) := dk_180 0 112 (dk_at dksX1_farShare_3 20 rfl rfl)
theorem dX1_farShare_91 : decode cX1_farShare 91 = .ok (.getfield 272, 3) := dk_180 1 16 (dk_at dksX1_farShare_4 0 rfl rfl)
theorem dX1_farShare_94 : decode cX1_farShare 94 = .ok (.iload 5, 2) := dk_21 5 (dk_at dksX1_farShare_4 3 rfl rfl)
theorem dX1_farShare_96 : decode cX1_farShare 96 = .ok (.iload_n 1, 1) := dk_27 (dk_at dksX1_farShare_4 5 rfl rfl)
theorem dX1_farShare_97 : decode cX1_farShare 97 = .ok (.invokevirtual 219, 3) := dk_182 0 219 (dk_at dksX1_farShare_4 6 rfl rfl)
theorem dX1_farShare_100 : decode cX1_farShare 100 = .ok (.i2l, 1) := dk_133 (dk_at dksX1_farShare_4 9 rfl rfl)
theorem dX1_farShare_101 : decode cX1_farShare 101 = .ok (.lmul, 1) := dk_105 (dk_at dksX1_farShare_4 10 rfl rfl)
theorem dX1_farShare_102 : decode cX1_farShare 102 = .ok (.lsub, 1) := dk_101 (dk_at dksX1_farShare_4 11 rfl rfl)
theorem dX1_farShare_103 : decode cX1_farShare 103 = .ok (.lstore 6, 2) := dk_55 6 (dk_at dksX1_farShare_4 12 rfl rfl)
theorem dX1_farShare_105 : decode cX1_farShare 105 = .ok (.lload 6, 2) := dk_22 6 (dk_at dksX1_farShare_4 14 rfl rfl)
theorem dX1_farShare_107 : decode cX1_farShare 107 = .ok (.lload_n 3, 1) := dk_33 (dk_at dksX1_farShare_4 16 rfl rfl)
theorem dX1_farShare_108 : decode cX1_farShare 108 = .ok (.lcmp, 1) := dk_148 (dk_at dksX1_farShare_4 17 rfl rfl)
theorem dX1_farShare_109 : decode cX1_farShare 109 = .ok (.ifCond .ge 11, 3) := dk_156 0 11 (dk_at dksX1_farShare_4 18 rfl rfl)
theorem dX1_farShare_112 : decode cX1_farShare 112 = .ok (.lload 6, 2) := dk_22 6 (dk_at dksX1_farShare_4 21 rfl rfl)
theorem dX1_farShare_114 : decode cX1_farShare 114 = .ok (.lload_n 3, 1) := dk_33 (dk_at dksX1_farShare_4 23 rfl rfl)
theorem dX1_farShare_115 : decode cX1_farShare 115 = .ok (.lneg, 1) := dk_117 (dk_at dksX1_farShare_5 0 rfl rfl)
theorem dX1_farShare_116 : decode cX1_farShare 116 = .ok (.lcmp, 1) := dk_148 (dk_at dksX1_farShare_5 1 rfl rfl)
theorem dX1_farShare_117 : decode cX1_farShare 117 = .ok (.ifCond .gt 5, 3) := dk_157 0 5 (dk_at dksX1_farShare_5 2 rfl rfl)
theorem dX1_farShare_120 : decode cX1_farShare 120 = .ok (.iconst 1, 1) := dk_4 (dk_at dksX1_farShare_5 5 rfl rfl)
theorem dX1_farShare_121 : decode cX1_farShare 121 = .ok (.ireturn, 1) := dk_172 (dk_at dksX1_farShare_5 6 rfl rfl)
theorem dX1_farShare_122 : decode cX1_farShare 122 = .ok (.iinc 5 1, 3) := dk_132 5 1 (dk_at dksX1_farShare_5 7 rfl rfl)
theorem dX1_farShare_125 : decode cX1_farShare 125 = .ok (.goto (-64), 3) := dk_167 255 192 (dk_at dksX1_farShare_5 10 rfl rfl)
theorem dX1_farShare_128 : decode cX1_farShare 128 = .ok (.iconst 0, 1) := dk_3 (dk_at dksX1_farShare_5 13 rfl rfl)
theorem dX1_farShare_129 : decode cX1_farShare 129 = .ok (.ireturn, 1) := dk_172 (dk_at dksX1_farShare_5 14 rfl rfl)
abbrev cX1_loose : ByteArray := prog_1_method_4_code
def yX1_loose : MethodName := ⟨RX1, "loose", "(DII)D"⟩
def dkwX1_loose_6 : List UInt8 := [184, 0, 21, 57, 6, 167, 0, 10, 24, 4, 184, 0, 15, 57, 6, 24, 6, 28, 135, 107, 175]
abbrev dktX1_loose_6 : List UInt8 := dkwX1_loose_6 ++ []
def dkwX1_loose_5 : List UInt8 := [151, 158, 0, 11, 24, 4, 184, 0, 15, 167, 0, 8, 24, 4, 184, 0, 21, 57, 6, 167, 0, 20, 24, 4]
abbrev dktX1_loose_5 : List UInt8 := dkwX1_loose_5 ++ dktX1_loose_6
def dkwX1_loose_4 : List UInt8 := [158, 0, 11, 24, 4, 184, 0, 21, 167, 0, 8, 24, 4, 184, 0, 15, 57, 6, 167, 0, 45, 24, 4, 14]
abbrev dktX1_loose_4 : List UInt8 := dkwX1_loose_4 ++ dktX1_loose_5
def dkwX1_loose_3 : List UInt8 := [99, 184, 0, 21, 57, 6, 167, 0, 80, 24, 4, 184, 0, 24, 57, 6, 167, 0, 70, 24, 4, 14, 151]
abbrev dktX1_loose_3 : List UInt8 := dkwX1_loose_3 ++ dktX1_loose_4
def dkwX1_loose_2 : List UInt8 := [24, 4, 14, 152, 156, 0, 15, 24, 4, 20, 0, 13, 103, 184, 0, 15, 167, 0, 12, 24, 4, 20, 0, 13]
abbrev dktX1_loose_2 : List UInt8 := dkwX1_loose_2 ++ dktX1_loose_3
def dkwX1_loose_1 : List UInt8 := [170, 0, 0, 0, 136, 0, 0, 0, 0, 0, 0, 0, 4, 0, 0, 0, 33, 0, 0, 0, 66, 0, 0, 0, 76, 0, 0, 0, 101, 0, 0, 0, 126]
abbrev dktX1_loose_1 : List UInt8 := dkwX1_loose_1 ++ dktX1_loose_2
def dkwX1_loose_0 : List UInt8 := [38, 28, 135, 111, 57, 4, 29]
abbrev dktX1_loose_0 : List UInt8 := dkwX1_loose_0 ++ dktX1_loose_1
theorem dksX1_loose_0 : cX1_loose.data.toList.drop 0 = dktX1_loose_0 := by decide +kernel
theorem dksX1_loose_1 : cX1_loose.data.toList.drop 7 = dktX1_loose_1 := dk_seg dksX1_loose_0 7 rfl rfl
theorem dksX1_loose_2 : cX1_loose.data.toList.drop 40 = dktX1_loose_2 := dk_seg dksX1_loose_1 33 rfl rfl
theorem dksX1_loose_3 : cX1_loose.data.toList.drop 64 = dktX1_loose_3 := dk_seg dksX1_loose_2 24 rfl rfl
theorem dksX1_loose_4 : cX1_loose.data.toList.drop 87 = dktX1_loose_4 := dk_seg dksX1_loose_3 23 rfl rfl
theorem dksX1_loose_5 : cX1_loose.data.toList.drop 111 = dktX1_loose_5 := dk_seg dksX1_loose_4 24 rfl rfl
theorem dksX1_loose_6 : cX1_loose.data.toList.drop 135 = dktX1_loose_6 := dk_seg dksX1_loose_5 24 rfl rfl
theorem dX1_loose_0 : decode cX1_loose 0 = .ok (.dload_n 0, 1) := dk_38 (dk_at dksX1_loose_0 0 rfl rfl)
theorem dX1_loose_1 : decode cX1_loose 1 = .ok (.iload_n 2, 1) := dk_28 (dk_at dksX1_loose_0 1 rfl rfl)
theorem dX1_loose_2 : decode cX1_loose 2 = .ok (.i2d, 1) := dk_135 (dk_at dksX1_loose_0 2 rfl rfl)
theorem dX1_loose_3 : decode cX1_loose 3 = .ok (.ddiv, 1) := dk_111 (dk_at dksX1_loose_0 3 rfl rfl)
theorem dX1_loose_4 : decode cX1_loose 4 = .ok (.dstore 4, 2) := dk_57 4 (dk_at dksX1_loose_0 4 rfl rfl)
theorem dX1_loose_6 : decode cX1_loose 6 = .ok (.iload_n 3, 1) := dk_29 (dk_at dksX1_loose_0 6 rfl rfl)
theorem dX1_loose_7 : decode cX1_loose 7 = .ok (.tableswitch 136 0 4 #[33, 66, 76, 101, 126], 33) := by decide +kernel
theorem dX1_loose_40 : decode cX1_loose 40 = .ok (.dload 4, 2) := dk_24 4 (dk_at dksX1_loose_2 0 rfl rfl)
theorem dX1_loose_42 : decode cX1_loose 42 = .ok (.dconst 0, 1) := dk_14 (dk_at dksX1_loose_2 2 rfl rfl)
theorem dX1_loose_43 : decode cX1_loose 43 = .ok (.dcmp .g, 1) := dk_152 (dk_at dksX1_loose_2 3 rfl rfl)
theorem dX1_loose_44 : decode cX1_loose 44 = .ok (.ifCond .ge 15, 3) := dk_156 0 15 (dk_at dksX1_loose_2 4 rfl rfl)
theorem dX1_loose_47 : decode cX1_loose 47 = .ok (.dload 4, 2) := dk_24 4 (dk_at dksX1_loose_2 7 rfl rfl)
theorem dX1_loose_49 : decode cX1_loose 49 = .ok (.ldc2_w 13, 3) := dk_20 0 13 (dk_at dksX1_loose_2 9 rfl rfl)
theorem dX1_loose_52 : decode cX1_loose 52 = .ok (.dsub, 1) := dk_103 (dk_at dksX1_loose_2 12 rfl rfl)
theorem dX1_loose_53 : decode cX1_loose 53 = .ok (.invokestatic 15, 3) := dk_184 0 15 (dk_at dksX1_loose_2 13 rfl rfl)
theorem dX1_loose_56 : decode cX1_loose 56 = .ok (.goto 12, 3) := dk_167 0 12 (dk_at dksX1_loose_2 16 rfl rfl)
theorem dX1_loose_59 : decode cX1_loose 59 = .ok (.dload 4, 2) := dk_24 4 (dk_at dksX1_loose_2 19 rfl rfl)
theorem dX1_loose_61 : decode cX1_loose 61 = .ok (.ldc2_w 13, 3) := dk_20 0 13 (dk_at dksX1_loose_2 21 rfl rfl)
theorem dX1_loose_64 : decode cX1_loose 64 = .ok (.dadd, 1) := dk_99 (dk_at dksX1_loose_3 0 rfl rfl)
theorem dX1_loose_65 : decode cX1_loose 65 = .ok (.invokestatic 21, 3) := dk_184 0 21 (dk_at dksX1_loose_3 1 rfl rfl)
theorem dX1_loose_68 : decode cX1_loose 68 = .ok (.dstore 6, 2) := dk_57 6 (dk_at dksX1_loose_3 4 rfl rfl)
theorem dX1_loose_70 : decode cX1_loose 70 = .ok (.goto 80, 3) := dk_167 0 80 (dk_at dksX1_loose_3 6 rfl rfl)
theorem dX1_loose_73 : decode cX1_loose 73 = .ok (.dload 4, 2) := dk_24 4 (dk_at dksX1_loose_3 9 rfl rfl)
theorem dX1_loose_75 : decode cX1_loose 75 = .ok (.invokestatic 24, 3) := dk_184 0 24 (dk_at dksX1_loose_3 11 rfl rfl)
theorem dX1_loose_78 : decode cX1_loose 78 = .ok (.dstore 6, 2) := dk_57 6 (dk_at dksX1_loose_3 14 rfl rfl)
theorem dX1_loose_80 : decode cX1_loose 80 = .ok (.goto 70, 3) := dk_167 0 70 (dk_at dksX1_loose_3 16 rfl rfl)
theorem dX1_loose_83 : decode cX1_loose 83 = .ok (.dload 4, 2) := dk_24 4 (dk_at dksX1_loose_3 19 rfl rfl)
theorem dX1_loose_85 : decode cX1_loose 85 = .ok (.dconst 0, 1) := dk_14 (dk_at dksX1_loose_3 21 rfl rfl)
theorem dX1_loose_86 : decode cX1_loose 86 = .ok (.dcmp .l, 1) := dk_151 (dk_at dksX1_loose_3 22 rfl rfl)
theorem dX1_loose_87 : decode cX1_loose 87 = .ok (.ifCond .le 11, 3) := dk_158 0 11 (dk_at dksX1_loose_4 0 rfl rfl)
theorem dX1_loose_90 : decode cX1_loose 90 = .ok (.dload 4, 2) := dk_24 4 (dk_at dksX1_loose_4 3 rfl rfl)
theorem dX1_loose_92 : decode cX1_loose 92 = .ok (.invokestatic 21, 3) := dk_184 0 21 (dk_at dksX1_loose_4 5 rfl rfl)
theorem dX1_loose_95 : decode cX1_loose 95 = .ok (.goto 8, 3) := dk_167 0 8 (dk_at dksX1_loose_4 8 rfl rfl)
theorem dX1_loose_98 : decode cX1_loose 98 = .ok (.dload 4, 2) := dk_24 4 (dk_at dksX1_loose_4 11 rfl rfl)
theorem dX1_loose_100 : decode cX1_loose 100 = .ok (.invokestatic 15, 3) := dk_184 0 15 (dk_at dksX1_loose_4 13 rfl rfl)
theorem dX1_loose_103 : decode cX1_loose 103 = .ok (.dstore 6, 2) := dk_57 6 (dk_at dksX1_loose_4 16 rfl rfl)
theorem dX1_loose_105 : decode cX1_loose 105 = .ok (.goto 45, 3) := dk_167 0 45 (dk_at dksX1_loose_4 18 rfl rfl)
theorem dX1_loose_108 : decode cX1_loose 108 = .ok (.dload 4, 2) := dk_24 4 (dk_at dksX1_loose_4 21 rfl rfl)
theorem dX1_loose_110 : decode cX1_loose 110 = .ok (.dconst 0, 1) := dk_14 (dk_at dksX1_loose_4 23 rfl rfl)
theorem dX1_loose_111 : decode cX1_loose 111 = .ok (.dcmp .l, 1) := dk_151 (dk_at dksX1_loose_5 0 rfl rfl)
theorem dX1_loose_112 : decode cX1_loose 112 = .ok (.ifCond .le 11, 3) := dk_158 0 11 (dk_at dksX1_loose_5 1 rfl rfl)
theorem dX1_loose_115 : decode cX1_loose 115 = .ok (.dload 4, 2) := dk_24 4 (dk_at dksX1_loose_5 4 rfl rfl)
theorem dX1_loose_117 : decode cX1_loose 117 = .ok (.invokestatic 15, 3) := dk_184 0 15 (dk_at dksX1_loose_5 6 rfl rfl)
theorem dX1_loose_120 : decode cX1_loose 120 = .ok (.goto 8, 3) := dk_167 0 8 (dk_at dksX1_loose_5 9 rfl rfl)
theorem dX1_loose_123 : decode cX1_loose 123 = .ok (.dload 4, 2) := dk_24 4 (dk_at dksX1_loose_5 12 rfl rfl)
theorem dX1_loose_125 : decode cX1_loose 125 = .ok (.invokestatic 21, 3) := dk_184 0 21 (dk_at dksX1_loose_5 14 rfl rfl)
theorem dX1_loose_128 : decode cX1_loose 128 = .ok (.dstore 6, 2) := dk_57 6 (dk_at dksX1_loose_5 17 rfl rfl)
theorem dX1_loose_130 : decode cX1_loose 130 = .ok (.goto 20, 3) := dk_167 0 20 (dk_at dksX1_loose_5 19 rfl rfl)
theorem dX1_loose_133 : decode cX1_loose 133 = .ok (.dload 4, 2) := dk_24 4 (dk_at dksX1_loose_5 22 rfl rfl)
theorem dX1_loose_135 : decode cX1_loose 135 = .ok (.invokestatic 21, 3) := dk_184 0 21 (dk_at dksX1_loose_6 0 rfl rfl)
theorem dX1_loose_138 : decode cX1_loose 138 = .ok (.dstore 6, 2) := dk_57 6 (dk_at dksX1_loose_6 3 rfl rfl)
theorem dX1_loose_140 : decode cX1_loose 140 = .ok (.goto 10, 3) := dk_167 0 10 (dk_at dksX1_loose_6 5 rfl rfl)
theorem dX1_loose_143 : decode cX1_loose 143 = .ok (.dload 4, 2) := dk_24 4 (dk_at dksX1_loose_6 8 rfl rfl)
theorem dX1_loose_145 : decode cX1_loose 145 = .ok (.invokestatic 15, 3) := dk_184 0 15 (dk_at dksX1_loose_6 10 rfl rfl)
theorem dX1_loose_148 : decode cX1_loose 148 = .ok (.dstore 6, 2) := dk_57 6 (dk_at dksX1_loose_6 13 rfl rfl)
theorem dX1_loose_150 : decode cX1_loose 150 = .ok (.dload 6, 2) := dk_24 6 (dk_at dksX1_loose_6 15 rfl rfl)
theorem dX1_loose_152 : decode cX1_loose 152 = .ok (.iload_n 2, 1) := dk_28 (dk_at dksX1_loose_6 17 rfl rfl)
theorem dX1_loose_153 : decode cX1_loose 153 = .ok (.i2d, 1) := dk_135 (dk_at dksX1_loose_6 18 rfl rfl)
theorem dX1_loose_154 : decode cX1_loose 154 = .ok (.dmul, 1) := dk_107 (dk_at dksX1_loose_6 19 rfl rfl)
theorem dX1_loose_155 : decode cX1_loose 155 = .ok (.dreturn, 1) := dk_175 (dk_at dksX1_loose_6 20 rfl rfl)
abbrev cX1_kept : ByteArray := prog_1_method_3_code
def yX1_kept : MethodName := ⟨RX1, "kept", "(D)D"⟩
def dkwX1_kept_1 : List UInt8 := [167, 0, 4, 38, 175]
abbrev dktX1_kept_1 : List UInt8 := dkwX1_kept_1 ++ []
def dkwX1_kept_0 : List UInt8 := [38, 20, 0, 9, 151, 158, 0, 7, 20, 0, 9, 175, 38, 20, 0, 11, 152, 156, 0, 9, 20, 0, 11]
abbrev dktX1_kept_0 : List UInt8 := dkwX1_kept_0 ++ dktX1_kept_1
theorem dksX1_kept_0 : cX1_kept.data.toList.drop 0 = dktX1_kept_0 := by decide +kernel
theorem dksX1_kept_1 : cX1_kept.data.toList.drop 23 = dktX1_kept_1 := dk_seg dksX1_kept_0 23 rfl rfl
theorem dX1_kept_0 : decode cX1_kept 0 = .ok (.dload_n 0, 1) := dk_38 (dk_at dksX1_kept_0 0 rfl rfl)
theorem dX1_kept_1 : decode cX1_kept 1 = .ok (.ldc2_w 9, 3) := dk_20 0 9 (dk_at dksX1_kept_0 1 rfl rfl)
theorem dX1_kept_4 : decode cX1_kept 4 = .ok (.dcmp .l, 1) := dk_151 (dk_at dksX1_kept_0 4 rfl rfl)
theorem dX1_kept_5 : decode cX1_kept 5 = .ok (.ifCond .le 7, 3) := dk_158 0 7 (dk_at dksX1_kept_0 5 rfl rfl)
theorem dX1_kept_8 : decode cX1_kept 8 = .ok (.ldc2_w 9, 3) := dk_20 0 9 (dk_at dksX1_kept_0 8 rfl rfl)
theorem dX1_kept_11 : decode cX1_kept 11 = .ok (.dreturn, 1) := dk_175 (dk_at dksX1_kept_0 11 rfl rfl)
theorem dX1_kept_12 : decode cX1_kept 12 = .ok (.dload_n 0, 1) := dk_38 (dk_at dksX1_kept_0 12 rfl rfl)
theorem dX1_kept_13 : decode cX1_kept 13 = .ok (.ldc2_w 11, 3) := dk_20 0 11 (dk_at dksX1_kept_0 13 rfl rfl)
theorem dX1_kept_16 : decode cX1_kept 16 = .ok (.dcmp .g, 1) := dk_152 (dk_at dksX1_kept_0 16 rfl rfl)
theorem dX1_kept_17 : decode cX1_kept 17 = .ok (.ifCond .ge 9, 3) := dk_156 0 9 (dk_at dksX1_kept_0 17 rfl rfl)
theorem dX1_kept_20 : decode cX1_kept 20 = .ok (.ldc2_w 11, 3) := dk_20 0 11 (dk_at dksX1_kept_0 20 rfl rfl)
theorem dX1_kept_23 : decode cX1_kept 23 = .ok (.goto 4, 3) := dk_167 0 4 (dk_at dksX1_kept_1 0 rfl rfl)
theorem dX1_kept_26 : decode cX1_kept 26 = .ok (.dload_n 0, 1) := dk_38 (dk_at dksX1_kept_1 3 rfl rfl)
theorem dX1_kept_27 : decode cX1_kept 27 = .ok (.dreturn, 1) := dk_175 (dk_at dksX1_kept_1 4 rfl rfl)
abbrev cX1_order : ByteArray := prog_1_method_41_code
def yX1_order : MethodName := ⟨RX1, "order", "(I)I"⟩
def dkwX1_order_11 : List UInt8 := [167, 255, 212, 167, 255, 91, 19, 1, 41, 172]
abbrev dktX1_order_11 : List UInt8 := dkwX1_order_11 ++ []
def dkwX1_order_10 : List UInt8 := [180, 0, 112, 180, 1, 11, 42, 180, 0, 124, 21, 6, 46, 47, 148, 153, 0, 6, 21, 4, 172, 132, 6, 1]
abbrev dktX1_order_10 : List UInt8 := dkwX1_order_10 ++ dktX1_order_11
def dkwX1_order_9 : List UInt8 := [3, 54, 6, 21, 6, 42, 180, 0, 160, 162, 0, 41, 42, 180, 0, 115, 180, 1, 11, 21, 6, 47, 42]
abbrev dktX1_order_9 : List UInt8 := dkwX1_order_9 ++ dktX1_order_10
def dkwX1_order_8 : List UInt8 := [21, 5, 29, 159, 0, 6, 21, 4, 172, 29, 153, 0, 14, 42, 4, 182, 1, 26, 154, 0, 6, 21, 4, 172]
abbrev dktX1_order_8 : List UInt8 := dkwX1_order_8 ++ dktX1_order_9
def dkwX1_order_7 : List UInt8 := [180, 0, 115, 182, 0, 175, 44, 42, 180, 0, 115, 182, 1, 14, 155, 0, 7, 4, 167, 0, 4, 3, 54, 5]
abbrev dktX1_order_7 : List UInt8 := dkwX1_order_7 ++ dktX1_order_8
def dkwX1_order_6 : List UInt8 := [79, 132, 5, 1, 167, 255, 225, 42, 180, 0, 115, 42, 180, 0, 127, 42, 180, 0, 160, 182, 0, 229, 42]
abbrev dktX1_order_6 : List UInt8 := dkwX1_order_6 ++ dktX1_order_7
def dkwX1_order_5 : List UInt8 := [180, 0, 160, 162, 0, 28, 42, 180, 0, 127, 21, 5, 42, 180, 0, 86, 42, 180, 0, 124, 21, 5, 46, 46]
abbrev dktX1_order_5 : List UInt8 := dkwX1_order_5 ++ dktX1_order_6
def dkwX1_order_4 : List UInt8 := [54, 4, 42, 42, 180, 0, 160, 182, 1, 53, 153, 0, 160, 132, 4, 1, 3, 54, 5, 21, 5, 42]
abbrev dktX1_order_4 : List UInt8 := dkwX1_order_4 ++ dktX1_order_5
def dkwX1_order_3 : List UInt8 := [180, 0, 112, 182, 0, 175, 44, 42, 180, 0, 112, 182, 1, 14, 155, 0, 7, 4, 167, 0, 4, 3, 62, 3]
abbrev dktX1_order_3 : List UInt8 := dkwX1_order_3 ++ dktX1_order_4
def dkwX1_order_2 : List UInt8 := [132, 3, 1, 167, 255, 238, 42, 180, 0, 112, 42, 180, 0, 86, 42, 180, 0, 160, 182, 0, 229, 42]
abbrev dktX1_order_2 : List UInt8 := dkwX1_order_2 ++ dktX1_order_3
def dkwX1_order_1 : List UInt8 := [180, 0, 97, 27, 50, 77, 3, 62, 29, 42, 180, 0, 160, 162, 0, 16, 42, 180, 0, 124, 29, 29, 79]
abbrev dktX1_order_1 : List UInt8 := dkwX1_order_1 ++ dktX1_order_2
def dkwX1_order_0 : List UInt8 := [42, 27, 182, 0, 183, 154, 0, 5, 2, 172, 42, 180, 0, 160, 16, 6, 164, 0, 6, 16, 254, 172, 42]
abbrev dktX1_order_0 : List UInt8 := dkwX1_order_0 ++ dktX1_order_1
theorem dksX1_order_0 : cX1_order.data.toList.drop 0 = dktX1_order_0 := by decide +kernel
theorem dksX1_order_1 : cX1_order.data.toList.drop 23 = dktX1_order_1 := dk_seg dksX1_order_0 23 rfl rfl
theorem dksX1_order_2 : cX1_order.data.toList.drop 46 = dktX1_order_2 := dk_seg dksX1_order_1 23 rfl rfl
theorem dksX1_order_3 : cX1_order.data.toList.drop 68 = dktX1_order_3 := dk_seg dksX1_order_2 22 rfl rfl
theorem dksX1_order_4 : cX1_order.data.toList.drop 92 = dktX1_order_4 := dk_seg dksX1_order_3 24 rfl rfl
theorem dksX1_order_5 : cX1_order.data.toList.drop 114 = dktX1_order_5 := dk_seg dksX1_order_4 22 rfl rfl
theorem dksX1_order_6 : cX1_order.data.toList.drop 138 = dktX1_order_6 := dk_seg dksX1_order_5 24 rfl rfl
theorem dksX1_order_7 : cX1_order.data.toList.drop 161 = dktX1_order_7 := dk_seg dksX1_order_6 23 rfl rfl
theorem dksX1_order_8 : cX1_order.data.toList.drop 185 = dktX1_order_8 := dk_seg dksX1_order_7 24 rfl rfl
theorem dksX1_order_9 : cX1_order.data.toList.drop 209 = dktX1_order_9 := dk_seg dksX1_order_8 24 rfl rfl
theorem dksX1_order_10 : cX1_order.data.toList.drop 232 = dktX1_order_10 := dk_seg dksX1_order_9 23 rfl rfl
theorem dksX1_order_11 : cX1_order.data.toList.drop 256 = dktX1_order_11 := dk_seg dksX1_order_10 24 rfl rfl
theorem dX1_order_0 : decode cX1_order 0 = .ok (.aload_n 0, 1) := dk_42 (dk_at dksX1_order_0 0 rfl rfl)
theorem dX1_order_1 : decode cX1_order 1 = .ok (.iload_n 1, 1) := dk_27 (dk_at dksX1_order_0 1 rfl rfl)
theorem dX1_order_2 : decode cX1_order 2 = .ok (.invokevirtual 183, 3) := dk_182 0 183 (dk_at dksX1_order_0 2 rfl rfl)
theorem dX1_order_5 : decode cX1_order 5 = .ok (.ifCond .ne 5, 3) := dk_154 0 5 (dk_at dksX1_order_0 5 rfl rfl)
theorem dX1_order_8 : decode cX1_order 8 = .ok (.iconst (-1), 1) := dk_2 (dk_at dksX1_order_0 8 rfl rfl)
theorem dX1_order_9 : decode cX1_order 9 = .ok (.ireturn, 1) := dk_172 (dk_at dksX1_order_0 9 rfl rfl)
theorem dX1_order_10 : decode cX1_order 10 = .ok (.aload_n 0, 1) := dk_42 (dk_at dksX1_order_0 10 rfl rfl)
theorem dX1_order_11 : decode cX1_order 11 = .ok (.getfield 160, 3) := dk_180 0 160 (dk_at dksX1_order_0 11 rfl rfl)
theorem dX1_order_14 : decode cX1_order 14 = .ok (.bipush 6, 2) := dk_16 6 (dk_at dksX1_order_0 14 rfl rfl)
theorem dX1_order_16 : decode cX1_order 16 = .ok (.if_icmp .le 6, 3) := dk_164 0 6 (dk_at dksX1_order_0 16 rfl rfl)
theorem dX1_order_19 : decode cX1_order 19 = .ok (.bipush (-2), 2) := dk_16 254 (dk_at dksX1_order_0 19 rfl rfl)
theorem dX1_order_21 : decode cX1_order 21 = .ok (.ireturn, 1) := dk_172 (dk_at dksX1_order_0 21 rfl rfl)
theorem dX1_order_22 : decode cX1_order 22 = .ok (.aload_n 0, 1) := dk_42 (dk_at dksX1_order_0 22 rfl rfl)
theorem dX1_order_23 : decode cX1_order 23 = .ok (.getfield 97, 3) := dk_180 0 97 (dk_at dksX1_order_1 0 rfl rfl)
theorem dX1_order_26 : decode cX1_order 26 = .ok (.iload_n 1, 1) := dk_27 (dk_at dksX1_order_1 3 rfl rfl)
theorem dX1_order_27 : decode cX1_order 27 = .ok (.aaload, 1) := dk_50 (dk_at dksX1_order_1 4 rfl rfl)
theorem dX1_order_28 : decode cX1_order 28 = .ok (.astore_n 2, 1) := dk_77 (dk_at dksX1_order_1 5 rfl rfl)
theorem dX1_order_29 : decode cX1_order 29 = .ok (.iconst 0, 1) := dk_3 (dk_at dksX1_order_1 6 rfl rfl)
theorem dX1_order_30 : decode cX1_order 30 = .ok (.istore_n 3, 1) := dk_62 (dk_at dksX1_order_1 7 rfl rfl)
theorem dX1_order_31 : decode cX1_order 31 = .ok (.iload_n 3, 1) := dk_29 (dk_at dksX1_order_1 8 rfl rfl)
theorem dX1_order_32 : decode cX1_order 32 = .ok (.aload_n 0, 1) := dk_42 (dk_at dksX1_order_1 9 rfl rfl)
theorem dX1_order_33 : decode cX1_order 33 = .ok (.getfield 160, 3) := dk_180 0 160 (dk_at dksX1_order_1 10 rfl rfl)
theorem dX1_order_36 : decode cX1_order 36 = .ok (.if_icmp .ge 16, 3) := dk_162 0 16 (dk_at dksX1_order_1 13 rfl rfl)
theorem dX1_order_39 : decode cX1_order 39 = .ok (.aload_n 0, 1) := dk_42 (dk_at dksX1_order_1 16 rfl rfl)
theorem dX1_order_40 : decode cX1_order 40 = .ok (.getfield 124, 3) := dk_180 0 124 (dk_at dksX1_order_1 17 rfl rfl)
theorem dX1_order_43 : decode cX1_order 43 = .ok (.iload_n 3, 1) := dk_29 (dk_at dksX1_order_1 20 rfl rfl)
theorem dX1_order_44 : decode cX1_order 44 = .ok (.iload_n 3, 1) := dk_29 (dk_at dksX1_order_1 21 rfl rfl)
theorem dX1_order_45 : decode cX1_order 45 = .ok (.iastore, 1) := dk_79 (dk_at dksX1_order_1 22 rfl rfl)
theorem dX1_order_46 : decode cX1_order 46 = .ok (.iinc 3 1, 3) := dk_132 3 1 (dk_at dksX1_order_2 0 rfl rfl)
theorem dX1_order_49 : decode cX1_order 49 = .ok (.goto (-18), 3) := dk_167 255 238 (dk_at dksX1_order_2 3 rfl rfl)
theorem dX1_order_52 : decode cX1_order 52 = .ok (.aload_n 0, 1) := dk_42 (dk_at dksX1_order_2 6 rfl rfl)
theorem dX1_order_53 : decode cX1_order 53 = .ok (.getfield 112, 3) := dk_180 0 112 (dk_at dksX1_order_2 7 rfl rfl)
theorem dX1_order_56 : decode cX1_order 56 = .ok (.aload_n 0, 1) := dk_42 (dk_at dksX1_order_2 10 rfl rfl)
theorem dX1_order_57 : decode cX1_order 57 = .ok (.getfield 86, 3) := dk_180 0 86 (dk_at dksX1_order_2 11 rfl rfl)
theorem dX1_order_60 : decode cX1_order 60 = .ok (.aload_n 0, 1) := dk_42 (dk_at dksX1_order_2 14 rfl rfl)
theorem dX1_order_61 : decode cX1_order 61 = .ok (.getfield 160, 3) := dk_180 0 160 (dk_at dksX1_order_2 15 rfl rfl)
theorem dX1_order_64 : decode cX1_order 64 = .ok (.invokevirtual 229, 3) := dk_182 0 229 (dk_at dksX1_order_2 18 rfl rfl)
theorem dX1_order_67 : decode cX1_order 67 = .ok (.aload_n 0, 1) := dk_42 (dk_at dksX1_order_2 21 rfl rfl)
theorem dX1_order_68 : decode cX1_order 68 = .ok (.getfield 112, 3) := dk_180 0 112 (dk_at dksX1_order_3 0 rfl rfl)
theorem dX1_order_71 : decode cX1_order 71 = .ok (.invokevirtual 175, 3) := dk_182 0 175 (dk_at dksX1_order_3 3 rfl rfl)
theorem dX1_order_74 : decode cX1_order 74 = .ok (.aload_n 2, 1) := dk_44 (dk_at dksX1_order_3 6 rfl rfl)
theorem dX1_order_75 : decode cX1_order 75 = .ok (.aload_n 0, 1) := dk_42 (dk_at dksX1_order_3 7 rfl rfl)
theorem dX1_order_76 : decode cX1_order 76 = .ok (.getfield 112, 3) := dk_180 0 112 (dk_at dksX1_order_3 8 rfl rfl)
theorem dX1_order_79 : decode cX1_order 79 = .ok (.invokevirtual 270, 3) := dk_182 1 14 (dk_at dksX1_order_3 11 rfl rfl)
theorem dX1_order_82 : decode cX1_order 82 = .ok (.ifCond .lt 7, 3) := dk_155 0 7 (dk_at dksX1_order_3 14 rfl rfl)
theorem dX1_order_85 : decode cX1_order 85 = .ok (.iconst 1, 1) := dk_4 (dk_at dksX1_order_3 17 rfl rfl)
theorem dX1_order_86 : decode cX1_order 86 = .ok (.goto 4, 3) := dk_167 0 4 (dk_at dksX1_order_3 18 rfl rfl)
theorem dX1_order_89 : decode cX1_order 89 = .ok (.iconst 0, 1) := dk_3 (dk_at dksX1_order_3 21 rfl rfl)
theorem dX1_order_90 : decode cX1_order 90 = .ok (.istore_n 3, 1) := dk_62 (dk_at dksX1_order_3 22 rfl rfl)
theorem dX1_order_91 : decode cX1_order 91 = .ok (.iconst 0, 1) := dk_3 (dk_at dksX1_order_3 23 rfl rfl)
theorem dX1_order_92 : decode cX1_order 92 = .ok (.istore 4, 2) := dk_54 4 (dk_at dksX1_order_4 0 rfl rfl)
theorem dX1_order_94 : decode cX1_order 94 = .ok (.aload_n 0, 1) := dk_42 (dk_at dksX1_order_4 2 rfl rfl)
theorem dX1_order_95 : decode cX1_order 95 = .ok (.aload_n 0, 1) := dk_42 (dk_at dksX1_order_4 3 rfl rfl)
theorem dX1_order_96 : decode cX1_order 96 = .ok (.getfield 160, 3) := dk_180 0 160 (dk_at dksX1_order_4 4 rfl rfl)
theorem dX1_order_99 : decode cX1_order 99 = .ok (.invokevirtual 309, 3) := dk_182 1 53 (dk_at dksX1_order_4 7 rfl rfl)
theorem dX1_order_102 : decode cX1_order 102 = .ok (.ifCond .eq 160, 3) := dk_153 0 160 (dk_at dksX1_order_4 10 rfl rfl)
theorem dX1_order_105 : decode cX1_order 105 = .ok (.iinc 4 1, 3) := dk_132 4 1 (dk_at dksX1_order_4 13 rfl rfl)
theorem dX1_order_108 : decode cX1_order 108 = .ok (.iconst 0, 1) := dk_3 (dk_at dksX1_order_4 16 rfl rfl)
theorem dX1_order_109 : decode cX1_order 109 = .ok (.istore 5, 2) := dk_54 5 (dk_at dksX1_order_4 17 rfl rfl)
theorem dX1_order_111 : decode cX1_order 111 = .ok (.iload 5, 2) := dk_21 5 (dk_at dksX1_order_4 19 rfl rfl)
theorem dX1_order_113 : decode cX1_order 113 = .ok (.aload_n 0, 1) := dk_42 (dk_at dksX1_order_4 21 rfl rfl)
theorem dX1_order_114 : decode cX1_order 114 = .ok (.getfield 160, 3) := dk_180 0 160 (dk_at dksX1_order_5 0 rfl rfl)
theorem dX1_order_117 : decode cX1_order 117 = .ok (.if_icmp .ge 28, 3) := dk_162 0 28 (dk_at dksX1_order_5 3 rfl rfl)
theorem dX1_order_120 : decode cX1_order 120 = .ok (.aload_n 0, 1) := dk_42 (dk_at dksX1_order_5 6 rfl rfl)
theorem dX1_order_121 : decode cX1_order 121 = .ok (.getfield 127, 3) := dk_180 0 127 (dk_at dksX1_order_5 7 rfl rfl)
theorem dX1_order_124 : decode cX1_order 124 = .ok (.iload 5, 2) := dk_21 5 (dk_at dksX1_order_5 10 rfl rfl)
theorem dX1_order_126 : decode cX1_order 126 = .ok (.aload_n 0, 1) := dk_42 (dk_at dksX1_order_5 12 rfl rfl)
theorem dX1_order_127 : decode cX1_order 127 = .ok (.getfield 86, 3) := dk_180 0 86 (dk_at dksX1_order_5 13 rfl rfl)
theorem dX1_order_130 : decode cX1_order 130 = .ok (.aload_n 0, 1) := dk_42 (dk_at dksX1_order_5 16 rfl rfl)
theorem dX1_order_131 : decode cX1_order 131 = .ok (.getfield 124, 3) := dk_180 0 124 (dk_at dksX1_order_5 17 rfl rfl)
theorem dX1_order_134 : decode cX1_order 134 = .ok (.iload 5, 2) := dk_21 5 (dk_at dksX1_order_5 20 rfl rfl)
theorem dX1_order_136 : decode cX1_order 136 = .ok (.iaload, 1) := dk_46 (dk_at dksX1_order_5 22 rfl rfl)
theorem dX1_order_137 : decode cX1_order 137 = .ok (.iaload, 1) := dk_46 (dk_at dksX1_order_5 23 rfl rfl)
theorem dX1_order_138 : decode cX1_order 138 = .ok (.iastore, 1) := dk_79 (dk_at dksX1_order_6 0 rfl rfl)
theorem dX1_order_139 : decode cX1_order 139 = .ok (.iinc 5 1, 3) := dk_132 5 1 (dk_at dksX1_order_6 1 rfl rfl)
theorem dX1_order_142 : decode cX1_order 142 = .ok (.goto (-31), 3) := dk_167 255 225 (dk_at dksX1_order_6 4 rfl rfl)
theorem dX1_order_145 : decode cX1_order 145 = .ok (.aload_n 0, 1) := dk_42 (dk_at dksX1_order_6 7 rfl rfl)
theorem dX1_order_146 : decode cX1_order 146 = .ok (.getfield 115, 3) := dk_180 0 115 (dk_at dksX1_order_6 8 rfl rfl)
theorem dX1_order_149 : decode cX1_order 149 = .ok (.aload_n 0, 1) := dk_42 (dk_at dksX1_order_6 11 rfl rfl)
theorem dX1_order_150 : decode cX1_order 150 = .ok (.getfield 127, 3) := dk_180 0 127 (dk_at dksX1_order_6 12 rfl rfl)
theorem dX1_order_153 : decode cX1_order 153 = .ok (.aload_n 0, 1) := dk_42 (dk_at dksX1_order_6 15 rfl rfl)
theorem dX1_order_154 : decode cX1_order 154 = .ok (.getfield 160, 3) := dk_180 0 160 (dk_at dksX1_order_6 16 rfl rfl)
theorem dX1_order_157 : decode cX1_order 157 = .ok (.invokevirtual 229, 3) := dk_182 0 229 (dk_at dksX1_order_6 19 rfl rfl)
theorem dX1_order_160 : decode cX1_order 160 = .ok (.aload_n 0, 1) := dk_42 (dk_at dksX1_order_6 22 rfl rfl)
theorem dX1_order_161 : decode cX1_order 161 = .ok (.getfield 115, 3) := dk_180 0 115 (dk_at dksX1_order_7 0 rfl rfl)
theorem dX1_order_164 : decode cX1_order 164 = .ok (.invokevirtual 175, 3) := dk_182 0 175 (dk_at dksX1_order_7 3 rfl rfl)
theorem dX1_order_167 : decode cX1_order 167 = .ok (.aload_n 2, 1) := dk_44 (dk_at dksX1_order_7 6 rfl rfl)
theorem dX1_order_168 : decode cX1_order 168 = .ok (.aload_n 0, 1) := dk_42 (dk_at dksX1_order_7 7 rfl rfl)
theorem dX1_order_169 : decode cX1_order 169 = .ok (.getfield 115, 3) := dk_180 0 115 (dk_at dksX1_order_7 8 rfl rfl)
theorem dX1_order_172 : decode cX1_order 172 = .ok (.invokevirtual 270, 3) := dk_182 1 14 (dk_at dksX1_order_7 11 rfl rfl)
theorem dX1_order_175 : decode cX1_order 175 = .ok (.ifCond .lt 7, 3) := dk_155 0 7 (dk_at dksX1_order_7 14 rfl rfl)
theorem dX1_order_178 : decode cX1_order 178 = .ok (.iconst 1, 1) := dk_4 (dk_at dksX1_order_7 17 rfl rfl)
theorem dX1_order_179 : decode cX1_order 179 = .ok (.goto 4, 3) := dk_167 0 4 (dk_at dksX1_order_7 18 rfl rfl)
theorem dX1_order_182 : decode cX1_order 182 = .ok (.iconst 0, 1) := dk_3 (dk_at dksX1_order_7 21 rfl rfl)
theorem dX1_order_183 : decode cX1_order 183 = .ok (.istore 5, 2) := dk_54 5 (dk_at dksX1_order_7 22 rfl rfl)
theorem dX1_order_185 : decode cX1_order 185 = .ok (.iload 5, 2) := dk_21 5 (dk_at dksX1_order_8 0 rfl rfl)
theorem dX1_order_187 : decode cX1_order 187 = .ok (.iload_n 3, 1) := dk_29 (dk_at dksX1_order_8 2 rfl rfl)
theorem dX1_order_188 : decode cX1_order 188 = .ok (.if_icmp .eq 6, 3) := dk_159 0 6 (dk_at dksX1_order_8 3 rfl rfl)
theorem dX1_order_191 : decode cX1_order 191 = .ok (.iload 4, 2) := dk_21 4 (dk_at dksX1_order_8 6 rfl rfl)
theorem dX1_order_193 : decode cX1_order 193 = .ok (.ireturn, 1) := dk_172 (dk_at dksX1_order_8 8 rfl rfl)
theorem dX1_order_194 : decode cX1_order 194 = .ok (.iload_n 3, 1) := dk_29 (dk_at dksX1_order_8 9 rfl rfl)
theorem dX1_order_195 : decode cX1_order 195 = .ok (.ifCond .eq 14, 3) := dk_153 0 14 (dk_at dksX1_order_8 10 rfl rfl)
theorem dX1_order_198 : decode cX1_order 198 = .ok (.aload_n 0, 1) := dk_42 (dk_at dksX1_order_8 13 rfl rfl)
theorem dX1_order_199 : decode cX1_order 199 = .ok (.iconst 1, 1) := dk_4 (dk_at dksX1_order_8 14 rfl rfl)
theorem dX1_order_200 : decode cX1_order 200 = .ok (.invokevirtual 282, 3) := dk_182 1 26 (dk_at dksX1_order_8 15 rfl rfl)
theorem dX1_order_203 : decode cX1_order 203 = .ok (.ifCond .ne 6, 3) := dk_154 0 6 (dk_at dksX1_order_8 18 rfl rfl)
theorem dX1_order_206 : decode cX1_order 206 = .ok (.iload 4, 2) := dk_21 4 (dk_at dksX1_order_8 21 rfl rfl)
theorem dX1_order_208 : decode cX1_order 208 = .ok (.ireturn, 1) := dk_172 (dk_at dksX1_order_8 23 rfl rfl)
theorem dX1_order_209 : decode cX1_order 209 = .ok (.iconst 0, 1) := dk_3 (dk_at dksX1_order_9 0 rfl rfl)
theorem dX1_order_210 : decode cX1_order 210 = .ok (.istore 6, 2) := dk_54 6 (dk_at dksX1_order_9 1 rfl rfl)
theorem dX1_order_212 : decode cX1_order 212 = .ok (.iload 6, 2) := dk_21 6 (dk_at dksX1_order_9 3 rfl rfl)
theorem dX1_order_214 : decode cX1_order 214 = .ok (.aload_n 0, 1) := dk_42 (dk_at dksX1_order_9 5 rfl rfl)
theorem dX1_order_215 : decode cX1_order 215 = .ok (.getfield 160, 3) := dk_180 0 160 (dk_at dksX1_order_9 6 rfl rfl)
theorem dX1_order_218 : decode cX1_order 218 = .ok (.if_icmp .ge 41, 3) := dk_162 0 41 (dk_at dksX1_order_9 9 rfl rfl)
theorem dX1_order_221 : decode cX1_order 221 = .ok (.aload_n 0, 1) := dk_42 (dk_at dksX1_order_9 12 rfl rfl)
theorem dX1_order_222 : decode cX1_order 222 = .ok (.getfield 115, 3) := dk_180 0 115 (dk_at dksX1_order_9 13 rfl rfl)
theorem dX1_order_225 : decode cX1_order 225 = .ok (.getfield 267, 3) := dk_180 1 11 (dk_at dksX1_order_9 16 rfl rfl)
theorem dX1_order_228 : decode cX1_order 228 = .ok (.iload 6, 2) := dk_21 6 (dk_at dksX1_order_9 19 rfl rfl)
theorem dX1_order_230 : decode cX1_order 230 = .ok (.laload, 1) := dk_47 (dk_at dksX1_order_9 21 rfl rfl)
theorem dX1_order_231 : decode cX1_order 231 = .ok (.aload_n 0, 1) := dk_42 (dk_at dksX1_order_9 22 rfl rfl)
theorem dX1_order_232 : decode cX1_order 232 = .ok (.getfield 112, 3) := dk_180 0 112 (dk_at dksX1_order_10 0 rfl rfl)
theorem dX1_order_235 : decode cX1_order 235 = .ok (.getfield 267, 3) := dk_180 1 11 (dk_at dksX1_order_10 3 rfl rfl)
theorem dX1_order_238 : decode cX1_order 238 = .ok (.aload_n 0, 1) := dk_42 (dk_at dksX1_order_10 6 rfl rfl)
theorem dX1_order_239 : decode cX1_order 239 = .ok (.getfield 124, 3) := dk_180 0 124 (dk_at dksX1_order_10 7 rfl rfl)
theorem dX1_order_242 : decode cX1_order 242 = .ok (.iload 6, 2) := dk_21 6 (dk_at dksX1_order_10 10 rfl rfl)
theorem dX1_order_244 : decode cX1_order 244 = .ok (.iaload, 1) := dk_46 (dk_at dksX1_order_10 12 rfl rfl)
theorem dX1_order_245 : decode cX1_order 245 = .ok (.laload, 1) := dk_47 (dk_at dksX1_order_10 13 rfl rfl)
theorem dX1_order_246 : decode cX1_order 246 = .ok (.lcmp, 1) := dk_148 (dk_at dksX1_order_10 14 rfl rfl)
theorem dX1_order_247 : decode cX1_order 247 = .ok (.ifCond .eq 6, 3) := dk_153 0 6 (dk_at dksX1_order_10 15 rfl rfl)
theorem dX1_order_250 : decode cX1_order 250 = .ok (.iload 4, 2) := dk_21 4 (dk_at dksX1_order_10 18 rfl rfl)
theorem dX1_order_252 : decode cX1_order 252 = .ok (.ireturn, 1) := dk_172 (dk_at dksX1_order_10 20 rfl rfl)
theorem dX1_order_253 : decode cX1_order 253 = .ok (.iinc 6 1, 3) := dk_132 6 1 (dk_at dksX1_order_10 21 rfl rfl)
theorem dX1_order_256 : decode cX1_order 256 = .ok (.goto (-44), 3) := dk_167 255 212 (dk_at dksX1_order_11 0 rfl rfl)
theorem dX1_order_259 : decode cX1_order 259 = .ok (.goto (-165), 3) := dk_167 255 91 (dk_at dksX1_order_11 3 rfl rfl)
theorem dX1_order_262 : decode cX1_order 262 = .ok (.ldc_w 297, 3) := dk_19 1 41 (dk_at dksX1_order_11 6 rfl rfl)
theorem dX1_order_265 : decode cX1_order 265 = .ok (.ireturn, 1) := dk_172 (dk_at dksX1_order_11 9 rfl rfl)
abbrev cX1_turn : ByteArray := prog_1_method_39_code
def yX1_turn : MethodName := ⟨RX1, "turn", "(I)Z"⟩
def dkwX1_turn_4 : List UInt8 := [132, 4, 1, 132, 5, 255, 167, 255, 235, 4, 172]
abbrev dktX1_turn_4 : List UInt8 := dkwX1_turn_4 ++ []
def dkwX1_turn_3 : List UInt8 := [96, 54, 4, 27, 4, 100, 54, 5, 21, 4, 21, 5, 162, 0, 20, 42, 21, 4, 21, 5, 182, 1, 49]
abbrev dktX1_turn_3 : List UInt8 := dkwX1_turn_3 ++ dktX1_turn_4
def dkwX1_turn_2 : List UInt8 := [46, 42, 180, 0, 124, 28, 46, 162, 0, 9, 132, 3, 255, 167, 255, 238, 42, 28, 29, 182, 1, 49, 28, 4]
abbrev dktX1_turn_2 : List UInt8 := dkwX1_turn_2 ++ dktX1_turn_3
def dkwX1_turn_1 : List UInt8 := [164, 0, 9, 132, 2, 255, 167, 255, 232, 28, 156, 0, 5, 3, 172, 27, 4, 100, 62, 42, 180, 0, 124, 29]
abbrev dktX1_turn_1 : List UInt8 := dkwX1_turn_1 ++ dktX1_turn_2
def dkwX1_turn_0 : List UInt8 := [27, 5, 100, 61, 28, 155, 0, 26, 42, 180, 0, 124, 28, 46, 42, 180, 0, 124, 28, 4, 96, 46]
abbrev dktX1_turn_0 : List UInt8 := dkwX1_turn_0 ++ dktX1_turn_1
theorem dksX1_turn_0 : cX1_turn.data.toList.drop 0 = dktX1_turn_0 := by decide +kernel
theorem dksX1_turn_1 : cX1_turn.data.toList.drop 22 = dktX1_turn_1 := dk_seg dksX1_turn_0 22 rfl rfl
theorem dksX1_turn_2 : cX1_turn.data.toList.drop 46 = dktX1_turn_2 := dk_seg dksX1_turn_1 24 rfl rfl
theorem dksX1_turn_3 : cX1_turn.data.toList.drop 70 = dktX1_turn_3 := dk_seg dksX1_turn_2 24 rfl rfl
theorem dksX1_turn_4 : cX1_turn.data.toList.drop 93 = dktX1_turn_4 := dk_seg dksX1_turn_3 23 rfl rfl
theorem dX1_turn_0 : decode cX1_turn 0 = .ok (.iload_n 1, 1) := dk_27 (dk_at dksX1_turn_0 0 rfl rfl)
theorem dX1_turn_1 : decode cX1_turn 1 = .ok (.iconst 2, 1) := dk_5 (dk_at dksX1_turn_0 1 rfl rfl)
theorem dX1_turn_2 : decode cX1_turn 2 = .ok (.isub, 1) := dk_100 (dk_at dksX1_turn_0 2 rfl rfl)
theorem dX1_turn_3 : decode cX1_turn 3 = .ok (.istore_n 2, 1) := dk_61 (dk_at dksX1_turn_0 3 rfl rfl)
theorem dX1_turn_4 : decode cX1_turn 4 = .ok (.iload_n 2, 1) := dk_28 (dk_at dksX1_turn_0 4 rfl rfl)
theorem dX1_turn_5 : decode cX1_turn 5 = .ok (.ifCond .lt 26, 3) := dk_155 0 26 (dk_at dksX1_turn_0 5 rfl rfl)
theorem dX1_turn_8 : decode cX1_turn 8 = .ok (.aload_n 0, 1) := dk_42 (dk_at dksX1_turn_0 8 rfl rfl)
theorem dX1_turn_9 : decode cX1_turn 9 = .ok (.getfield 124, 3) := dk_180 0 124 (dk_at dksX1_turn_0 9 rfl rfl)
theorem dX1_turn_12 : decode cX1_turn 12 = .ok (.iload_n 2, 1) := dk_28 (dk_at dksX1_turn_0 12 rfl rfl)
theorem dX1_turn_13 : decode cX1_turn 13 = .ok (.iaload, 1) := dk_46 (dk_at dksX1_turn_0 13 rfl rfl)
theorem dX1_turn_14 : decode cX1_turn 14 = .ok (.aload_n 0, 1) := dk_42 (dk_at dksX1_turn_0 14 rfl rfl)
theorem dX1_turn_15 : decode cX1_turn 15 = .ok (.getfield 124, 3) := dk_180 0 124 (dk_at dksX1_turn_0 15 rfl rfl)
theorem dX1_turn_18 : decode cX1_turn 18 = .ok (.iload_n 2, 1) := dk_28 (dk_at dksX1_turn_0 18 rfl rfl)
theorem dX1_turn_19 : decode cX1_turn 19 = .ok (.iconst 1, 1) := dk_4 (dk_at dksX1_turn_0 19 rfl rfl)
theorem dX1_turn_20 : decode cX1_turn 20 = .ok (.iadd, 1) := dk_96 (dk_at dksX1_turn_0 20 rfl rfl)
theorem dX1_turn_21 : decode cX1_turn 21 = .ok (.iaload, 1) := dk_46 (dk_at dksX1_turn_0 21 rfl rfl)
theorem dX1_turn_22 : decode cX1_turn 22 = .ok (.if_icmp .le 9, 3) := dk_164 0 9 (dk_at dksX1_turn_1 0 rfl rfl)
theorem dX1_turn_25 : decode cX1_turn 25 = .ok (.iinc 2 (-1), 3) := dk_132 2 255 (dk_at dksX1_turn_1 3 rfl rfl)
theorem dX1_turn_28 : decode cX1_turn 28 = .ok (.goto (-24), 3) := dk_167 255 232 (dk_at dksX1_turn_1 6 rfl rfl)
theorem dX1_turn_31 : decode cX1_turn 31 = .ok (.iload_n 2, 1) := dk_28 (dk_at dksX1_turn_1 9 rfl rfl)
theorem dX1_turn_32 : decode cX1_turn 32 = .ok (.ifCond .ge 5, 3) := dk_156 0 5 (dk_at dksX1_turn_1 10 rfl rfl)
theorem dX1_turn_35 : decode cX1_turn 35 = .ok (.iconst 0, 1) := dk_3 (dk_at dksX1_turn_1 13 rfl rfl)
theorem dX1_turn_36 : decode cX1_turn 36 = .ok (.ireturn, 1) := dk_172 (dk_at dksX1_turn_1 14 rfl rfl)
theorem dX1_turn_37 : decode cX1_turn 37 = .ok (.iload_n 1, 1) := dk_27 (dk_at dksX1_turn_1 15 rfl rfl)
theorem dX1_turn_38 : decode cX1_turn 38 = .ok (.iconst 1, 1) := dk_4 (dk_at dksX1_turn_1 16 rfl rfl)
theorem dX1_turn_39 : decode cX1_turn 39 = .ok (.isub, 1) := dk_100 (dk_at dksX1_turn_1 17 rfl rfl)
theorem dX1_turn_40 : decode cX1_turn 40 = .ok (.istore_n 3, 1) := dk_62 (dk_at dksX1_turn_1 18 rfl rfl)
theorem dX1_turn_41 : decode cX1_turn 41 = .ok (.aload_n 0, 1) := dk_42 (dk_at dksX1_turn_1 19 rfl rfl)
theorem dX1_turn_42 : decode cX1_turn 42 = .ok (.getfield 124, 3) := dk_180 0 124 (dk_at dksX1_turn_1 20 rfl rfl)
theorem dX1_turn_45 : decode cX1_turn 45 = .ok (.iload_n 3, 1) := dk_29 (dk_at dksX1_turn_1 23 rfl rfl)
theorem dX1_turn_46 : decode cX1_turn 46 = .ok (.iaload, 1) := dk_46 (dk_at dksX1_turn_2 0 rfl rfl)
theorem dX1_turn_47 : decode cX1_turn 47 = .ok (.aload_n 0, 1) := dk_42 (dk_at dksX1_turn_2 1 rfl rfl)
theorem dX1_turn_48 : decode cX1_turn 48 = .ok (.getfield 124, 3) := dk_180 0 124 (dk_at dksX1_turn_2 2 rfl rfl)
theorem dX1_turn_51 : decode cX1_turn 51 = .ok (.iload_n 2, 1) := dk_28 (dk_at dksX1_turn_2 5 rfl rfl)
theorem dX1_turn_52 : decode cX1_turn 52 = .ok (.iaload, 1) := dk_46 (dk_at dksX1_turn_2 6 rfl rfl)
theorem dX1_turn_53 : decode cX1_turn 53 = .ok (.if_icmp .ge 9, 3) := dk_162 0 9 (dk_at dksX1_turn_2 7 rfl rfl)
theorem dX1_turn_56 : decode cX1_turn 56 = .ok (.iinc 3 (-1), 3) := dk_132 3 255 (dk_at dksX1_turn_2 10 rfl rfl)
theorem dX1_turn_59 : decode cX1_turn 59 = .ok (.goto (-18), 3) := dk_167 255 238 (dk_at dksX1_turn_2 13 rfl rfl)
theorem dX1_turn_62 : decode cX1_turn 62 = .ok (.aload_n 0, 1) := dk_42 (dk_at dksX1_turn_2 16 rfl rfl)
theorem dX1_turn_63 : decode cX1_turn 63 = .ok (.iload_n 2, 1) := dk_28 (dk_at dksX1_turn_2 17 rfl rfl)
theorem dX1_turn_64 : decode cX1_turn 64 = .ok (.iload_n 3, 1) := dk_29 (dk_at dksX1_turn_2 18 rfl rfl)
theorem dX1_turn_65 : decode cX1_turn 65 = .ok (.invokevirtual 305, 3) := dk_182 1 49 (dk_at dksX1_turn_2 19 rfl rfl)
theorem dX1_turn_68 : decode cX1_turn 68 = .ok (.iload_n 2, 1) := dk_28 (dk_at dksX1_turn_2 22 rfl rfl)
theorem dX1_turn_69 : decode cX1_turn 69 = .ok (.iconst 1, 1) := dk_4 (dk_at dksX1_turn_2 23 rfl rfl)
theorem dX1_turn_70 : decode cX1_turn 70 = .ok (.iadd, 1) := dk_96 (dk_at dksX1_turn_3 0 rfl rfl)
theorem dX1_turn_71 : decode cX1_turn 71 = .ok (.istore 4, 2) := dk_54 4 (dk_at dksX1_turn_3 1 rfl rfl)
theorem dX1_turn_73 : decode cX1_turn 73 = .ok (.iload_n 1, 1) := dk_27 (dk_at dksX1_turn_3 3 rfl rfl)
theorem dX1_turn_74 : decode cX1_turn 74 = .ok (.iconst 1, 1) := dk_4 (dk_at dksX1_turn_3 4 rfl rfl)
theorem dX1_turn_75 : decode cX1_turn 75 = .ok (.isub, 1) := dk_100 (dk_at dksX1_turn_3 5 rfl rfl)
theorem dX1_turn_76 : decode cX1_turn 76 = .ok (.istore 5, 2) := dk_54 5 (dk_at dksX1_turn_3 6 rfl rfl)
theorem dX1_turn_78 : decode cX1_turn 78 = .ok (.iload 4, 2) := dk_21 4 (dk_at dksX1_turn_3 8 rfl rfl)
theorem dX1_turn_80 : decode cX1_turn 80 = .ok (.iload 5, 2) := dk_21 5 (dk_at dksX1_turn_3 10 rfl rfl)
theorem dX1_turn_82 : decode cX1_turn 82 = .ok (.if_icmp .ge 20, 3) := dk_162 0 20 (dk_at dksX1_turn_3 12 rfl rfl)
theorem dX1_turn_85 : decode cX1_turn 85 = .ok (.aload_n 0, 1) := dk_42 (dk_at dksX1_turn_3 15 rfl rfl)
theorem dX1_turn_86 : decode cX1_turn 86 = .ok (.iload 4, 2) := dk_21 4 (dk_at dksX1_turn_3 16 rfl rfl)
theorem dX1_turn_88 : decode cX1_turn 88 = .ok (.iload 5, 2) := dk_21 5 (dk_at dksX1_turn_3 18 rfl rfl)
theorem dX1_turn_90 : decode cX1_turn 90 = .ok (.invokevirtual 305, 3) := dk_182 1 49 (dk_at dksX1_turn_3 20 rfl rfl)
theorem dX1_turn_93 : decode cX1_turn 93 = .ok (.iinc 4 1, 3) := dk_132 4 1 (dk_at dksX1_turn_4 0 rfl rfl)
theorem dX1_turn_96 : decode cX1_turn 96 = .ok (.iinc 5 (-1), 3) := dk_132 5 255 (dk_at dksX1_turn_4 3 rfl rfl)
theorem dX1_turn_99 : decode cX1_turn 99 = .ok (.goto (-21), 3) := dk_167 255 235 (dk_at dksX1_turn_4 6 rfl rfl)
theorem dX1_turn_102 : decode cX1_turn 102 = .ok (.iconst 1, 1) := dk_4 (dk_at dksX1_turn_4 9 rfl rfl)
theorem dX1_turn_103 : decode cX1_turn 103 = .ok (.ireturn, 1) := dk_172 (dk_at dksX1_turn_4 10 rfl rfl)
abbrev cX1_swap : ByteArray := prog_1_method_40_code
def yX1_swap : MethodName := ⟨RX1, "swap", "(II)V"⟩
def dkwX1_swap_1 : List UInt8 := [29, 79, 177]
abbrev dktX1_swap_1 : List UInt8 := dkwX1_swap_1 ++ []
def dkwX1_swap_0 : List UInt8 := [42, 180, 0, 124, 27, 46, 62, 42, 180, 0, 124, 27, 42, 180, 0, 124, 28, 46, 79, 42, 180, 0, 124, 28]
abbrev dktX1_swap_0 : List UInt8 := dkwX1_swap_0 ++ dktX1_swap_1
theorem dksX1_swap_0 : cX1_swap.data.toList.drop 0 = dktX1_swap_0 := by decide +kernel
theorem dksX1_swap_1 : cX1_swap.data.toList.drop 24 = dktX1_swap_1 := dk_seg dksX1_swap_0 24 rfl rfl
theorem dX1_swap_0 : decode cX1_swap 0 = .ok (.aload_n 0, 1) := dk_42 (dk_at dksX1_swap_0 0 rfl rfl)
theorem dX1_swap_1 : decode cX1_swap 1 = .ok (.getfield 124, 3) := dk_180 0 124 (dk_at dksX1_swap_0 1 rfl rfl)
theorem dX1_swap_4 : decode cX1_swap 4 = .ok (.iload_n 1, 1) := dk_27 (dk_at dksX1_swap_0 4 rfl rfl)
theorem dX1_swap_5 : decode cX1_swap 5 = .ok (.iaload, 1) := dk_46 (dk_at dksX1_swap_0 5 rfl rfl)
theorem dX1_swap_6 : decode cX1_swap 6 = .ok (.istore_n 3, 1) := dk_62 (dk_at dksX1_swap_0 6 rfl rfl)
theorem dX1_swap_7 : decode cX1_swap 7 = .ok (.aload_n 0, 1) := dk_42 (dk_at dksX1_swap_0 7 rfl rfl)
theorem dX1_swap_8 : decode cX1_swap 8 = .ok (.getfield 124, 3) := dk_180 0 124 (dk_at dksX1_swap_0 8 rfl rfl)
theorem dX1_swap_11 : decode cX1_swap 11 = .ok (.iload_n 1, 1) := dk_27 (dk_at dksX1_swap_0 11 rfl rfl)
theorem dX1_swap_12 : decode cX1_swap 12 = .ok (.aload_n 0, 1) := dk_42 (dk_at dksX1_swap_0 12 rfl rfl)
theorem dX1_swap_13 : decode cX1_swap 13 = .ok (.getfield 124, 3) := dk_180 0 124 (dk_at dksX1_swap_0 13 rfl rfl)
theorem dX1_swap_16 : decode cX1_swap 16 = .ok (.iload_n 2, 1) := dk_28 (dk_at dksX1_swap_0 16 rfl rfl)
theorem dX1_swap_17 : decode cX1_swap 17 = .ok (.iaload, 1) := dk_46 (dk_at dksX1_swap_0 17 rfl rfl)
theorem dX1_swap_18 : decode cX1_swap 18 = .ok (.iastore, 1) := dk_79 (dk_at dksX1_swap_0 18 rfl rfl)
theorem dX1_swap_19 : decode cX1_swap 19 = .ok (.aload_n 0, 1) := dk_42 (dk_at dksX1_swap_0 19 rfl rfl)
theorem dX1_swap_20 : decode cX1_swap 20 = .ok (.getfield 124, 3) := dk_180 0 124 (dk_at dksX1_swap_0 20 rfl rfl)
theorem dX1_swap_23 : decode cX1_swap 23 = .ok (.iload_n 2, 1) := dk_28 (dk_at dksX1_swap_0 23 rfl rfl)
theorem dX1_swap_24 : decode cX1_swap 24 = .ok (.iload_n 3, 1) := dk_29 (dk_at dksX1_swap_1 0 rfl rfl)
theorem dX1_swap_25 : decode cX1_swap 25 = .ok (.iastore, 1) := dk_79 (dk_at dksX1_swap_1 1 rfl rfl)
theorem dX1_swap_26 : decode cX1_swap 26 = .ok (.return_, 1) := dk_177 (dk_at dksX1_swap_1 2 rfl rfl)
abbrev cX1_mend : ByteArray := prog_1_method_45_code
def yX1_mend : MethodName := ⟨RX1, "mend", "(IIII)I"⟩
def dkwX1_mend_8 : List UInt8 := [21, 9, 96, 172, 132, 6, 1, 167, 255, 132, 16, 253, 172]
abbrev dktX1_mend_8 : List UInt8 := dkwX1_mend_8 ++ []
def dkwX1_mend_7 : List UInt8 := [132, 10, 1, 167, 255, 200, 25, 7, 21, 8, 182, 1, 70, 21, 9, 155, 0, 12, 16, 10, 21, 6, 104]
abbrev dktX1_mend_7 : List UInt8 := dkwX1_mend_7 ++ dktX1_mend_8
def dkwX1_mend_6 : List UInt8 := [182, 1, 70, 42, 25, 5, 28, 1, 29, 21, 4, 182, 1, 45, 19, 1, 41, 160, 0, 7, 21, 10, 54, 9]
abbrev dktX1_mend_6 : List UInt8 := dkwX1_mend_6 ++ dktX1_mend_7
def dkwX1_mend_5 : List UInt8 := [162, 0, 52, 21, 9, 156, 0, 47, 21, 10, 21, 8, 160, 0, 6, 167, 0, 31, 25, 7, 21, 10]
abbrev dktX1_mend_5 : List UInt8 := dkwX1_mend_5 ++ dktX1_mend_6
def dkwX1_mend_4 : List UInt8 := [54, 8, 21, 8, 156, 0, 6, 167, 0, 89, 2, 54, 9, 3, 54, 10, 21, 10, 25, 7, 182, 1, 67]
abbrev dktX1_mend_4 : List UInt8 := dkwX1_mend_4 ++ dktX1_mend_5
def dkwX1_mend_3 : List UInt8 := [25, 5, 180, 0, 190, 162, 0, 120, 25, 5, 180, 0, 193, 21, 6, 50, 58, 7, 25, 7, 182, 1, 64]
abbrev dktX1_mend_3 : List UInt8 := dkwX1_mend_3 ++ dktX1_mend_4
def dkwX1_mend_2 : List UInt8 := [28, 1, 29, 21, 4, 182, 1, 45, 19, 1, 41, 160, 0, 7, 19, 1, 41, 172, 3, 54, 6, 21, 6]
abbrev dktX1_mend_2 : List UInt8 := dkwX1_mend_2 ++ dktX1_mend_3
def dkwX1_mend_1 : List UInt8 := [21, 4, 17, 1, 44, 184, 1, 42, 154, 0, 5, 2, 172, 42, 180, 0, 97, 27, 50, 58, 5, 42, 25, 5]
abbrev dktX1_mend_1 : List UInt8 := dkwX1_mend_1 ++ dktX1_mend_2
def dkwX1_mend_0 : List UInt8 := [42, 27, 182, 0, 183, 153, 0, 30, 28, 155, 0, 26, 28, 16, 6, 163, 0, 20, 28, 5, 159, 0, 15, 29]
abbrev dktX1_mend_0 : List UInt8 := dkwX1_mend_0 ++ dktX1_mend_1
theorem dksX1_mend_0 : cX1_mend.data.toList.drop 0 = dktX1_mend_0 := by decide +kernel
theorem dksX1_mend_1 : cX1_mend.data.toList.drop 24 = dktX1_mend_1 := dk_seg dksX1_mend_0 24 rfl rfl
theorem dksX1_mend_2 : cX1_mend.data.toList.drop 48 = dktX1_mend_2 := dk_seg dksX1_mend_1 24 rfl rfl
theorem dksX1_mend_3 : cX1_mend.data.toList.drop 71 = dktX1_mend_3 := dk_seg dksX1_mend_2 23 rfl rfl
theorem dksX1_mend_4 : cX1_mend.data.toList.drop 94 = dktX1_mend_4 := dk_seg dksX1_mend_3 23 rfl rfl
theorem dksX1_mend_5 : cX1_mend.data.toList.drop 117 = dktX1_mend_5 := dk_seg dksX1_mend_4 23 rfl rfl
theorem dksX1_mend_6 : cX1_mend.data.toList.drop 139 = dktX1_mend_6 := dk_seg dksX1_mend_5 22 rfl rfl
theorem dksX1_mend_7 : cX1_mend.data.toList.drop 163 = dktX1_mend_7 := dk_seg dksX1_mend_6 24 rfl rfl
theorem dksX1_mend_8 : cX1_mend.data.toList.drop 186 = dktX1_mend_8 := dk_seg dksX1_mend_7 23 rfl rfl
theorem dX1_mend_0 : decode cX1_mend 0 = .ok (.aload_n 0, 1) := dk_42 (dk_at dksX1_mend_0 0 rfl rfl)
theorem dX1_mend_1 : decode cX1_mend 1 = .ok (.iload_n 1, 1) := dk_27 (dk_at dksX1_mend_0 1 rfl rfl)
theorem dX1_mend_2 : decode cX1_mend 2 = .ok (.invokevirtual 183, 3) := dk_182 0 183 (dk_at dksX1_mend_0 2 rfl rfl)
theorem dX1_mend_5 : decode cX1_mend 5 = .ok (.ifCond .eq 30, 3) := dk_153 0 30 (dk_at dksX1_mend_0 5 rfl rfl)
theorem dX1_mend_8 : decode cX1_mend 8 = .ok (.iload_n 2, 1) := dk_28 (dk_at dksX1_mend_0 8 rfl rfl)
theorem dX1_mend_9 : decode cX1_mend 9 = .ok (.ifCond .lt 26, 3) := dk_155 0 26 (dk_at dksX1_mend_0 9 rfl rfl)
theorem dX1_mend_12 : decode cX1_mend 12 = .ok (.iload_n 2, 1) := dk_28 (dk_at dksX1_mend_0 12 rfl rfl)
theorem dX1_mend_13 : decode cX1_mend 13 = .ok (.bipush 6, 2) := dk_16 6 (dk_at dksX1_mend_0 13 rfl rfl)
theorem dX1_mend_15 : decode cX1_mend 15 = .ok (.if_icmp .gt 20, 3) := dk_163 0 20 (dk_at dksX1_mend_0 15 rfl rfl)
theorem dX1_mend_18 : decode cX1_mend 18 = .ok (.iload_n 2, 1) := dk_28 (dk_at dksX1_mend_0 18 rfl rfl)
theorem dX1_mend_19 : decode cX1_mend 19 = .ok (.iconst 2, 1) := dk_5 (dk_at dksX1_mend_0 19 rfl rfl)
theorem dX1_mend_20 : decode cX1_mend 20 = .ok (.if_icmp .eq 15, 3) := dk_159 0 15 (dk_at dksX1_mend_0 20 rfl rfl)
theorem dX1_mend_23 : decode cX1_mend 23 = .ok (.iload_n 3, 1) := dk_29 (dk_at dksX1_mend_0 23 rfl rfl)
theorem dX1_mend_24 : decode cX1_mend 24 = .ok (.iload 4, 2) := dk_21 4 (dk_at dksX1_mend_1 0 rfl rfl)
theorem dX1_mend_26 : decode cX1_mend 26 = .ok (.sipush 300, 3) := dk_17 1 44 (dk_at dksX1_mend_1 2 rfl rfl)
theorem dX1_mend_29 : decode cX1_mend 29 = .ok (.invokestatic 298, 3) := dk_184 1 42 (dk_at dksX1_mend_1 5 rfl rfl)
theorem dX1_mend_32 : decode cX1_mend 32 = .ok (.ifCond .ne 5, 3) := dk_154 0 5 (dk_at dksX1_mend_1 8 rfl rfl)
theorem dX1_mend_35 : decode cX1_mend 35 = .ok (.iconst (-1), 1) := dk_2 (dk_at dksX1_mend_1 11 rfl rfl)
theorem dX1_mend_36 : decode cX1_mend 36 = .ok (.ireturn, 1) := dk_172 (dk_at dksX1_mend_1 12 rfl rfl)
theorem dX1_mend_37 : decode cX1_mend 37 = .ok (.aload_n 0, 1) := dk_42 (dk_at dksX1_mend_1 13 rfl rfl)
theorem dX1_mend_38 : decode cX1_mend 38 = .ok (.getfield 97, 3) := dk_180 0 97 (dk_at dksX1_mend_1 14 rfl rfl)
theorem dX1_mend_41 : decode cX1_mend 41 = .ok (.iload_n 1, 1) := dk_27 (dk_at dksX1_mend_1 17 rfl rfl)
theorem dX1_mend_42 : decode cX1_mend 42 = .ok (.aaload, 1) := dk_50 (dk_at dksX1_mend_1 18 rfl rfl)
theorem dX1_mend_43 : decode cX1_mend 43 = .ok (.astore 5, 2) := dk_58 5 (dk_at dksX1_mend_1 19 rfl rfl)
theorem dX1_mend_45 : decode cX1_mend 45 = .ok (.aload_n 0, 1) := dk_42 (dk_at dksX1_mend_1 21 rfl rfl)
theorem dX1_mend_46 : decode cX1_mend 46 = .ok (.aload 5, 2) := dk_25 5 (dk_at dksX1_mend_1 22 rfl rfl)
theorem dX1_mend_48 : decode cX1_mend 48 = .ok (.iload_n 2, 1) := dk_28 (dk_at dksX1_mend_2 0 rfl rfl)
theorem dX1_mend_49 : decode cX1_mend 49 = .ok (.aconst_null, 1) := dk_1 (dk_at dksX1_mend_2 1 rfl rfl)
theorem dX1_mend_50 : decode cX1_mend 50 = .ok (.iload_n 3, 1) := dk_29 (dk_at dksX1_mend_2 2 rfl rfl)
theorem dX1_mend_51 : decode cX1_mend 51 = .ok (.iload 4, 2) := dk_21 4 (dk_at dksX1_mend_2 3 rfl rfl)
theorem dX1_mend_53 : decode cX1_mend 53 = .ok (.invokevirtual 301, 3) := dk_182 1 45 (dk_at dksX1_mend_2 5 rfl rfl)
theorem dX1_mend_56 : decode cX1_mend 56 = .ok (.ldc_w 297, 3) := dk_19 1 41 (dk_at dksX1_mend_2 8 rfl rfl)
theorem dX1_mend_59 : decode cX1_mend 59 = .ok (.if_icmp .ne 7, 3) := dk_160 0 7 (dk_at dksX1_mend_2 11 rfl rfl)
theorem dX1_mend_62 : decode cX1_mend 62 = .ok (.ldc_w 297, 3) := dk_19 1 41 (dk_at dksX1_mend_2 14 rfl rfl)
theorem dX1_mend_65 : decode cX1_mend 65 = .ok (.ireturn, 1) := dk_172 (dk_at dksX1_mend_2 17 rfl rfl)
theorem dX1_mend_66 : decode cX1_mend 66 = .ok (.iconst 0, 1) := dk_3 (dk_at dksX1_mend_2 18 rfl rfl)
theorem dX1_mend_67 : decode cX1_mend 67 = .ok (.istore 6, 2) := dk_54 6 (dk_at dksX1_mend_2 19 rfl rfl)
theorem dX1_mend_69 : decode cX1_mend 69 = .ok (.iload 6, 2) := dk_21 6 (dk_at dksX1_mend_2 21 rfl rfl)
theorem dX1_mend_71 : decode cX1_mend 71 = .ok (.aload 5, 2) := dk_25 5 (dk_at dksX1_mend_3 0 rfl rfl)
theorem dX1_mend_73 : decode cX1_mend 73 = .ok (.getfield 190, 3) := dk_180 0 190 (dk_at dksX1_mend_3 2 rfl rfl)
theorem dX1_mend_76 : decode cX1_mend 76 = .ok (.if_icmp .ge 120, 3) := dk_162 0 120 (dk_at dksX1_mend_3 5 rfl rfl)
theorem dX1_mend_79 : decode cX1_mend 79 = .ok (.aload 5, 2) := dk_25 5 (dk_at dksX1_mend_3 8 rfl rfl)
theorem dX1_mend_81 : decode cX1_mend 81 = .ok (.getfield 193, 3) := dk_180 0 193 (dk_at dksX1_mend_3 10 rfl rfl)
theorem dX1_mend_84 : decode cX1_mend 84 = .ok (.iload 6, 2) := dk_21 6 (dk_at dksX1_mend_3 13 rfl rfl)
theorem dX1_mend_86 : decode cX1_mend 86 = .ok (.aaload, 1) := dk_50 (dk_at dksX1_mend_3 15 rfl rfl)
theorem dX1_mend_87 : decode cX1_mend 87 = .ok (.astore 7, 2) := dk_58 7 (dk_at dksX1_mend_3 16 rfl rfl)
theorem dX1_mend_89 : decode cX1_mend 89 = .ok (.aload 7, 2) := dk_25 7 (dk_at dksX1_mend_3 18 rfl rfl)
theorem dX1_mend_91 : decode cX1_mend 91 = .ok (.invokevirtual 320, 3) := dk_182 1 64 (dk_at dksX1_mend_3 20 rfl rfl)
theorem dX1_mend_94 : decode cX1_mend 94 = .ok (.istore 8, 2) := dk_54 8 (dk_at dksX1_mend_4 0 rfl rfl)
theorem dX1_mend_96 : decode cX1_mend 96 = .ok (.iload 8, 2) := dk_21 8 (dk_at dksX1_mend_4 2 rfl rfl)
theorem dX1_mend_98 : decode cX1_mend 98 = .ok (.ifCond .ge 6, 3) := dk_156 0 6 (dk_at dksX1_mend_4 4 rfl rfl)
theorem dX1_mend_101 : decode cX1_mend 101 = .ok (.goto 89, 3) := dk_167 0 89 (dk_at dksX1_mend_4 7 rfl rfl)
theorem dX1_mend_104 : decode cX1_mend 104 = .ok (.iconst (-1), 1) := dk_2 (dk_at dksX1_mend_4 10 rfl rfl)
theorem dX1_mend_105 : decode cX1_mend 105 = .ok (.istore 9, 2) := dk_54 9 (dk_at dksX1_mend_4 11 rfl rfl)
theorem dX1_mend_107 : decode cX1_mend 107 = .ok (.iconst 0, 1) := dk_3 (dk_at dksX1_mend_4 13 rfl rfl)
theorem dX1_mend_108 : decode cX1_mend 108 = .ok (.istore 10, 2) := dk_54 10 (dk_at dksX1_mend_4 14 rfl rfl)
theorem dX1_mend_110 : decode cX1_mend 110 = .ok (.iload 10, 2) := dk_21 10 (dk_at dksX1_mend_4 16 rfl rfl)
theorem dX1_mend_112 : decode cX1_mend 112 = .ok (.aload 7, 2) := dk_25 7 (dk_at dksX1_mend_4 18 rfl rfl)
theorem dX1_mend_114 : decode cX1_mend 114 = .ok (.invokevirtual 323, 3) := dk_182 1 67 (dk_at dksX1_mend_4 20 rfl rfl)
theorem dX1_mend_117 : decode cX1_mend 117 = .ok (.if_icmp .ge 52, 3) := dk_162 0 52 (dk_at dksX1_mend_5 0 rfl rfl)
theorem dX1_mend_120 : decode cX1_mend 120 = .ok (.iload 9, 2) := dk_21 9 (dk_at dksX1_mend_5 3 rfl rfl)
theorem dX1_mend_122 : decode cX1_mend 122 = .ok (.ifCond .ge 47, 3) := dk_156 0 47 (dk_at dksX1_mend_5 5 rfl rfl)
theorem dX1_mend_125 : decode cX1_mend 125 = .ok (.iload 10, 2) := dk_21 10 (dk_at dksX1_mend_5 8 rfl rfl)
theorem dX1_mend_127 : decode cX1_mend 127 = .ok (.iload 8, 2) := dk_21 8 (dk_at dksX1_mend_5 10 rfl rfl)
theorem dX1_mend_129 : decode cX1_mend 129 = .ok (.if_icmp .ne 6, 3) := dk_160 0 6 (dk_at dksX1_mend_5 12 rfl rfl)
theorem dX1_mend_132 : decode cX1_mend 132 = .ok (.goto 31, 3) := dk_167 0 31 (dk_at dksX1_mend_5 15 rfl rfl)
theorem dX1_mend_135 : decode cX1_mend 135 = .ok (.aload 7, 2) := dk_25 7 (dk_at dksX1_mend_5 18 rfl rfl)
theorem dX1_mend_137 : decode cX1_mend 137 = .ok (.iload 10, 2) := dk_21 10 (dk_at dksX1_mend_5 20 rfl rfl)
theorem dX1_mend_139 : decode cX1_mend 139 = .ok (.invokevirtual 326, 3) := dk_182 1 70 (dk_at dksX1_mend_6 0 rfl rfl)
theorem dX1_mend_142 : decode cX1_mend 142 = .ok (.aload_n 0, 1) := dk_42 (dk_at dksX1_mend_6 3 rfl rfl)
theorem dX1_mend_143 : decode cX1_mend 143 = .ok (.aload 5, 2) := dk_25 5 (dk_at dksX1_mend_6 4 rfl rfl)
theorem dX1_mend_145 : decode cX1_mend 145 = .ok (.iload_n 2, 1) := dk_28 (dk_at dksX1_mend_6 6 rfl rfl)
theorem dX1_mend_146 : decode cX1_mend 146 = .ok (.aconst_null, 1) := dk_1 (dk_at dksX1_mend_6 7 rfl rfl)
theorem dX1_mend_147 : decode cX1_mend 147 = .ok (.iload_n 3, 1) := dk_29 (dk_at dksX1_mend_6 8 rfl rfl)
theorem dX1_mend_148 : decode cX1_mend 148 = .ok (.iload 4, 2) := dk_21 4 (dk_at dksX1_mend_6 9 rfl rfl)
theorem dX1_mend_150 : decode cX1_mend 150 = .ok (.invokevirtual 301, 3) := dk_182 1 45 (dk_at dksX1_mend_6 11 rfl rfl)
theorem dX1_mend_153 : decode cX1_mend 153 = .ok (.ldc_w 297, 3) := dk_19 1 41 (dk_at dksX1_mend_6 14 rfl rfl)
theorem dX1_mend_156 : decode cX1_mend 156 = .ok (.if_icmp .ne 7, 3) := dk_160 0 7 (dk_at dksX1_mend_6 17 rfl rfl)
theorem dX1_mend_159 : decode cX1_mend 159 = .ok (.iload 10, 2) := dk_21 10 (dk_at dksX1_mend_6 20 rfl rfl)
theorem dX1_mend_161 : decode cX1_mend 161 = .ok (.istore 9, 2) := dk_54 9 (dk_at dksX1_mend_6 22 rfl rfl)
theorem dX1_mend_163 : decode cX1_mend 163 = .ok (.iinc 10 1, 3) := dk_132 10 1 (dk_at dksX1_mend_7 0 rfl rfl)
theorem dX1_mend_166 : decode cX1_mend 166 = .ok (.goto (-56), 3) := dk_167 255 200 (dk_at dksX1_mend_7 3 rfl rfl)
theorem dX1_mend_169 : decode cX1_mend 169 = .ok (.aload 7, 2) := dk_25 7 (dk_at dksX1_mend_7 6 rfl rfl)
theorem dX1_mend_171 : decode cX1_mend 171 = .ok (.iload 8, 2) := dk_21 8 (dk_at dksX1_mend_7 8 rfl rfl)
theorem dX1_mend_173 : decode cX1_mend 173 = .ok (.invokevirtual 326, 3) := dk_182 1 70 (dk_at dksX1_mend_7 10 rfl rfl)
theorem dX1_mend_176 : decode cX1_mend 176 = .ok (.iload 9, 2) := dk_21 9 (dk_at dksX1_mend_7 13 rfl rfl)
theorem dX1_mend_178 : decode cX1_mend 178 = .ok (.ifCond .lt 12, 3) := dk_155 0 12 (dk_at dksX1_mend_7 15 rfl rfl)
theorem dX1_mend_181 : decode cX1_mend 181 = .ok (.bipush 10, 2) := dk_16 10 (dk_at dksX1_mend_7 18 rfl rfl)
theorem dX1_mend_183 : decode cX1_mend 183 = .ok (.iload 6, 2) := dk_21 6 (dk_at dksX1_mend_7 20 rfl rfl)
theorem dX1_mend_185 : decode cX1_mend 185 = .ok (.imul, 1) := dk_104 (dk_at dksX1_mend_7 22 rfl rfl)
theorem dX1_mend_186 : decode cX1_mend 186 = .ok (.iload 9, 2) := dk_21 9 (dk_at dksX1_mend_8 0 rfl rfl)
theorem dX1_mend_188 : decode cX1_mend 188 = .ok (.iadd, 1) := dk_96 (dk_at dksX1_mend_8 2 rfl rfl)
theorem dX1_mend_189 : decode cX1_mend 189 = .ok (.ireturn, 1) := dk_172 (dk_at dksX1_mend_8 3 rfl rfl)
theorem dX1_mend_190 : decode cX1_mend 190 = .ok (.iinc 6 1, 3) := dk_132 6 1 (dk_at dksX1_mend_8 4 rfl rfl)
theorem dX1_mend_193 : decode cX1_mend 193 = .ok (.goto (-124), 3) := dk_167 255 132 (dk_at dksX1_mend_8 7 rfl rfl)
theorem dX1_mend_196 : decode cX1_mend 196 = .ok (.bipush (-3), 2) := dk_16 253 (dk_at dksX1_mend_8 10 rfl rfl)
theorem dX1_mend_198 : decode cX1_mend 198 = .ok (.ireturn, 1) := dk_172 (dk_at dksX1_mend_8 12 rfl rfl)
abbrev cX1_same : ByteArray := prog_1_method_46_code
def yX1_same : MethodName := ⟨RX1, "same", "(II)I"⟩
def dkwX1_same_5 : List UInt8 := [25, 6, 180, 0, 209, 25, 7, 180, 0, 209, 159, 0, 5, 3, 172, 132, 5, 1, 167, 255, 171, 4, 172]
abbrev dktX1_same_5 : List UInt8 := dkwX1_same_5 ++ []
def dkwX1_same_4 : List UInt8 := [180, 0, 212, 25, 7, 180, 0, 212, 160, 0, 29, 25, 6, 180, 0, 206, 25, 7, 180, 0, 206, 160, 0, 16]
abbrev dktX1_same_4 : List UInt8 := dkwX1_same_4 ++ dktX1_same_5
def dkwX1_same_3 : List UInt8 := [180, 0, 193, 21, 5, 50, 58, 7, 25, 6, 180, 0, 201, 25, 7, 180, 0, 201, 160, 0, 42, 25, 6]
abbrev dktX1_same_3 : List UInt8 := dkwX1_same_3 ++ dktX1_same_4
def dkwX1_same_2 : List UInt8 := [54, 5, 21, 5, 45, 180, 0, 190, 162, 0, 82, 45, 180, 0, 193, 21, 5, 50, 58, 6, 25, 4]
abbrev dktX1_same_2 : List UInt8 := dkwX1_same_2 ++ dktX1_same_3
def dkwX1_same_1 : List UInt8 := [78, 42, 180, 0, 97, 28, 50, 58, 4, 45, 180, 0, 190, 25, 4, 180, 0, 190, 159, 0, 5, 3, 172, 3]
abbrev dktX1_same_1 : List UInt8 := dkwX1_same_1 ++ dktX1_same_2
def dkwX1_same_0 : List UInt8 := [42, 27, 182, 0, 183, 153, 0, 11, 42, 28, 182, 0, 183, 154, 0, 5, 2, 172, 42, 180, 0, 97, 27, 50]
abbrev dktX1_same_0 : List UInt8 := dkwX1_same_0 ++ dktX1_same_1
theorem dksX1_same_0 : cX1_same.data.toList.drop 0 = dktX1_same_0 := by decide +kernel
theorem dksX1_same_1 : cX1_same.data.toList.drop 24 = dktX1_same_1 := dk_seg dksX1_same_0 24 rfl rfl
theorem dksX1_same_2 : cX1_same.data.toList.drop 48 = dktX1_same_2 := dk_seg dksX1_same_1 24 rfl rfl
theorem dksX1_same_3 : cX1_same.data.toList.drop 70 = dktX1_same_3 := dk_seg dksX1_same_2 22 rfl rfl
theorem dksX1_same_4 : cX1_same.data.toList.drop 93 = dktX1_same_4 := dk_seg dksX1_same_3 23 rfl rfl
theorem dksX1_same_5 : cX1_same.data.toList.drop 117 = dktX1_same_5 := dk_seg dksX1_same_4 24 rfl rfl
theorem dX1_same_0 : decode cX1_same 0 = .ok (.aload_n 0, 1) := dk_42 (dk_at dksX1_same_0 0 rfl rfl)
theorem dX1_same_1 : decode cX1_same 1 = .ok (.iload_n 1, 1) := dk_27 (dk_at dksX1_same_0 1 rfl rfl)
theorem dX1_same_2 : decode cX1_same 2 = .ok (.invokevirtual 183, 3) := dk_182 0 183 (dk_at dksX1_same_0 2 rfl rfl)
theorem dX1_same_5 : decode cX1_same 5 = .ok (.ifCond .eq 11, 3) := dk_153 0 11 (dk_at dksX1_same_0 5 rfl rfl)
theorem dX1_same_8 : decode cX1_same 8 = .ok (.aload_n 0, 1) := dk_42 (dk_at dksX1_same_0 8 rfl rfl)
theorem dX1_same_9 : decode cX1_same 9 = .ok (.iload_n 2, 1) := dk_28 (dk_at dksX1_same_0 9 rfl rfl)
theorem dX1_same_10 : decode cX1_same 10 = .ok (.invokevirtual 183, 3) := dk_182 0 183 (dk_at dksX1_same_0 10 rfl rfl)
theorem dX1_same_13 : decode cX1_same 13 = .ok (.ifCond .ne 5, 3) := dk_154 0 5 (dk_at dksX1_same_0 13 rfl rfl)
theorem dX1_same_16 : decode cX1_same 16 = .ok (.iconst (-1), 1) := dk_2 (dk_at dksX1_same_0 16 rfl rfl)
theorem dX1_same_17 : decode cX1_same 17 = .ok (.ireturn, 1) := dk_172 (dk_at dksX1_same_0 17 rfl rfl)
theorem dX1_same_18 : decode cX1_same 18 = .ok (.aload_n 0, 1) := dk_42 (dk_at dksX1_same_0 18 rfl rfl)
theorem dX1_same_19 : decode cX1_same 19 = .ok (.getfield 97, 3) := dk_180 0 97 (dk_at dksX1_same_0 19 rfl rfl)
theorem dX1_same_22 : decode cX1_same 22 = .ok (.iload_n 1, 1) := dk_27 (dk_at dksX1_same_0 22 rfl rfl)
theorem dX1_same_23 : decode cX1_same 23 = .ok (.aaload, 1) := dk_50 (dk_at dksX1_same_0 23 rfl rfl)
theorem dX1_same_24 : decode cX1_same 24 = .ok (.astore_n 3, 1) := dk_78 (dk_at dksX1_same_1 0 rfl rfl)
theorem dX1_same_25 : decode cX1_same 25 = .ok (.aload_n 0, 1) := dk_42 (dk_at dksX1_same_1 1 rfl rfl)
theorem dX1_same_26 : decode cX1_same 26 = .ok (.getfield 97, 3) := dk_180 0 97 (dk_at dksX1_same_1 2 rfl rfl)
theorem dX1_same_29 : decode cX1_same 29 = .ok (.iload_n 2, 1) := dk_28 (dk_at dksX1_same_1 5 rfl rfl)
theorem dX1_same_30 : decode cX1_same 30 = .ok (.aaload, 1) := dk_50 (dk_at dksX1_same_1 6 rfl rfl)
theorem dX1_same_31 : decode cX1_same 31 = .ok (.astore 4, 2) := dk_58 4 (dk_at dksX1_same_1 7 rfl rfl)
theorem dX1_same_33 : decode cX1_same 33 = .ok (.aload_n 3, 1) := dk_45 (dk_at dksX1_same_1 9 rfl rfl)
theorem dX1_same_34 : decode cX1_same 34 = .ok (.getfield 190, 3) := dk_180 0 190 (dk_at dksX1_same_1 10 rfl rfl)
theorem dX1_same_37 : decode cX1_same 37 = .ok (.aload 4, 2) := dk_25 4 (dk_at dksX1_same_1 13 rfl rfl)
theorem dX1_same_39 : decode cX1_same 39 = .ok (.getfield 190, 3) := dk_180 0 190 (dk_at dksX1_same_1 15 rfl rfl)
theorem dX1_same_42 : decode cX1_same 42 = .ok (.if_icmp .eq 5, 3) := dk_159 0 5 (dk_at dksX1_same_1 18 rfl rfl)
theorem dX1_same_45 : decode cX1_same 45 = .ok (.iconst 0, 1) := dk_3 (dk_at dksX1_same_1 21 rfl rfl)
theorem dX1_same_46 : decode cX1_same 46 = .ok (.ireturn, 1) := dk_172 (dk_at dksX1_same_1 22 rfl rfl)
theorem dX1_same_47 : decode cX1_same 47 = .ok (.iconst 0, 1) := dk_3 (dk_at dksX1_same_1 23 rfl rfl)
theorem dX1_same_48 : decode cX1_same 48 = .ok (.istore 5, 2) := dk_54 5 (dk_at dksX1_same_2 0 rfl rfl)
theorem dX1_same_50 : decode cX1_same 50 = .ok (.iload 5, 2) := dk_21 5 (dk_at dksX1_same_2 2 rfl rfl)
theorem dX1_same_52 : decode cX1_same 52 = .ok (.aload_n 3, 1) := dk_45 (dk_at dksX1_same_2 4 rfl rfl)
theorem dX1_same_53 : decode cX1_same 53 = .ok (.getfield 190, 3) := dk_180 0 190 (dk_at dksX1_same_2 5 rfl rfl)
theorem dX1_same_56 : decode cX1_same 56 = .ok (.if_icmp .ge 82, 3) := dk_162 0 82 (dk_at dksX1_same_2 8 rfl rfl)
theorem dX1_same_59 : decode cX1_same 59 = .ok (.aload_n 3, 1) := dk_45 (dk_at dksX1_same_2 11 rfl rfl)
theorem dX1_same_60 : decode cX1_same 60 = .ok (.getfield 193, 3) := dk_180 0 193 (dk_at dksX1_same_2 12 rfl rfl)
theorem dX1_same_63 : decode cX1_same 63 = .ok (.iload 5, 2) := dk_21 5 (dk_at dksX1_same_2 15 rfl rfl)
theorem dX1_same_65 : decode cX1_same 65 = .ok (.aaload, 1) := dk_50 (dk_at dksX1_same_2 17 rfl rfl)
theorem dX1_same_66 : decode cX1_same 66 = .ok (.astore 6, 2) := dk_58 6 (dk_at dksX1_same_2 18 rfl rfl)
theorem dX1_same_68 : decode cX1_same 68 = .ok (.aload 4, 2) := dk_25 4 (dk_at dksX1_same_2 20 rfl rfl)
theorem dX1_same_70 : decode cX1_same 70 = .ok (.getfield 193, 3) := dk_180 0 193 (dk_at dksX1_same_3 0 rfl rfl)
theorem dX1_same_73 : decode cX1_same 73 = .ok (.iload 5, 2) := dk_21 5 (dk_at dksX1_same_3 3 rfl rfl)
theorem dX1_same_75 : decode cX1_same 75 = .ok (.aaload, 1) := dk_50 (dk_at dksX1_same_3 5 rfl rfl)
theorem dX1_same_76 : decode cX1_same 76 = .ok (.astore 7, 2) := dk_58 7 (dk_at dksX1_same_3 6 rfl rfl)
theorem dX1_same_78 : decode cX1_same 78 = .ok (.aload 6, 2) := dk_25 6 (dk_at dksX1_same_3 8 rfl rfl)
theorem dX1_same_80 : decode cX1_same 80 = .ok (.getfield 201, 3) := dk_180 0 201 (dk_at dksX1_same_3 10 rfl rfl)
theorem dX1_same_83 : decode cX1_same 83 = .ok (.aload 7, 2) := dk_25 7 (dk_at dksX1_same_3 13 rfl rfl)
theorem dX1_same_85 : decode cX1_same 85 = .ok (.getfield 201, 3) := dk_180 0 201 (dk_at dksX1_same_3 15 rfl rfl)
theorem dX1_same_88 : decode cX1_same 88 = .ok (.if_icmp .ne 42, 3) := dk_160 0 42 (dk_at dksX1_same_3 18 rfl rfl)
theorem dX1_same_91 : decode cX1_same 91 = .ok (.aload 6, 2) := dk_25 6 (dk_at dksX1_same_3 21 rfl rfl)
theorem dX1_same_93 : decode cX1_same 93 = .ok (.getfield 212, 3) := dk_180 0 212 (dk_at dksX1_same_4 0 rfl rfl)
theorem dX1_same_96 : decode cX1_same 96 = .ok (.aload 7, 2) := dk_25 7 (dk_at dksX1_same_4 3 rfl rfl)
theorem dX1_same_98 : decode cX1_same 98 = .ok (.getfield 212, 3) := dk_180 0 212 (dk_at dksX1_same_4 5 rfl rfl)
theorem dX1_same_101 : decode cX1_same 101 = .ok (.if_icmp .ne 29, 3) := dk_160 0 29 (dk_at dksX1_same_4 8 rfl rfl)
theorem dX1_same_104 : decode cX1_same 104 = .ok (.aload 6, 2) := dk_25 6 (dk_at dksX1_same_4 11 rfl rfl)
theorem dX1_same_106 : decode cX1_same 106 = .ok (.getfield 206, 3) := dk_180 0 206 (dk_at dksX1_same_4 13 rfl rfl)
theorem dX1_same_109 : decode cX1_same 109 = .ok (.aload 7, 2) := dk_25 7 (dk_at dksX1_same_4 16 rfl rfl)
theorem dX1_same_111 : decode cX1_same 111 = .ok (.getfield 206, 3) := dk_180 0 206 (dk_at dksX1_same_4 18 rfl rfl)
theorem dX1_same_114 : decode cX1_same 114 = .ok (.if_icmp .ne 16, 3) := dk_160 0 16 (dk_at dksX1_same_4 21 rfl rfl)
theorem dX1_same_117 : decode cX1_same 117 = .ok (.aload 6, 2) := dk_25 6 (dk_at dksX1_same_5 0 rfl rfl)
theorem dX1_same_119 : decode cX1_same 119 = .ok (.getfield 209, 3) := dk_180 0 209 (dk_at dksX1_same_5 2 rfl rfl)
theorem dX1_same_122 : decode cX1_same 122 = .ok (.aload 7, 2) := dk_25 7 (dk_at dksX1_same_5 5 rfl rfl)
theorem dX1_same_124 : decode cX1_same 124 = .ok (.getfield 209, 3) := dk_180 0 209 (dk_at dksX1_same_5 7 rfl rfl)
theorem dX1_same_127 : decode cX1_same 127 = .ok (.if_icmp .eq 5, 3) := dk_159 0 5 (dk_at dksX1_same_5 10 rfl rfl)
theorem dX1_same_130 : decode cX1_same 130 = .ok (.iconst 0, 1) := dk_3 (dk_at dksX1_same_5 13 rfl rfl)
theorem dX1_same_131 : decode cX1_same 131 = .ok (.ireturn, 1) := dk_172 (dk_at dksX1_same_5 14 rfl rfl)
theorem dX1_same_132 : decode cX1_same 132 = .ok (.iinc 5 1, 3) := dk_132 5 1 (dk_at dksX1_same_5 15 rfl rfl)
theorem dX1_same_135 : decode cX1_same 135 = .ok (.goto (-85), 3) := dk_167 255 171 (dk_at dksX1_same_5 18 rfl rfl)
theorem dX1_same_138 : decode cX1_same 138 = .ok (.iconst 1, 1) := dk_4 (dk_at dksX1_same_5 21 rfl rfl)
theorem dX1_same_139 : decode cX1_same 139 = .ok (.ireturn, 1) := dk_172 (dk_at dksX1_same_5 22 rfl rfl)
abbrev cX1_tape : ByteArray := prog_1_method_49_code
def yX1_tape : MethodName := ⟨RX1, "tape", "(III)I"⟩
def dkwX1_tape_4 : List UInt8 := [181, 1, 81, 167, 0, 12, 58, 4, 42, 16, 242, 182, 1, 87, 172, 29, 172]
abbrev dktX1_tape_4 : List UInt8 := dkwX1_tape_4 ++ []
def dkwX1_tape_3 : List UInt8 := [180, 0, 147, 27, 50, 29, 188, 10, 181, 1, 81, 167, 0, 15, 42, 180, 0, 147, 27, 50, 29, 188, 11]
abbrev dktX1_tape_3 : List UInt8 := dkwX1_tape_3 ++ dktX1_tape_4
def dkwX1_tape_2 : List UInt8 := [160, 0, 18, 42, 180, 0, 147, 27, 50, 29, 188, 9, 181, 1, 81, 167, 0, 35, 28, 6, 160, 0, 18, 42]
abbrev dktX1_tape_2 : List UInt8 := dkwX1_tape_2 ++ dktX1_tape_3
def dkwX1_tape_1 : List UInt8 := [2, 172, 28, 4, 160, 0, 18, 42, 180, 0, 147, 27, 50, 29, 188, 8, 181, 1, 81, 167, 0, 55, 28, 5]
abbrev dktX1_tape_1 : List UInt8 := dkwX1_tape_1 ++ dktX1_tape_2
def dkwX1_tape_0 : List UInt8 := [42, 27, 182, 1, 78, 153, 0, 19, 28, 4, 161, 0, 14, 28, 7, 163, 0, 9, 29, 16, 64, 164, 0, 5]
abbrev dktX1_tape_0 : List UInt8 := dkwX1_tape_0 ++ dktX1_tape_1
theorem dksX1_tape_0 : cX1_tape.data.toList.drop 0 = dktX1_tape_0 := by decide +kernel
theorem dksX1_tape_1 : cX1_tape.data.toList.drop 24 = dktX1_tape_1 := dk_seg dksX1_tape_0 24 rfl rfl
theorem dksX1_tape_2 : cX1_tape.data.toList.drop 48 = dktX1_tape_2 := dk_seg dksX1_tape_1 24 rfl rfl
theorem dksX1_tape_3 : cX1_tape.data.toList.drop 72 = dktX1_tape_3 := dk_seg dksX1_tape_2 24 rfl rfl
theorem dksX1_tape_4 : cX1_tape.data.toList.drop 95 = dktX1_tape_4 := dk_seg dksX1_tape_3 23 rfl rfl
theorem dX1_tape_0 : decode cX1_tape 0 = .ok (.aload_n 0, 1) := dk_42 (dk_at dksX1_tape_0 0 rfl rfl)
theorem dX1_tape_1 : decode cX1_tape 1 = .ok (.iload_n 1, 1) := dk_27 (dk_at dksX1_tape_0 1 rfl rfl)
theorem dX1_tape_2 : decode cX1_tape 2 = .ok (.invokevirtual 334, 3) := dk_182 1 78 (dk_at dksX1_tape_0 2 rfl rfl)
theorem dX1_tape_5 : decode cX1_tape 5 = .ok (.ifCond .eq 19, 3) := dk_153 0 19 (dk_at dksX1_tape_0 5 rfl rfl)
theorem dX1_tape_8 : decode cX1_tape 8 = .ok (.iload_n 2, 1) := dk_28 (dk_at dksX1_tape_0 8 rfl rfl)
theorem dX1_tape_9 : decode cX1_tape 9 = .ok (.iconst 1, 1) := dk_4 (dk_at dksX1_tape_0 9 rfl rfl)
theorem dX1_tape_10 : decode cX1_tape 10 = .ok (.if_icmp .lt 14, 3) := dk_161 0 14 (dk_at dksX1_tape_0 10 rfl rfl)
theorem dX1_tape_13 : decode cX1_tape 13 = .ok (.iload_n 2, 1) := dk_28 (dk_at dksX1_tape_0 13 rfl rfl)
theorem dX1_tape_14 : decode cX1_tape 14 = .ok (.iconst 4, 1) := dk_7 (dk_at dksX1_tape_0 14 rfl rfl)
theorem dX1_tape_15 : decode cX1_tape 15 = .ok (.if_icmp .gt 9, 3) := dk_163 0 9 (dk_at dksX1_tape_0 15 rfl rfl)
theorem dX1_tape_18 : decode cX1_tape 18 = .ok (.iload_n 3, 1) := dk_29 (dk_at dksX1_tape_0 18 rfl rfl)
theorem dX1_tape_19 : decode cX1_tape 19 = .ok (.bipush 64, 2) := dk_16 64 (dk_at dksX1_tape_0 19 rfl rfl)
theorem dX1_tape_21 : decode cX1_tape 21 = .ok (.if_icmp .le 5, 3) := dk_164 0 5 (dk_at dksX1_tape_0 21 rfl rfl)
theorem dX1_tape_24 : decode cX1_tape 24 = .ok (.iconst (-1), 1) := dk_2 (dk_at dksX1_tape_1 0 rfl rfl)
theorem dX1_tape_25 : decode cX1_tape 25 = .ok (.ireturn, 1) := dk_172 (dk_at dksX1_tape_1 1 rfl rfl)
theorem dX1_tape_26 : decode cX1_tape 26 = .ok (.iload_n 2, 1) := dk_28 (dk_at dksX1_tape_1 2 rfl rfl)
theorem dX1_tape_27 : decode cX1_tape 27 = .ok (.iconst 1, 1) := dk_4 (dk_at dksX1_tape_1 3 rfl rfl)
theorem dX1_tape_28 : decode cX1_tape 28 = .ok (.if_icmp .ne 18, 3) := dk_160 0 18 (dk_at dksX1_tape_1 4 rfl rfl)
theorem dX1_tape_31 : decode cX1_tape 31 = .ok (.aload_n 0, 1) := dk_42 (dk_at dksX1_tape_1 7 rfl rfl)
theorem dX1_tape_32 : decode cX1_tape 32 = .ok (.getfield 147, 3) := dk_180 0 147 (dk_at dksX1_tape_1 8 rfl rfl)
theorem dX1_tape_35 : decode cX1_tape 35 = .ok (.iload_n 1, 1) := dk_27 (dk_at dksX1_tape_1 11 rfl rfl)
theorem dX1_tape_36 : decode cX1_tape 36 = .ok (.aaload, 1) := dk_50 (dk_at dksX1_tape_1 12 rfl rfl)
theorem dX1_tape_37 : decode cX1_tape 37 = .ok (.iload_n 3, 1) := dk_29 (dk_at dksX1_tape_1 13 rfl rfl)
theorem dX1_tape_38 : decode cX1_tape 38 = .ok (.newarray .byte, 2) := dk_188_8 (dk_at dksX1_tape_1 14 rfl rfl)
theorem dX1_tape_40 : decode cX1_tape 40 = .ok (.putfield 337, 3) := dk_181 1 81 (dk_at dksX1_tape_1 16 rfl rfl)
theorem dX1_tape_43 : decode cX1_tape 43 = .ok (.goto 55, 3) := dk_167 0 55 (dk_at dksX1_tape_1 19 rfl rfl)
theorem dX1_tape_46 : decode cX1_tape 46 = .ok (.iload_n 2, 1) := dk_28 (dk_at dksX1_tape_1 22 rfl rfl)
theorem dX1_tape_47 : decode cX1_tape 47 = .ok (.iconst 2, 1) := dk_5 (dk_at dksX1_tape_1 23 rfl rfl)
theorem dX1_tape_48 : decode cX1_tape 48 = .ok (.if_icmp .ne 18, 3) := dk_160 0 18 (dk_at dksX1_tape_2 0 rfl rfl)
theorem dX1_tape_51 : decode cX1_tape 51 = .ok (.aload_n 0, 1) := dk_42 (dk_at dksX1_tape_2 3 rfl rfl)
theorem dX1_tape_52 : decode cX1_tape 52 = .ok (.getfield 147, 3) := dk_180 0 147 (dk_at dksX1_tape_2 4 rfl rfl)
theorem dX1_tape_55 : decode cX1_tape 55 = .ok (.iload_n 1, 1) := dk_27 (dk_at dksX1_tape_2 7 rfl rfl)
theorem dX1_tape_56 : decode cX1_tape 56 = .ok (.aaload, 1) := dk_50 (dk_at dksX1_tape_2 8 rfl rfl)
theorem dX1_tape_57 : decode cX1_tape 57 = .ok (.iload_n 3, 1) := dk_29 (dk_at dksX1_tape_2 9 rfl rfl)
theorem dX1_tape_58 : decode cX1_tape 58 = .ok (.newarray .short, 2) := dk_188_9 (dk_at dksX1_tape_2 10 rfl rfl)
theorem dX1_tape_60 : decode cX1_tape 60 = .ok (.putfield 337, 3) := dk_181 1 81 (dk_at dksX1_tape_2 12 rfl rfl)
theorem dX1_tape_63 : decode cX1_tape 63 = .ok (.goto 35, 3) := dk_167 0 35 (dk_at dksX1_tape_2 15 rfl rfl)
theorem dX1_tape_66 : decode cX1_tape 66 = .ok (.iload_n 2, 1) := dk_28 (dk_at dksX1_tape_2 18 rfl rfl)
theorem dX1_tape_67 : decode cX1_tape 67 = .ok (.iconst 3, 1) := dk_6 (dk_at dksX1_tape_2 19 rfl rfl)
theorem dX1_tape_68 : decode cX1_tape 68 = .ok (.if_icmp .ne 18, 3) := dk_160 0 18 (dk_at dksX1_tape_2 20 rfl rfl)
theorem dX1_tape_71 : decode cX1_tape 71 = .ok (.aload_n 0, 1) := dk_42 (dk_at dksX1_tape_2 23 rfl rfl)
theorem dX1_tape_72 : decode cX1_tape 72 = .ok (.getfield 147, 3) := dk_180 0 147 (dk_at dksX1_tape_3 0 rfl rfl)
theorem dX1_tape_75 : decode cX1_tape 75 = .ok (.iload_n 1, 1) := dk_27 (dk_at dksX1_tape_3 3 rfl rfl)
theorem dX1_tape_76 : decode cX1_tape 76 = .ok (.aaload, 1) := dk_50 (dk_at dksX1_tape_3 4 rfl rfl)
theorem dX1_tape_77 : decode cX1_tape 77 = .ok (.iload_n 3, 1) := dk_29 (dk_at dksX1_tape_3 5 rfl rfl)
theorem dX1_tape_78 : decode cX1_tape 78 = .ok (.newarray .int, 2) := dk_188_10 (dk_at dksX1_tape_3 6 rfl rfl)
theorem dX1_tape_80 : decode cX1_tape 80 = .ok (.putfield 337, 3) := dk_181 1 81 (dk_at dksX1_tape_3 8 rfl rfl)
theorem dX1_tape_83 : decode cX1_tape 83 = .ok (.goto 15, 3) := dk_167 0 15 (dk_at dksX1_tape_3 11 rfl rfl)
theorem dX1_tape_86 : decode cX1_tape 86 = .ok (.aload_n 0, 1) := dk_42 (dk_at dksX1_tape_3 14 rfl rfl)
theorem dX1_tape_87 : decode cX1_tape 87 = .ok (.getfield 147, 3) := dk_180 0 147 (dk_at dksX1_tape_3 15 rfl rfl)
theorem dX1_tape_90 : decode cX1_tape 90 = .ok (.iload_n 1, 1) := dk_27 (dk_at dksX1_tape_3 18 rfl rfl)
theorem dX1_tape_91 : decode cX1_tape 91 = .ok (.aaload, 1) := dk_50 (dk_at dksX1_tape_3 19 rfl rfl)
theorem dX1_tape_92 : decode cX1_tape 92 = .ok (.iload_n 3, 1) := dk_29 (dk_at dksX1_tape_3 20 rfl rfl)
theorem dX1_tape_93 : decode cX1_tape 93 = .ok (.newarray .long, 2) := dk_188_11 (dk_at dksX1_tape_3 21 rfl rfl)
theorem dX1_tape_95 : decode cX1_tape 95 = .ok (.putfield 337, 3) := dk_181 1 81 (dk_at dksX1_tape_4 0 rfl rfl)
theorem dX1_tape_98 : decode cX1_tape 98 = .ok (.goto 12, 3) := dk_167 0 12 (dk_at dksX1_tape_4 3 rfl rfl)
theorem dX1_tape_101 : decode cX1_tape 101 = .ok (.astore 4, 2) := dk_58 4 (dk_at dksX1_tape_4 6 rfl rfl)
theorem dX1_tape_103 : decode cX1_tape 103 = .ok (.aload_n 0, 1) := dk_42 (dk_at dksX1_tape_4 8 rfl rfl)
theorem dX1_tape_104 : decode cX1_tape 104 = .ok (.bipush (-14), 2) := dk_16 242 (dk_at dksX1_tape_4 9 rfl rfl)
theorem dX1_tape_106 : decode cX1_tape 106 = .ok (.invokevirtual 343, 3) := dk_182 1 87 (dk_at dksX1_tape_4 11 rfl rfl)
theorem dX1_tape_109 : decode cX1_tape 109 = .ok (.ireturn, 1) := dk_172 (dk_at dksX1_tape_4 14 rfl rfl)
theorem dX1_tape_110 : decode cX1_tape 110 = .ok (.iload_n 3, 1) := dk_29 (dk_at dksX1_tape_4 15 rfl rfl)
theorem dX1_tape_111 : decode cX1_tape 111 = .ok (.ireturn, 1) := dk_172 (dk_at dksX1_tape_4 16 rfl rfl)
abbrev cX1_isTape : ByteArray := prog_1_method_48_code
def yX1_isTape : MethodName := ⟨RX1, "isTape", "(I)Z"⟩
def dkwX1_isTape_0 : List UInt8 := [27, 155, 0, 13, 27, 16, 6, 162, 0, 7, 4, 167, 0, 4, 3, 172]
abbrev dktX1_isTape_0 : List UInt8 := dkwX1_isTape_0 ++ []
theorem dksX1_isTape_0 : cX1_isTape.data.toList.drop 0 = dktX1_isTape_0 := by decide +kernel
theorem dX1_isTape_0 : decode cX1_isTape 0 = .ok (.iload_n 1, 1) := dk_27 (dk_at dksX1_isTape_0 0 rfl rfl)
theorem dX1_isTape_1 : decode cX1_isTape 1 = .ok (.ifCond .lt 13, 3) := dk_155 0 13 (dk_at dksX1_isTape_0 1 rfl rfl)
theorem dX1_isTape_4 : decode cX1_isTape 4 = .ok (.iload_n 1, 1) := dk_27 (dk_at dksX1_isTape_0 4 rfl rfl)
theorem dX1_isTape_5 : decode cX1_isTape 5 = .ok (.bipush 6, 2) := dk_16 6 (dk_at dksX1_isTape_0 5 rfl rfl)
theorem dX1_isTape_7 : decode cX1_isTape 7 = .ok (.if_icmp .ge 7, 3) := dk_162 0 7 (dk_at dksX1_isTape_0 7 rfl rfl)
theorem dX1_isTape_10 : decode cX1_isTape 10 = .ok (.iconst 1, 1) := dk_4 (dk_at dksX1_isTape_0 10 rfl rfl)
theorem dX1_isTape_11 : decode cX1_isTape 11 = .ok (.goto 4, 3) := dk_167 0 4 (dk_at dksX1_isTape_0 11 rfl rfl)
theorem dX1_isTape_14 : decode cX1_isTape 14 = .ok (.iconst 0, 1) := dk_3 (dk_at dksX1_isTape_0 14 rfl rfl)
theorem dX1_isTape_15 : decode cX1_isTape 15 = .ok (.ireturn, 1) := dk_172 (dk_at dksX1_isTape_0 15 rfl rfl)
abbrev cX1_snag : ByteArray := prog_1_method_12_code
def yX1_snag : MethodName := ⟨RX1, "snag", "(I)I"⟩
def dkwX1_snag_0 : List UInt8 := [42, 89, 180, 0, 178, 4, 96, 181, 0, 178, 27, 172]
abbrev dktX1_snag_0 : List UInt8 := dkwX1_snag_0 ++ []
theorem dksX1_snag_0 : cX1_snag.data.toList.drop 0 = dktX1_snag_0 := by decide +kernel
theorem dX1_snag_0 : decode cX1_snag 0 = .ok (.aload_n 0, 1) := dk_42 (dk_at dksX1_snag_0 0 rfl rfl)
theorem dX1_snag_1 : decode cX1_snag 1 = .ok (.dup, 1) := dk_89 (dk_at dksX1_snag_0 1 rfl rfl)
theorem dX1_snag_2 : decode cX1_snag 2 = .ok (.getfield 178, 3) := dk_180 0 178 (dk_at dksX1_snag_0 2 rfl rfl)
theorem dX1_snag_5 : decode cX1_snag 5 = .ok (.iconst 1, 1) := dk_4 (dk_at dksX1_snag_0 5 rfl rfl)
theorem dX1_snag_6 : decode cX1_snag 6 = .ok (.iadd, 1) := dk_96 (dk_at dksX1_snag_0 6 rfl rfl)
theorem dX1_snag_7 : decode cX1_snag 7 = .ok (.putfield 178, 3) := dk_181 0 178 (dk_at dksX1_snag_0 7 rfl rfl)
theorem dX1_snag_10 : decode cX1_snag 10 = .ok (.iload_n 1, 1) := dk_27 (dk_at dksX1_snag_0 10 rfl rfl)
theorem dX1_snag_11 : decode cX1_snag 11 = .ok (.ireturn, 1) := dk_172 (dk_at dksX1_snag_0 11 rfl rfl)
abbrev cX1_image : ByteArray := prog_1_method_50_code
def yX1_image : MethodName := ⟨RX1, "image", "(I)I"⟩
def dkwX1_image_5 : List UInt8 := [42, 180, 0, 164, 172]
abbrev dktX1_image_5 : List UInt8 := dkwX1_image_5 ++ []
def dkwX1_image_4 : List UInt8 := [180, 0, 167, 181, 1, 96, 44, 42, 180, 0, 164, 181, 1, 97, 42, 180, 0, 147, 27, 50, 44, 181, 1, 81]
abbrev dktX1_image_4 : List UInt8 := dkwX1_image_4 ++ dktX1_image_5
def dkwX1_image_3 : List UInt8 := [180, 1, 95, 29, 42, 180, 0, 97, 29, 50, 180, 0, 240, 80, 132, 3, 1, 167, 255, 215, 44, 42]
abbrev dktX1_image_3 : List UInt8 := dkwX1_image_3 ++ dktX1_image_4
def dkwX1_image_2 : List UInt8 := [42, 180, 0, 164, 162, 0, 39, 44, 180, 1, 94, 29, 42, 180, 0, 97, 29, 50, 180, 0, 235, 80, 44]
abbrev dktX1_image_2 : List UInt8 := dkwX1_image_2 ++ dktX1_image_3
def dkwX1_image_1 : List UInt8 := [162, 0, 21, 44, 180, 1, 93, 29, 42, 180, 0, 101, 29, 47, 80, 132, 3, 1, 167, 255, 235, 3, 62, 29]
abbrev dktX1_image_1 : List UInt8 := dkwX1_image_1 ++ dktX1_image_2
def dkwX1_image_0 : List UInt8 := [42, 27, 182, 1, 78, 154, 0, 5, 2, 172, 187, 1, 90, 89, 183, 1, 92, 77, 3, 62, 29, 16, 8]
abbrev dktX1_image_0 : List UInt8 := dkwX1_image_0 ++ dktX1_image_1
theorem dksX1_image_0 : cX1_image.data.toList.drop 0 = dktX1_image_0 := by decide +kernel
theorem dksX1_image_1 : cX1_image.data.toList.drop 23 = dktX1_image_1 := dk_seg dksX1_image_0 23 rfl rfl
theorem dksX1_image_2 : cX1_image.data.toList.drop 47 = dktX1_image_2 := dk_seg dksX1_image_1 24 rfl rfl
theorem dksX1_image_3 : cX1_image.data.toList.drop 70 = dktX1_image_3 := dk_seg dksX1_image_2 23 rfl rfl
theorem dksX1_image_4 : cX1_image.data.toList.drop 92 = dktX1_image_4 := dk_seg dksX1_image_3 22 rfl rfl
theorem dksX1_image_5 : cX1_image.data.toList.drop 116 = dktX1_image_5 := dk_seg dksX1_image_4 24 rfl rfl
theorem dX1_image_0 : decode cX1_image 0 = .ok (.aload_n 0, 1) := dk_42 (dk_at dksX1_image_0 0 rfl rfl)
theorem dX1_image_1 : decode cX1_image 1 = .ok (.iload_n 1, 1) := dk_27 (dk_at dksX1_image_0 1 rfl rfl)
theorem dX1_image_2 : decode cX1_image 2 = .ok (.invokevirtual 334, 3) := dk_182 1 78 (dk_at dksX1_image_0 2 rfl rfl)
theorem dX1_image_5 : decode cX1_image 5 = .ok (.ifCond .ne 5, 3) := dk_154 0 5 (dk_at dksX1_image_0 5 rfl rfl)
theorem dX1_image_8 : decode cX1_image 8 = .ok (.iconst (-1), 1) := dk_2 (dk_at dksX1_image_0 8 rfl rfl)
theorem dX1_image_9 : decode cX1_image 9 = .ok (.ireturn, 1) := dk_172 (dk_at dksX1_image_0 9 rfl rfl)
theorem dX1_image_10 : decode cX1_image 10 = .ok (.new 346, 3) := dk_187 1 90 (dk_at dksX1_image_0 10 rfl rfl)
theorem dX1_image_13 : decode cX1_image 13 = .ok (.dup, 1) := dk_89 (dk_at dksX1_image_0 13 rfl rfl)
theorem dX1_image_14 : decode cX1_image 14 = .ok (.invokespecial 348, 3) := dk_183 1 92 (dk_at dksX1_image_0 14 rfl rfl)
theorem dX1_image_17 : decode cX1_image 17 = .ok (.astore_n 2, 1) := dk_77 (dk_at dksX1_image_0 17 rfl rfl)
theorem dX1_image_18 : decode cX1_image 18 = .ok (.iconst 0, 1) := dk_3 (dk_at dksX1_image_0 18 rfl rfl)
theorem dX1_image_19 : decode cX1_image 19 = .ok (.istore_n 3, 1) := dk_62 (dk_at dksX1_image_0 19 rfl rfl)
theorem dX1_image_20 : decode cX1_image 20 = .ok (.iload_n 3, 1) := dk_29 (dk_at dksX1_image_0 20 rfl rfl)
theorem dX1_image_21 : decode cX1_image 21 = .ok (.bipush 8, 2) := dk_16 8 (dk_at dksX1_image_0 21 rfl rfl)
theorem dX1_image_23 : decode cX1_image 23 = .ok (.if_icmp .ge 21, 3) := dk_162 0 21 (dk_at dksX1_image_1 0 rfl rfl)
theorem dX1_image_26 : decode cX1_image 26 = .ok (.aload_n 2, 1) := dk_44 (dk_at dksX1_image_1 3 rfl rfl)
theorem dX1_image_27 : decode cX1_image 27 = .ok (.getfield 349, 3) := dk_180 1 93 (dk_at dksX1_image_1 4 rfl rfl)
theorem dX1_image_30 : decode cX1_image 30 = .ok (.iload_n 3, 1) := dk_29 (dk_at dksX1_image_1 7 rfl rfl)
theorem dX1_image_31 : decode cX1_image 31 = .ok (.aload_n 0, 1) := dk_42 (dk_at dksX1_image_1 8 rfl rfl)
theorem dX1_image_32 : decode cX1_image 32 = .ok (.getfield 101, 3) := dk_180 0 101 (dk_at dksX1_image_1 9 rfl rfl)
theorem dX1_image_35 : decode cX1_image 35 = .ok (.iload_n 3, 1) := dk_29 (dk_at dksX1_image_1 12 rfl rfl)
theorem dX1_image_36 : decode cX1_image 36 = .ok (.laload, 1) := dk_47 (dk_at dksX1_image_1 13 rfl rfl)
theorem dX1_image_37 : decode cX1_image 37 = .ok (.lastore, 1) := dk_80 (dk_at dksX1_image_1 14 rfl rfl)
theorem dX1_image_38 : decode cX1_image 38 = .ok (.iinc 3 1, 3) := dk_132 3 1 (dk_at dksX1_image_1 15 rfl rfl)
theorem dX1_image_41 : decode cX1_image 41 = .ok (.goto (-21), 3) := dk_167 255 235 (dk_at dksX1_image_1 18 rfl rfl)
theorem dX1_image_44 : decode cX1_image 44 = .ok (.iconst 0, 1) := dk_3 (dk_at dksX1_image_1 21 rfl rfl)
theorem dX1_image_45 : decode cX1_image 45 = .ok (.istore_n 3, 1) := dk_62 (dk_at dksX1_image_1 22 rfl rfl)
theorem dX1_image_46 : decode cX1_image 46 = .ok (.iload_n 3, 1) := dk_29 (dk_at dksX1_image_1 23 rfl rfl)
theorem dX1_image_47 : decode cX1_image 47 = .ok (.aload_n 0, 1) := dk_42 (dk_at dksX1_image_2 0 rfl rfl)
theorem dX1_image_48 : decode cX1_image 48 = .ok (.getfield 164, 3) := dk_180 0 164 (dk_at dksX1_image_2 1 rfl rfl)
theorem dX1_image_51 : decode cX1_image 51 = .ok (.if_icmp .ge 39, 3) := dk_162 0 39 (dk_at dksX1_image_2 4 rfl rfl)
theorem dX1_image_54 : decode cX1_image 54 = .ok (.aload_n 2, 1) := dk_44 (dk_at dksX1_image_2 7 rfl rfl)
theorem dX1_image_55 : decode cX1_image 55 = .ok (.getfield 350, 3) := dk_180 1 94 (dk_at dksX1_image_2 8 rfl rfl)
theorem dX1_image_58 : decode cX1_image 58 = .ok (.iload_n 3, 1) := dk_29 (dk_at dksX1_image_2 11 rfl rfl)
theorem dX1_image_59 : decode cX1_image 59 = .ok (.aload_n 0, 1) := dk_42 (dk_at dksX1_image_2 12 rfl rfl)
theorem dX1_image_60 : decode cX1_image 60 = .ok (.getfield 97, 3) := dk_180 0 97 (dk_at dksX1_image_2 13 rfl rfl)
theorem dX1_image_63 : decode cX1_image 63 = .ok (.iload_n 3, 1) := dk_29 (dk_at dksX1_image_2 16 rfl rfl)
theorem dX1_image_64 : decode cX1_image 64 = .ok (.aaload, 1) := dk_50 (dk_at dksX1_image_2 17 rfl rfl)
theorem dX1_image_65 : decode cX1_image 65 = .ok (.getfield 235, 3) := dk_180 0 235 (dk_at dksX1_image_2 18 rfl rfl)
theorem dX1_image_68 : decode cX1_image 68 = .ok (.lastore, 1) := dk_80 (dk_at dksX1_image_2 21 rfl rfl)
theorem dX1_image_69 : decode cX1_image 69 = .ok (.aload_n 2, 1) := dk_44 (dk_at dksX1_image_2 22 rfl rfl)
theorem dX1_image_70 : decode cX1_image 70 = .ok (.getfield 351, 3) := dk_180 1 95 (dk_at dksX1_image_3 0 rfl rfl)
theorem dX1_image_73 : decode cX1_image 73 = .ok (.iload_n 3, 1) := dk_29 (dk_at dksX1_image_3 3 rfl rfl)
theorem dX1_image_74 : decode cX1_image 74 = .ok (.aload_n 0, 1) := dk_42 (dk_at dksX1_image_3 4 rfl rfl)
theorem dX1_image_75 : decode cX1_image 75 = .ok (.getfield 97, 3) := dk_180 0 97 (dk_at dksX1_image_3 5 rfl rfl)
theorem dX1_image_78 : decode cX1_image 78 = .ok (.iload_n 3, 1) := dk_29 (dk_at dksX1_image_3 8 rfl rfl)
theorem dX1_image_79 : decode cX1_image 79 = .ok (.aaload, 1) := dk_50 (dk_at dksX1_image_3 9 rfl rfl)
theorem dX1_image_80 : decode cX1_image 80 = .ok (.getfield 240, 3) := dk_180 0 240 (dk_at dksX1_image_3 10 rfl rfl)
theorem dX1_image_83 : decode cX1_image 83 = .ok (.lastore, 1) := dk_80 (dk_at dksX1_image_3 13 rfl rfl)
theorem dX1_image_84 : decode cX1_image 84 = .ok (.iinc 3 1, 3) := dk_132 3 1 (dk_at dksX1_image_3 14 rfl rfl)
theorem dX1_image_87 : decode cX1_image 87 = .ok (.goto (-41), 3) := dk_167 255 215 (dk_at dksX1_image_3 17 rfl rfl)
theorem dX1_image_90 : decode cX1_image 90 = .ok (.aload_n 2, 1) := dk_44 (dk_at dksX1_image_3 20 rfl rfl)
theorem dX1_image_91 : decode cX1_image 91 = .ok (.aload_n 0, 1) := dk_42 (dk_at dksX1_image_3 21 rfl rfl)
theorem dX1_image_92 : decode cX1_image 92 = .ok (.getfield 167, 3) := dk_180 0 167 (dk_at dksX1_image_4 0 rfl rfl)
theorem dX1_image_95 : decode cX1_image 95 = .ok (.putfield 352, 3) := dk_181 1 96 (dk_at dksX1_image_4 3 rfl rfl)
theorem dX1_image_98 : decode cX1_image 98 = .ok (.aload_n 2, 1) := dk_44 (dk_at dksX1_image_4 6 rfl rfl)
theorem dX1_image_99 : decode cX1_image 99 = .ok (.aload_n 0, 1) := dk_42 (dk_at dksX1_image_4 7 rfl rfl)
theorem dX1_image_100 : decode cX1_image 100 = .ok (.getfield 164, 3) := dk_180 0 164 (dk_at dksX1_image_4 8 rfl rfl)
theorem dX1_image_103 : decode cX1_image 103 = .ok (.putfield 353, 3) := dk_181 1 97 (dk_at dksX1_image_4 11 rfl rfl)
theorem dX1_image_106 : decode cX1_image 106 = .ok (.aload_n 0, 1) := dk_42 (dk_at dksX1_image_4 14 rfl rfl)
theorem dX1_image_107 : decode cX1_image 107 = .ok (.getfield 147, 3) := dk_180 0 147 (dk_at dksX1_image_4 15 rfl rfl)
theorem dX1_image_110 : decode cX1_image 110 = .ok (.iload_n 1, 1) := dk_27 (dk_at dksX1_image_4 18 rfl rfl)
theorem dX1_image_111 : decode cX1_image 111 = .ok (.aaload, 1) := dk_50 (dk_at dksX1_image_4 19 rfl rfl)
theorem dX1_image_112 : decode cX1_image 112 = .ok (.aload_n 2, 1) := dk_44 (dk_at dksX1_image_4 20 rfl rfl)
theorem dX1_image_113 : decode cX1_image 113 = .ok (.putfield 337, 3) := dk_181 1 81 (dk_at dksX1_image_4 21 rfl rfl)
theorem dX1_image_116 : decode cX1_image 116 = .ok (.aload_n 0, 1) := dk_42 (dk_at dksX1_image_5 0 rfl rfl)
theorem dX1_image_117 : decode cX1_image 117 = .ok (.getfield 164, 3) := dk_180 0 164 (dk_at dksX1_image_5 1 rfl rfl)
theorem dX1_image_120 : decode cX1_image 120 = .ok (.ireturn, 1) := dk_172 (dk_at dksX1_image_5 4 rfl rfl)
abbrev cX1_back : ByteArray := prog_1_method_51_code
def yX1_back : MethodName := ⟨RX1, "back", "(I)I"⟩
def dkwX1_back_7 : List UInt8 := [180, 0, 167, 172]
abbrev dktX1_back_7 : List UInt8 := dkwX1_back_7 ++ []
def dkwX1_back_6 : List UInt8 := [167, 0, 4, 10, 181, 0, 240, 132, 3, 1, 167, 255, 191, 42, 44, 180, 1, 96, 181, 0, 167, 42]
abbrev dktX1_back_6 : List UInt8 := dkwX1_back_6 ++ dktX1_back_7
def dkwX1_back_5 : List UInt8 := [181, 0, 235, 42, 180, 0, 97, 29, 50, 29, 44, 180, 1, 97, 162, 0, 12, 44, 180, 1, 95, 29, 47]
abbrev dktX1_back_5 : List UInt8 := dkwX1_back_5 ++ dktX1_back_6
def dkwX1_back_4 : List UInt8 := [180, 0, 97, 29, 50, 29, 44, 180, 1, 97, 162, 0, 12, 44, 180, 1, 94, 29, 47, 167, 0, 4, 9]
abbrev dktX1_back_4 : List UInt8 := dkwX1_back_4 ++ dktX1_back_5
def dkwX1_back_3 : List UInt8 := [180, 1, 93, 29, 47, 80, 132, 3, 1, 167, 255, 235, 3, 62, 29, 42, 180, 0, 164, 162, 0, 63, 42]
abbrev dktX1_back_3 : List UInt8 := dkwX1_back_3 ++ dktX1_back_4
def dkwX1_back_2 : List UInt8 := [78, 42, 16, 244, 182, 1, 87, 172, 3, 62, 29, 16, 8, 162, 0, 21, 42, 180, 0, 101, 29, 44]
abbrev dktX1_back_2 : List UInt8 := dkwX1_back_2 ++ dktX1_back_3
def dkwX1_back_1 : List UInt8 := [180, 1, 97, 42, 180, 0, 164, 164, 0, 6, 16, 253, 172, 167, 0, 19, 78, 42, 16, 245, 182, 1, 87, 172]
abbrev dktX1_back_1 : List UInt8 := dkwX1_back_1 ++ dktX1_back_2
def dkwX1_back_0 : List UInt8 := [42, 27, 182, 1, 78, 154, 0, 5, 2, 172, 42, 180, 0, 147, 27, 50, 180, 1, 81, 192, 1, 90, 77, 44]
abbrev dktX1_back_0 : List UInt8 := dkwX1_back_0 ++ dktX1_back_1
theorem dksX1_back_0 : cX1_back.data.toList.drop 0 = dktX1_back_0 := by decide +kernel
theorem dksX1_back_1 : cX1_back.data.toList.drop 24 = dktX1_back_1 := dk_seg dksX1_back_0 24 rfl rfl
theorem dksX1_back_2 : cX1_back.data.toList.drop 48 = dktX1_back_2 := dk_seg dksX1_back_1 24 rfl rfl
theorem dksX1_back_3 : cX1_back.data.toList.drop 70 = dktX1_back_3 := dk_seg dksX1_back_2 22 rfl rfl
theorem dksX1_back_4 : cX1_back.data.toList.drop 93 = dktX1_back_4 := dk_seg dksX1_back_3 23 rfl rfl
theorem dksX1_back_5 : cX1_back.data.toList.drop 116 = dktX1_back_5 := dk_seg dksX1_back_4 23 rfl rfl
theorem dksX1_back_6 : cX1_back.data.toList.drop 139 = dktX1_back_6 := dk_seg dksX1_back_5 23 rfl rfl
theorem dksX1_back_7 : cX1_back.data.toList.drop 161 = dktX1_back_7 := dk_seg dksX1_back_6 22 rfl rfl
theorem dX1_back_0 : decode cX1_back 0 = .ok (.aload_n 0, 1) := dk_42 (dk_at dksX1_back_0 0 rfl rfl)
theorem dX1_back_1 : decode cX1_back 1 = .ok (.iload_n 1, 1) := dk_27 (dk_at dksX1_back_0 1 rfl rfl)
theorem dX1_back_2 : decode cX1_back 2 = .ok (.invokevirtual 334, 3) := dk_182 1 78 (dk_at dksX1_back_0 2 rfl rfl)
theorem dX1_back_5 : decode cX1_back 5 = .ok (.ifCond .ne 5, 3) := dk_154 0 5 (dk_at dksX1_back_0 5 rfl rfl)
theorem dX1_back_8 : decode cX1_back 8 = .ok (.iconst (-1), 1) := dk_2 (dk_at dksX1_back_0 8 rfl rfl)
theorem dX1_back_9 : decode cX1_back 9 = .ok (.ireturn, 1) := dk_172 (dk_at dksX1_back_0 9 rfl rfl)
theorem dX1_back_10 : decode cX1_back 10 = .ok (.aload_n 0, 1) := dk_42 (dk_at dksX1_back_0 10 rfl rfl)
theorem dX1_back_11 : decode cX1_back 11 = .ok (.getfield 147, 3) := dk_180 0 147 (dk_at dksX1_back_0 11 rfl rfl)
theorem dX1_back_14 : decode cX1_back 14 = .ok (.iload_n 1, 1) := dk_27 (dk_at dksX1_back_0 14 rfl rfl)
theorem dX1_back_15 : decode cX1_back 15 = .ok (.aaload, 1) := dk_50 (dk_at dksX1_back_0 15 rfl rfl)
theorem dX1_back_16 : decode cX1_back 16 = .ok (.getfield 337, 3) := dk_180 1 81 (dk_at dksX1_back_0 16 rfl rfl)
theorem dX1_back_19 : decode cX1_back 19 = .ok (.checkcast 346, 3) := dk_192 1 90 (dk_at dksX1_back_0 19 rfl rfl)
theorem dX1_back_22 : decode cX1_back 22 = .ok (.astore_n 2, 1) := dk_77 (dk_at dksX1_back_0 22 rfl rfl)
theorem dX1_back_23 : decode cX1_back 23 = .ok (.aload_n 2, 1) := dk_44 (dk_at dksX1_back_0 23 rfl rfl)
theorem dX1_back_24 : decode cX1_back 24 = .ok (.getfield 353, 3) := dk_180 1 97 (dk_at dksX1_back_1 0 rfl rfl)
theorem dX1_back_27 : decode cX1_back 27 = .ok (.aload_n 0, 1) := dk_42 (dk_at dksX1_back_1 3 rfl rfl)
theorem dX1_back_28 : decode cX1_back 28 = .ok (.getfield 164, 3) := dk_180 0 164 (dk_at dksX1_back_1 4 rfl rfl)
theorem dX1_back_31 : decode cX1_back 31 = .ok (.if_icmp .le 6, 3) := dk_164 0 6 (dk_at dksX1_back_1 7 rfl rfl)
theorem dX1_back_34 : decode cX1_back 34 = .ok (.bipush (-3), 2) := dk_16 253 (dk_at dksX1_back_1 10 rfl rfl)
theorem dX1_back_36 : decode cX1_back 36 = .ok (.ireturn, 1) := dk_172 (dk_at dksX1_back_1 12 rfl rfl)
theorem dX1_back_37 : decode cX1_back 37 = .ok (.goto 19, 3) := dk_167 0 19 (dk_at dksX1_back_1 13 rfl rfl)
theorem dX1_back_40 : decode cX1_back 40 = .ok (.astore_n 3, 1) := dk_78 (dk_at dksX1_back_1 16 rfl rfl)
theorem dX1_back_41 : decode cX1_back 41 = .ok (.aload_n 0, 1) := dk_42 (dk_at dksX1_back_1 17 rfl rfl)
theorem dX1_back_42 : decode cX1_back 42 = .ok (.bipush (-11), 2) := dk_16 245 (dk_at dksX1_back_1 18 rfl rfl)
theorem dX1_back_44 : decode cX1_back 44 = .ok (.invokevirtual 343, 3) := dk_182 1 87 (dk_at dksX1_back_1 20 rfl rfl)
theorem dX1_back_47 : decode cX1_back 47 = .ok (.ireturn, 1) := dk_172 (dk_at dksX1_back_1 23 rfl rfl)
theorem dX1_back_48 : decode cX1_back 48 = .ok (.astore_n 3, 1) := dk_78 (dk_at dksX1_back_2 0 rfl rfl)
theorem dX1_back_49 : decode cX1_back 49 = .ok (.aload_n 0, 1) := dk_42 (dk_at dksX1_back_2 1 rfl rfl)
theorem dX1_back_50 : decode cX1_back 50 = .ok (.bipush (-12), 2) := dk_16 244 (dk_at dksX1_back_2 2 rfl rfl)
theorem dX1_back_52 : decode cX1_back 52 = .ok (.invokevirtual 343, 3) := dk_182 1 87 (dk_at dksX1_back_2 4 rfl rfl)
theorem dX1_back_55 : decode cX1_back 55 = .ok (.ireturn, 1) := dk_172 (dk_at dksX1_back_2 7 rfl rfl)
theorem dX1_back_56 : decode cX1_back 56 = .ok (.iconst 0, 1) := dk_3 (dk_at dksX1_back_2 8 rfl rfl)
theorem dX1_back_57 : decode cX1_back 57 = .ok (.istore_n 3, 1) := dk_62 (dk_at dksX1_back_2 9 rfl rfl)
theorem dX1_back_58 : decode cX1_back 58 = .ok (.iload_n 3, 1) := dk_29 (dk_at dksX1_back_2 10 rfl rfl)
theorem dX1_back_59 : decode cX1_back 59 = .ok (.bipush 8, 2) := dk_16 8 (dk_at dksX1_back_2 11 rfl rfl)
theorem dX1_back_61 : decode cX1_back 61 = .ok (.if_icmp .ge 21, 3) := dk_162 0 21 (dk_at dksX1_back_2 13 rfl rfl)
theorem dX1_back_64 : decode cX1_back 64 = .ok (.aload_n 0, 1) := dk_42 (dk_at dksX1_back_2 16 rfl rfl)
theorem dX1_back_65 : decode cX1_back 65 = .ok (.getfield 101, 3) := dk_180 0 101 (dk_at dksX1_back_2 17 rfl rfl)
theorem dX1_back_68 : decode cX1_back 68 = .ok (.iload_n 3, 1) := dk_29 (dk_at dksX1_back_2 20 rfl rfl)
theorem dX1_back_69 : decode cX1_back 69 = .ok (.aload_n 2, 1) := dk_44 (dk_at dksX1_back_2 21 rfl rfl)
theorem dX1_back_70 : decode cX1_back 70 = .ok (.getfield 349, 3) := dk_180 1 93 (dk_at dksX1_back_3 0 rfl rfl)
theorem dX1_back_73 : decode cX1_back 73 = .ok (.iload_n 3, 1) := dk_29 (dk_at dksX1_back_3 3 rfl rfl)
theorem dX1_back_74 : decode cX1_back 74 = .ok (.laload, 1) := dk_47 (dk_at dksX1_back_3 4 rfl rfl)
theorem dX1_back_75 : decode cX1_back 75 = .ok (.lastore, 1) := dk_80 (dk_at dksX1_back_3 5 rfl rfl)
theorem dX1_back_76 : decode cX1_back 76 = .ok (.iinc 3 1, 3) := dk_132 3 1 (dk_at dksX1_back_3 6 rfl rfl)
theorem dX1_back_79 : decode cX1_back 79 = .ok (.goto (-21), 3) := dk_167 255 235 (dk_at dksX1_back_3 9 rfl rfl)
theorem dX1_back_82 : decode cX1_back 82 = .ok (.iconst 0, 1) := dk_3 (dk_at dksX1_back_3 12 rfl rfl)
theorem dX1_back_83 : decode cX1_back 83 = .ok (.istore_n 3, 1) := dk_62 (dk_at dksX1_back_3 13 rfl rfl)
theorem dX1_back_84 : decode cX1_back 84 = .ok (.iload_n 3, 1) := dk_29 (dk_at dksX1_back_3 14 rfl rfl)
theorem dX1_back_85 : decode cX1_back 85 = .ok (.aload_n 0, 1) := dk_42 (dk_at dksX1_back_3 15 rfl rfl)
theorem dX1_back_86 : decode cX1_back 86 = .ok (.getfield 164, 3) := dk_180 0 164 (dk_at dksX1_back_3 16 rfl rfl)
theorem dX1_back_89 : decode cX1_back 89 = .ok (.if_icmp .ge 63, 3) := dk_162 0 63 (dk_at dksX1_back_3 19 rfl rfl)
theorem dX1_back_92 : decode cX1_back 92 = .ok (.aload_n 0, 1) := dk_42 (dk_at dksX1_back_3 22 rfl rfl)
theorem dX1_back_93 : decode cX1_back 93 = .ok (.getfield 97, 3) := dk_180 0 97 (dk_at dksX1_back_4 0 rfl rfl)
theorem dX1_back_96 : decode cX1_back 96 = .ok (.iload_n 3, 1) := dk_29 (dk_at dksX1_back_4 3 rfl rfl)
theorem dX1_back_97 : decode cX1_back 97 = .ok (.aaload, 1) := dk_50 (dk_at dksX1_back_4 4 rfl rfl)
theorem dX1_back_98 : decode cX1_back 98 = .ok (.iload_n 3, 1) := dk_29 (dk_at dksX1_back_4 5 rfl rfl)
theorem dX1_back_99 : decode cX1_back 99 = .ok (.aload_n 2, 1) := dk_44 (dk_at dksX1_back_4 6 rfl rfl)
theorem dX1_back_100 : decode cX1_back 100 = .ok (.getfield 353, 3) := dk_180 1 97 (dk_at dksX1_back_4 7 rfl rfl)
theorem dX1_back_103 : decode cX1_back 103 = .ok (.if_icmp .ge 12, 3) := dk_162 0 12 (dk_at dksX1_back_4 10 rfl rfl)
theorem dX1_back_106 : decode cX1_back 106 = .ok (.aload_n 2, 1) := dk_44 (dk_at dksX1_back_4 13 rfl rfl)
theorem dX1_back_107 : decode cX1_back 107 = .ok (.getfield 350, 3) := dk_180 1 94 (dk_at dksX1_back_4 14 rfl rfl)
theorem dX1_back_110 : decode cX1_back 110 = .ok (.iload_n 3, 1) := dk_29 (dk_at dksX1_back_4 17 rfl rfl)
theorem dX1_back_111 : decode cX1_back 111 = .ok (.laload, 1) := dk_47 (dk_at dksX1_back_4 18 rfl rfl)
theorem dX1_back_112 : decode cX1_back 112 = .ok (.goto 4, 3) := dk_167 0 4 (dk_at dksX1_back_4 19 rfl rfl)
theorem dX1_back_115 : decode cX1_back 115 = .ok (.lconst 0, 1) := dk_9 (dk_at dksX1_back_4 22 rfl rfl)
theorem dX1_back_116 : decode cX1_back 116 = .ok (.putfield 235, 3) := dk_181 0 235 (dk_at dksX1_back_5 0 rfl rfl)
theorem dX1_back_119 : decode cX1_back 119 = .ok (.aload_n 0, 1) := dk_42 (dk_at dksX1_back_5 3 rfl rfl)
theorem dX1_back_120 : decode cX1_back 120 = .ok (.getfield 97, 3) := dk_180 0 97 (dk_at dksX1_back_5 4 rfl rfl)
theorem dX1_back_123 : decode cX1_back 123 = .ok (.iload_n 3, 1) := dk_29 (dk_at dksX1_back_5 7 rfl rfl)
theorem dX1_back_124 : decode cX1_back 124 = .ok (.aaload, 1) := dk_50 (dk_at dksX1_back_5 8 rfl rfl)
theorem dX1_back_125 : decode cX1_back 125 = .ok (.iload_n 3, 1) := dk_29 (dk_at dksX1_back_5 9 rfl rfl)
theorem dX1_back_126 : decode cX1_back 126 = .ok (.aload_n 2, 1) := dk_44 (dk_at dksX1_back_5 10 rfl rfl)
theorem dX1_back_127 : decode cX1_back 127 = .ok (.getfield 353, 3) := dk_180 1 97 (dk_at dksX1_back_5 11 rfl rfl)
theorem dX1_back_130 : decode cX1_back 130 = .ok (.if_icmp .ge 12, 3) := dk_162 0 12 (dk_at dksX1_back_5 14 rfl rfl)
theorem dX1_back_133 : decode cX1_back 133 = .ok (.aload_n 2, 1) := dk_44 (dk_at dksX1_back_5 17 rfl rfl)
theorem dX1_back_134 : decode cX1_back 134 = .ok (.getfield 351, 3) := dk_180 1 95 (dk_at dksX1_back_5 18 rfl rfl)
theorem dX1_back_137 : decode cX1_back 137 = .ok (.iload_n 3, 1) := dk_29 (dk_at dksX1_back_5 21 rfl rfl)
theorem dX1_back_138 : decode cX1_back 138 = .ok (.laload, 1) := dk_47 (dk_at dksX1_back_5 22 rfl rfl)
theorem dX1_back_139 : decode cX1_back 139 = .ok (.goto 4, 3) := dk_167 0 4 (dk_at dksX1_back_6 0 rfl rfl)
theorem dX1_back_142 : decode cX1_back 142 = .ok (.lconst 1, 1) := dk_10 (dk_at dksX1_back_6 3 rfl rfl)
theorem dX1_back_143 : decode cX1_back 143 = .ok (.putfield 240, 3) := dk_181 0 240 (dk_at dksX1_back_6 4 rfl rfl)
theorem dX1_back_146 : decode cX1_back 146 = .ok (.iinc 3 1, 3) := dk_132 3 1 (dk_at dksX1_back_6 7 rfl rfl)
theorem dX1_back_149 : decode cX1_back 149 = .ok (.goto (-65), 3) := dk_167 255 191 (dk_at dksX1_back_6 10 rfl rfl)
theorem dX1_back_152 : decode cX1_back 152 = .ok (.aload_n 0, 1) := dk_42 (dk_at dksX1_back_6 13 rfl rfl)
theorem dX1_back_153 : decode cX1_back 153 = .ok (.aload_n 2, 1) := dk_44 (dk_at dksX1_back_6 14 rfl rfl)
theorem dX1_back_154 : decode cX1_back 154 = .ok (.getfield 352, 3) := dk_180 1 96 (dk_at dksX1_back_6 15 rfl rfl)
theorem dX1_back_157 : decode cX1_back 157 = .ok (.putfield 167, 3) := dk_181 0 167 (dk_at dksX1_back_6 18 rfl rfl)
theorem dX1_back_160 : decode cX1_back 160 = .ok (.aload_n 0, 1) := dk_42 (dk_at dksX1_back_6 21 rfl rfl)
theorem dX1_back_161 : decode cX1_back 161 = .ok (.getfield 167, 3) := dk_180 0 167 (dk_at dksX1_back_7 0 rfl rfl)
theorem dX1_back_164 : decode cX1_back 164 = .ok (.ireturn, 1) := dk_172 (dk_at dksX1_back_7 3 rfl rfl)
abbrev cX1_toss : ByteArray := prog_1_method_52_code
def yX1_toss : MethodName := ⟨RX1, "toss", "(I)I"⟩
def dkwX1_toss_2 : List UInt8 := [191, 78, 45, 180, 1, 109, 172, 78, 42, 16, 241, 182, 1, 87, 172]
abbrev dktX1_toss_2 : List UInt8 := dkwX1_toss_2 ++ []
def dkwX1_toss_1 : List UInt8 := [182, 1, 103, 77, 167, 0, 19, 78, 42, 16, 245, 182, 1, 87, 172, 78, 42, 16, 244, 182, 1, 87, 172, 44]
abbrev dktX1_toss_1 : List UInt8 := dkwX1_toss_1 ++ dktX1_toss_2
def dkwX1_toss_0 : List UInt8 := [42, 27, 182, 1, 78, 154, 0, 5, 2, 172, 42, 180, 0, 147, 27, 50, 180, 1, 81, 192, 1, 90, 78, 45]
abbrev dktX1_toss_0 : List UInt8 := dkwX1_toss_0 ++ dktX1_toss_1
theorem dksX1_toss_0 : cX1_toss.data.toList.drop 0 = dktX1_toss_0 := by decide +kernel
theorem dksX1_toss_1 : cX1_toss.data.toList.drop 24 = dktX1_toss_1 := dk_seg dksX1_toss_0 24 rfl rfl
theorem dksX1_toss_2 : cX1_toss.data.toList.drop 48 = dktX1_toss_2 := dk_seg dksX1_toss_1 24 rfl rfl
theorem dX1_toss_0 : decode cX1_toss 0 = .ok (.aload_n 0, 1) := dk_42 (dk_at dksX1_toss_0 0 rfl rfl)
theorem dX1_toss_1 : decode cX1_toss 1 = .ok (.iload_n 1, 1) := dk_27 (dk_at dksX1_toss_0 1 rfl rfl)
theorem dX1_toss_2 : decode cX1_toss 2 = .ok (.invokevirtual 334, 3) := dk_182 1 78 (dk_at dksX1_toss_0 2 rfl rfl)
theorem dX1_toss_5 : decode cX1_toss 5 = .ok (.ifCond .ne 5, 3) := dk_154 0 5 (dk_at dksX1_toss_0 5 rfl rfl)
theorem dX1_toss_8 : decode cX1_toss 8 = .ok (.iconst (-1), 1) := dk_2 (dk_at dksX1_toss_0 8 rfl rfl)
theorem dX1_toss_9 : decode cX1_toss 9 = .ok (.ireturn, 1) := dk_172 (dk_at dksX1_toss_0 9 rfl rfl)
theorem dX1_toss_10 : decode cX1_toss 10 = .ok (.aload_n 0, 1) := dk_42 (dk_at dksX1_toss_0 10 rfl rfl)
theorem dX1_toss_11 : decode cX1_toss 11 = .ok (.getfield 147, 3) := dk_180 0 147 (dk_at dksX1_toss_0 11 rfl rfl)
theorem dX1_toss_14 : decode cX1_toss 14 = .ok (.iload_n 1, 1) := dk_27 (dk_at dksX1_toss_0 14 rfl rfl)
theorem dX1_toss_15 : decode cX1_toss 15 = .ok (.aaload, 1) := dk_50 (dk_at dksX1_toss_0 15 rfl rfl)
theorem dX1_toss_16 : decode cX1_toss 16 = .ok (.getfield 337, 3) := dk_180 1 81 (dk_at dksX1_toss_0 16 rfl rfl)
theorem dX1_toss_19 : decode cX1_toss 19 = .ok (.checkcast 346, 3) := dk_192 1 90 (dk_at dksX1_toss_0 19 rfl rfl)
theorem dX1_toss_22 : decode cX1_toss 22 = .ok (.astore_n 3, 1) := dk_78 (dk_at dksX1_toss_0 22 rfl rfl)
theorem dX1_toss_23 : decode cX1_toss 23 = .ok (.aload_n 3, 1) := dk_45 (dk_at dksX1_toss_0 23 rfl rfl)
theorem dX1_toss_24 : decode cX1_toss 24 = .ok (.invokevirtual 359, 3) := dk_182 1 103 (dk_at dksX1_toss_1 0 rfl rfl)
theorem dX1_toss_27 : decode cX1_toss 27 = .ok (.astore_n 2, 1) := dk_77 (dk_at dksX1_toss_1 3 rfl rfl)
theorem dX1_toss_28 : decode cX1_toss 28 = .ok (.goto 19, 3) := dk_167 0 19 (dk_at dksX1_toss_1 4 rfl rfl)
theorem dX1_toss_31 : decode cX1_toss 31 = .ok (.astore_n 3, 1) := dk_78 (dk_at dksX1_toss_1 7 rfl rfl)
theorem dX1_toss_32 : decode cX1_toss 32 = .ok (.aload_n 0, 1) := dk_42 (dk_at dksX1_toss_1 8 rfl rfl)
theorem dX1_toss_33 : decode cX1_toss 33 = .ok (.bipush (-11), 2) := dk_16 245 (dk_at dksX1_toss_1 9 rfl rfl)
theorem dX1_toss_35 : decode cX1_toss 35 = .ok (.invokevirtual 343, 3) := dk_182 1 87 (dk_at dksX1_toss_1 11 rfl rfl)
theorem dX1_toss_38 : decode cX1_toss 38 = .ok (.ireturn, 1) := dk_172 (dk_at dksX1_toss_1 14 rfl rfl)
theorem dX1_toss_39 : decode cX1_toss 39 = .ok (.astore_n 3, 1) := dk_78 (dk_at dksX1_toss_1 15 rfl rfl)
theorem dX1_toss_40 : decode cX1_toss 40 = .ok (.aload_n 0, 1) := dk_42 (dk_at dksX1_toss_1 16 rfl rfl)
theorem dX1_toss_41 : decode cX1_toss 41 = .ok (.bipush (-12), 2) := dk_16 244 (dk_at dksX1_toss_1 17 rfl rfl)
theorem dX1_toss_43 : decode cX1_toss 43 = .ok (.invokevirtual 343, 3) := dk_182 1 87 (dk_at dksX1_toss_1 19 rfl rfl)
theorem dX1_toss_46 : decode cX1_toss 46 = .ok (.ireturn, 1) := dk_172 (dk_at dksX1_toss_1 22 rfl rfl)
theorem dX1_toss_47 : decode cX1_toss 47 = .ok (.aload_n 2, 1) := dk_44 (dk_at dksX1_toss_1 23 rfl rfl)
theorem dX1_toss_48 : decode cX1_toss 48 = .ok (.athrow, 1) := dk_191 (dk_at dksX1_toss_2 0 rfl rfl)
theorem dX1_toss_49 : decode cX1_toss 49 = .ok (.astore_n 3, 1) := dk_78 (dk_at dksX1_toss_2 1 rfl rfl)
theorem dX1_toss_50 : decode cX1_toss 50 = .ok (.aload_n 3, 1) := dk_45 (dk_at dksX1_toss_2 2 rfl rfl)
theorem dX1_toss_51 : decode cX1_toss 51 = .ok (.getfield 365, 3) := dk_180 1 109 (dk_at dksX1_toss_2 3 rfl rfl)
theorem dX1_toss_54 : decode cX1_toss 54 = .ok (.ireturn, 1) := dk_172 (dk_at dksX1_toss_2 6 rfl rfl)
theorem dX1_toss_55 : decode cX1_toss 55 = .ok (.astore_n 3, 1) := dk_78 (dk_at dksX1_toss_2 7 rfl rfl)
theorem dX1_toss_56 : decode cX1_toss 56 = .ok (.aload_n 0, 1) := dk_42 (dk_at dksX1_toss_2 8 rfl rfl)
theorem dX1_toss_57 : decode cX1_toss 57 = .ok (.bipush (-15), 2) := dk_16 241 (dk_at dksX1_toss_2 9 rfl rfl)
theorem dX1_toss_59 : decode cX1_toss 59 = .ok (.invokevirtual 343, 3) := dk_182 1 87 (dk_at dksX1_toss_2 11 rfl rfl)
theorem dX1_toss_62 : decode cX1_toss 62 = .ok (.ireturn, 1) := dk_172 (dk_at dksX1_toss_2 14 rfl rfl)
abbrev cX1_load : ByteArray := prog_1_method_55_code
def yX1_load : MethodName := ⟨RX1, "load", "(III)I"⟩
def dkwX1_load_8 : List UInt8 := [167, 255, 233, 42, 29, 181, 0, 160, 29, 172]
abbrev dktX1_load_8 : List UInt8 := dkwX1_load_8 ++ []
def dkwX1_load_7 : List UInt8 := [21, 6, 29, 162, 0, 23, 42, 180, 0, 86, 21, 6, 42, 180, 0, 127, 21, 6, 46, 79, 132, 6, 1]
abbrev dktX1_load_7 : List UInt8 := dkwX1_load_7 ++ dktX1_load_8
def dkwX1_load_6 : List UInt8 := [182, 1, 87, 172, 58, 6, 42, 16, 243, 182, 1, 87, 172, 21, 5, 153, 0, 6, 16, 253, 172, 3, 54, 6]
abbrev dktX1_load_6 : List UInt8 := dkwX1_load_6 ++ dktX1_load_7
def dkwX1_load_5 : List UInt8 := [79, 132, 7, 1, 167, 255, 202, 167, 0, 30, 58, 6, 42, 16, 245, 182, 1, 87, 172, 58, 6, 42, 16, 244]
abbrev dktX1_load_5 : List UInt8 := dkwX1_load_5 ++ dktX1_load_6
def dkwX1_load_4 : List UInt8 := [22, 8, 20, 1, 124, 148, 158, 0, 9, 4, 54, 5, 167, 0, 13, 42, 180, 0, 127, 21, 7, 22, 8, 136]
abbrev dktX1_load_4 : List UInt8 := dkwX1_load_4 ++ dktX1_load_5
def dkwX1_load_3 : List UInt8 := [162, 0, 54, 25, 4, 28, 21, 7, 96, 184, 1, 118, 55, 8, 22, 8, 20, 1, 122, 148, 155, 0, 12]
abbrev dktX1_load_3 : List UInt8 := dkwX1_load_3 ++ dktX1_load_4
def dkwX1_load_2 : List UInt8 := [155, 0, 9, 28, 21, 6, 164, 0, 10, 42, 16, 243, 182, 1, 87, 172, 3, 54, 7, 21, 7, 29]
abbrev dktX1_load_2 : List UInt8 := dkwX1_load_2 ++ dktX1_load_3
def dkwX1_load_1 : List UInt8 := [27, 50, 180, 1, 81, 58, 4, 3, 54, 5, 25, 4, 184, 1, 114, 54, 6, 29, 154, 0, 20, 28]
abbrev dktX1_load_1 : List UInt8 := dkwX1_load_1 ++ dktX1_load_2
def dkwX1_load_0 : List UInt8 := [42, 27, 182, 1, 78, 153, 0, 13, 29, 155, 0, 9, 29, 16, 12, 164, 0, 5, 2, 172, 42, 180, 0, 147]
abbrev dktX1_load_0 : List UInt8 := dkwX1_load_0 ++ dktX1_load_1
theorem dksX1_load_0 : cX1_load.data.toList.drop 0 = dktX1_load_0 := by decide +kernel
theorem dksX1_load_1 : cX1_load.data.toList.drop 24 = dktX1_load_1 := dk_seg dksX1_load_0 24 rfl rfl
theorem dksX1_load_2 : cX1_load.data.toList.drop 46 = dktX1_load_2 := dk_seg dksX1_load_1 22 rfl rfl
theorem dksX1_load_3 : cX1_load.data.toList.drop 68 = dktX1_load_3 := dk_seg dksX1_load_2 22 rfl rfl
theorem dksX1_load_4 : cX1_load.data.toList.drop 91 = dktX1_load_4 := dk_seg dksX1_load_3 23 rfl rfl
theorem dksX1_load_5 : cX1_load.data.toList.drop 115 = dktX1_load_5 := dk_seg dksX1_load_4 24 rfl rfl
theorem dksX1_load_6 : cX1_load.data.toList.drop 139 = dktX1_load_6 := dk_seg dksX1_load_5 24 rfl rfl
theorem dksX1_load_7 : cX1_load.data.toList.drop 163 = dktX1_load_7 := dk_seg dksX1_load_6 24 rfl rfl
theorem dksX1_load_8 : cX1_load.data.toList.drop 186 = dktX1_load_8 := dk_seg dksX1_load_7 23 rfl rfl
theorem dX1_load_0 : decode cX1_load 0 = .ok (.aload_n 0, 1) := dk_42 (dk_at dksX1_load_0 0 rfl rfl)
theorem dX1_load_1 : decode cX1_load 1 = .ok (.iload_n 1, 1) := dk_27 (dk_at dksX1_load_0 1 rfl rfl)
theorem dX1_load_2 : decode cX1_load 2 = .ok (.invokevirtual 334, 3) := dk_182 1 78 (dk_at dksX1_load_0 2 rfl rfl)
theorem dX1_load_5 : decode cX1_load 5 = .ok (.ifCond .eq 13, 3) := dk_153 0 13 (dk_at dksX1_load_0 5 rfl rfl)
theorem dX1_load_8 : decode cX1_load 8 = .ok (.iload_n 3, 1) := dk_29 (dk_at dksX1_load_0 8 rfl rfl)
theorem dX1_load_9 : decode cX1_load 9 = .ok (.ifCond .lt 9, 3) := dk_155 0 9 (dk_at dksX1_load_0 9 rfl rfl)
theorem dX1_load_12 : decode cX1_load 12 = .ok (.iload_n 3, 1) := dk_29 (dk_at dksX1_load_0 12 rfl rfl)
theorem dX1_load_13 : decode cX1_load 13 = .ok (.bipush 12, 2) := dk_16 12 (dk_at dksX1_load_0 13 rfl rfl)
theorem dX1_load_15 : decode cX1_load 15 = .ok (.if_icmp .le 5, 3) := dk_164 0 5 (dk_at dksX1_load_0 15 rfl rfl)
theorem dX1_load_18 : decode cX1_load 18 = .ok (.iconst (-1), 1) := dk_2 (dk_at dksX1_load_0 18 rfl rfl)
theorem dX1_load_19 : decode cX1_load 19 = .ok (.ireturn, 1) := dk_172 (dk_at dksX1_load_0 19 rfl rfl)
theorem dX1_load_20 : decode cX1_load 20 = .ok (.aload_n 0, 1) := dk_42 (dk_at dksX1_load_0 20 rfl rfl)
theorem dX1_load_21 : decode cX1_load 21 = .ok (.getfield 147, 3) := dk_180 0 147 (dk_at dksX1_load_0 21 rfl rfl)
theorem dX1_load_24 : decode cX1_load 24 = .ok (.iload_n 1, 1) := dk_27 (dk_at dksX1_load_1 0 rfl rfl)
theorem dX1_load_25 : decode cX1_load 25 = .ok (.aaload, 1) := dk_50 (dk_at dksX1_load_1 1 rfl rfl)
theorem dX1_load_26 : decode cX1_load 26 = .ok (.getfield 337, 3) := dk_180 1 81 (dk_at dksX1_load_1 2 rfl rfl)
theorem dX1_load_29 : decode cX1_load 29 = .ok (.astore 4, 2) := dk_58 4 (dk_at dksX1_load_1 5 rfl rfl)
theorem dX1_load_31 : decode cX1_load 31 = .ok (.iconst 0, 1) := dk_3 (dk_at dksX1_load_1 7 rfl rfl)
theorem dX1_load_32 : decode cX1_load 32 = .ok (.istore 5, 2) := dk_54 5 (dk_at dksX1_load_1 8 rfl rfl)
theorem dX1_load_34 : decode cX1_load 34 = .ok (.aload 4, 2) := dk_25 4 (dk_at dksX1_load_1 10 rfl rfl)
theorem dX1_load_36 : decode cX1_load 36 = .ok (.invokestatic 370, 3) := dk_184 1 114 (dk_at dksX1_load_1 12 rfl rfl)
theorem dX1_load_39 : decode cX1_load 39 = .ok (.istore 6, 2) := dk_54 6 (dk_at dksX1_load_1 15 rfl rfl)
theorem dX1_load_41 : decode cX1_load 41 = .ok (.iload_n 3, 1) := dk_29 (dk_at dksX1_load_1 17 rfl rfl)
theorem dX1_load_42 : decode cX1_load 42 = .ok (.ifCond .ne 20, 3) := dk_154 0 20 (dk_at dksX1_load_1 18 rfl rfl)
theorem dX1_load_45 : decode cX1_load 45 = .ok (.iload_n 2, 1) := dk_28 (dk_at dksX1_load_1 21 rfl rfl)
theorem dX1_load_46 : decode cX1_load 46 = .ok (.ifCond .lt 9, 3) := dk_155 0 9 (dk_at dksX1_load_2 0 rfl rfl)
theorem dX1_load_49 : decode cX1_load 49 = .ok (.iload_n 2, 1) := dk_28 (dk_at dksX1_load_2 3 rfl rfl)
theorem dX1_load_50 : decode cX1_load 50 = .ok (.iload 6, 2) := dk_21 6 (dk_at dksX1_load_2 4 rfl rfl)
theorem dX1_load_52 : decode cX1_load 52 = .ok (.if_icmp .le 10, 3) := dk_164 0 10 (dk_at dksX1_load_2 6 rfl rfl)
theorem dX1_load_55 : decode cX1_load 55 = .ok (.aload_n 0, 1) := dk_42 (dk_at dksX1_load_2 9 rfl rfl)
theorem dX1_load_56 : decode cX1_load 56 = .ok (.bipush (-13), 2) := dk_16 243 (dk_at dksX1_load_2 10 rfl rfl)
theorem dX1_load_58 : decode cX1_load 58 = .ok (.invokevirtual 343, 3) := dk_182 1 87 (dk_at dksX1_load_2 12 rfl rfl)
theorem dX1_load_61 : decode cX1_load 61 = .ok (.ireturn, 1) := dk_172 (dk_at dksX1_load_2 15 rfl rfl)
theorem dX1_load_62 : decode cX1_load 62 = .ok (.iconst 0, 1) := dk_3 (dk_at dksX1_load_2 16 rfl rfl)
theorem dX1_load_63 : decode cX1_load 63 = .ok (.istore 7, 2) := dk_54 7 (dk_at dksX1_load_2 17 rfl rfl)
theorem dX1_load_65 : decode cX1_load 65 = .ok (.iload 7, 2) := dk_21 7 (dk_at dksX1_load_2 19 rfl rfl)
theorem dX1_load_67 : decode cX1_load 67 = .ok (.iload_n 3, 1) := dk_29 (dk_at dksX1_load_2 21 rfl rfl)
theorem dX1_load_68 : decode cX1_load 68 = .ok (.if_icmp .ge 54, 3) := dk_162 0 54 (dk_at dksX1_load_3 0 rfl rfl)
theorem dX1_load_71 : decode cX1_load 71 = .ok (.aload 4, 2) := dk_25 4 (dk_at dksX1_load_3 3 rfl rfl)
theorem dX1_load_73 : decode cX1_load 73 = .ok (.iload_n 2, 1) := dk_28 (dk_at dksX1_load_3 5 rfl rfl)
theorem dX1_load_74 : decode cX1_load 74 = .ok (.iload 7, 2) := dk_21 7 (dk_at dksX1_load_3 6 rfl rfl)
theorem dX1_load_76 : decode cX1_load 76 = .ok (.iadd, 1) := dk_96 (dk_at dksX1_load_3 8 rfl rfl)
theorem dX1_load_77 : decode cX1_load 77 = .ok (.invokestatic 374, 3) := dk_184 1 118 (dk_at dksX1_load_3 9 rfl rfl)
theorem dX1_load_80 : decode cX1_load 80 = .ok (.lstore 8, 2) := dk_55 8 (dk_at dksX1_load_3 12 rfl rfl)
theorem dX1_load_82 : decode cX1_load 82 = .ok (.lload 8, 2) := dk_22 8 (dk_at dksX1_load_3 14 rfl rfl)
theorem dX1_load_84 : decode cX1_load 84 = .ok (.ldc2_w 378, 3) := dk_20 1 122 (dk_at dksX1_load_3 16 rfl rfl)
theorem dX1_load_87 : decode cX1_load 87 = .ok (.lcmp, 1) := dk_148 (dk_at dksX1_load_3 19 rfl rfl)
theorem dX1_load_88 : decode cX1_load 88 = .ok (.ifCond .lt 12, 3) := dk_155 0 12 (dk_at dksX1_load_3 20 rfl rfl)
theorem dX1_load_91 : decode cX1_load 91 = .ok (.lload 8, 2) := dk_22 8 (dk_at dksX1_load_4 0 rfl rfl)
theorem dX1_load_93 : decode cX1_load 93 = .ok (.ldc2_w 380, 3) := dk_20 1 124 (dk_at dksX1_load_4 2 rfl rfl)
theorem dX1_load_96 : decode cX1_load 96 = .ok (.lcmp, 1) := dk_148 (dk_at dksX1_load_4 5 rfl rfl)
theorem dX1_load_97 : decode cX1_load 97 = .ok (.ifCond .le 9, 3) := dk_158 0 9 (dk_at dksX1_load_4 6 rfl rfl)
theorem dX1_load_100 : decode cX1_load 100 = .ok (.iconst 1, 1) := dk_4 (dk_at dksX1_load_4 9 rfl rfl)
theorem dX1_load_101 : decode cX1_load 101 = .ok (.istore 5, 2) := dk_54 5 (dk_at dksX1_load_4 10 rfl rfl)
theorem dX1_load_103 : decode cX1_load 103 = .ok (.goto 13, 3) := dk_167 0 13 (dk_at dksX1_load_4 12 rfl rfl)
theorem dX1_load_106 : decode cX1_load 106 = .ok (.aload_n 0, 1) := dk_42 (dk_at dksX1_load_4 15 rfl rfl)
theorem dX1_load_107 : decode cX1_load 107 = .ok (.getfield 127, 3) := dk_180 0 127 (dk_at dksX1_load_4 16 rfl rfl)
theorem dX1_load_110 : decode cX1_load 110 = .ok (.iload 7, 2) := dk_21 7 (dk_at dksX1_load_4 19 rfl rfl)
theorem dX1_load_112 : decode cX1_load 112 = .ok (.lload 8, 2) := dk_22 8 (dk_at dksX1_load_4 21 rfl rfl)
theorem dX1_load_114 : decode cX1_load 114 = .ok (.l2i, 1) := dk_136 (dk_at dksX1_load_4 23 rfl rfl)
theorem dX1_load_115 : decode cX1_load 115 = .ok (.iastore, 1) := dk_79 (dk_at dksX1_load_5 0 rfl rfl)
theorem dX1_load_116 : decode cX1_load 116 = .ok (.iinc 7 1, 3) := dk_132 7 1 (dk_at dksX1_load_5 1 rfl rfl)
theorem dX1_load_119 : decode cX1_load 119 = .ok (.goto (-54), 3) := dk_167 255 202 (dk_at dksX1_load_5 4 rfl rfl)
theorem dX1_load_122 : decode cX1_load 122 = .ok (.goto 30, 3) := dk_167 0 30 (dk_at dksX1_load_5 7 rfl rfl)
theorem dX1_load_125 : decode cX1_load 125 = .ok (.astore 6, 2) := dk_58 6 (dk_at dksX1_load_5 10 rfl rfl)
theorem dX1_load_127 : decode cX1_load 127 = .ok (.aload_n 0, 1) := dk_42 (dk_at dksX1_load_5 12 rfl rfl)
theorem dX1_load_128 : decode cX1_load 128 = .ok (.bipush (-11), 2) := dk_16 245 (dk_at dksX1_load_5 13 rfl rfl)
theorem dX1_load_130 : decode cX1_load 130 = .ok (.invokevirtual 343, 3) := dk_182 1 87 (dk_at dksX1_load_5 15 rfl rfl)
theorem dX1_load_133 : decode cX1_load 133 = .ok (.ireturn, 1) := dk_172 (dk_at dksX1_load_5 18 rfl rfl)
theorem dX1_load_134 : decode cX1_load 134 = .ok (.astore 6, 2) := dk_58 6 (dk_at dksX1_load_5 19 rfl rfl)
theorem dX1_load_136 : decode cX1_load 136 = .ok (.aload_n 0, 1) := dk_42 (dk_at dksX1_load_5 21 rfl rfl)
theorem dX1_load_137 : decode cX1_load 137 = .ok (.bipush (-12), 2) := dk_16 244 (dk_at dksX1_load_5 22 rfl rfl)
theorem dX1_load_139 : decode cX1_load 139 = .ok (.invokevirtual 343, 3) := dk_182 1 87 (dk_at dksX1_load_6 0 rfl rfl)
theorem dX1_load_142 : decode cX1_load 142 = .ok (.ireturn, 1) := dk_172 (dk_at dksX1_load_6 3 rfl rfl)
theorem dX1_load_143 : decode cX1_load 143 = .ok (.astore 6, 2) := dk_58 6 (dk_at dksX1_load_6 4 rfl rfl)
theorem dX1_load_145 : decode cX1_load 145 = .ok (.aload_n 0, 1) := dk_42 (dk_at dksX1_load_6 6 rfl rfl)
theorem dX1_load_146 : decode cX1_load 146 = .ok (.bipush (-13), 2) := dk_16 243 (dk_at dksX1_load_6 7 rfl rfl)
theorem dX1_load_148 : decode cX1_load 148 = .ok (.invokevirtual 343, 3) := dk_182 1 87 (dk_at dksX1_load_6 9 rfl rfl)
theorem dX1_load_151 : decode cX1_load 151 = .ok (.ireturn, 1) := dk_172 (dk_at dksX1_load_6 12 rfl rfl)
theorem dX1_load_152 : decode cX1_load 152 = .ok (.iload 5, 2) := dk_21 5 (dk_at dksX1_load_6 13 rfl rfl)
theorem dX1_load_154 : decode cX1_load 154 = .ok (.ifCond .eq 6, 3) := dk_153 0 6 (dk_at dksX1_load_6 15 rfl rfl)
theorem dX1_load_157 : decode cX1_load 157 = .ok (.bipush (-3), 2) := dk_16 253 (dk_at dksX1_load_6 18 rfl rfl)
theorem dX1_load_159 : decode cX1_load 159 = .ok (.ireturn, 1) := dk_172 (dk_at dksX1_load_6 20 rfl rfl)
theorem dX1_load_160 : decode cX1_load 160 = .ok (.iconst 0, 1) := dk_3 (dk_at dksX1_load_6 21 rfl rfl)
theorem dX1_load_161 : decode cX1_load 161 = .ok (.istore 6, 2) := dk_54 6 (dk_at dksX1_load_6 22 rfl rfl)
theorem dX1_load_163 : decode cX1_load 163 = .ok (.iload 6, 2) := dk_21 6 (dk_at dksX1_load_7 0 rfl rfl)
theorem dX1_load_165 : decode cX1_load 165 = .ok (.iload_n 3, 1) := dk_29 (dk_at dksX1_load_7 2 rfl rfl)
theorem dX1_load_166 : decode cX1_load 166 = .ok (.if_icmp .ge 23, 3) := dk_162 0 23 (dk_at dksX1_load_7 3 rfl rfl)
theorem dX1_load_169 : decode cX1_load 169 = .ok (.aload_n 0, 1) := dk_42 (dk_at dksX1_load_7 6 rfl rfl)
theorem dX1_load_170 : decode cX1_load 170 = .ok (.getfield 86, 3) := dk_180 0 86 (dk_at dksX1_load_7 7 rfl rfl)
theorem dX1_load_173 : decode cX1_load 173 = .ok (.iload 6, 2) := dk_21 6 (dk_at dksX1_load_7 10 rfl rfl)
theorem dX1_load_175 : decode cX1_load 175 = .ok (.aload_n 0, 1) := dk_42 (dk_at dksX1_load_7 12 rfl rfl)
theorem dX1_load_176 : decode cX1_load 176 = .ok (.getfield 127, 3) := dk_180 0 127 (dk_at dksX1_load_7 13 rfl rfl)
theorem dX1_load_179 : decode cX1_load 179 = .ok (.iload 6, 2) := dk_21 6 (dk_at dksX1_load_7 16 rfl rfl)
theorem dX1_load_181 : decode cX1_load 181 = .ok (.iaload, 1) := dk_46 (dk_at dksX1_load_7 18 rfl rfl)
theorem dX1_load_182 : decode cX1_load 182 = .ok (.iastore, 1) := dk_79 (dk_at dksX1_load_7 19 rfl rfl)
theorem dX1_load_183 : decode cX1_load 183 = .ok (.iinc 6 1, 3) := dk_132 6 1 (dk_at dksX1_load_7 20 rfl rfl)
theorem dX1_load_186 : decode cX1_load 186 = .ok (.goto (-23), 3) := dk_167 255 233 (dk_at dksX1_load_8 0 rfl rfl)
theorem dX1_load_189 : decode cX1_load 189 = .ok (.aload_n 0, 1) := dk_42 (dk_at dksX1_load_8 3 rfl rfl)
theorem dX1_load_190 : decode cX1_load 190 = .ok (.iload_n 3, 1) := dk_29 (dk_at dksX1_load_8 4 rfl rfl)
theorem dX1_load_191 : decode cX1_load 191 = .ok (.putfield 160, 3) := dk_181 0 160 (dk_at dksX1_load_8 5 rfl rfl)
theorem dX1_load_194 : decode cX1_load 194 = .ok (.iload_n 3, 1) := dk_29 (dk_at dksX1_load_8 8 rfl rfl)
theorem dX1_load_195 : decode cX1_load 195 = .ok (.ireturn, 1) := dk_172 (dk_at dksX1_load_8 9 rfl rfl)
abbrev cX1_lengthOf : ByteArray := prog_1_method_54_code
def yX1_lengthOf : MethodName := ⟨RX1, "lengthOf", "(Ljava/lang/Object;)I"⟩
def dkwX1_lengthOf_1 : List UInt8 := [190, 172, 42, 192, 1, 113, 190, 172]
abbrev dktX1_lengthOf_1 : List UInt8 := dkwX1_lengthOf_1 ++ []
def dkwX1_lengthOf_0 : List UInt8 := [42, 193, 1, 110, 153, 0, 9, 42, 192, 1, 110, 190, 172, 42, 193, 1, 112, 153, 0, 9, 42, 192, 1, 112]
abbrev dktX1_lengthOf_0 : List UInt8 := dkwX1_lengthOf_0 ++ dktX1_lengthOf_1
theorem dksX1_lengthOf_0 : cX1_lengthOf.data.toList.drop 0 = dktX1_lengthOf_0 := by decide +kernel
theorem dksX1_lengthOf_1 : cX1_lengthOf.data.toList.drop 24 = dktX1_lengthOf_1 := dk_seg dksX1_lengthOf_0 24 rfl rfl
theorem dX1_lengthOf_0 : decode cX1_lengthOf 0 = .ok (.aload_n 0, 1) := dk_42 (dk_at dksX1_lengthOf_0 0 rfl rfl)
theorem dX1_lengthOf_1 : decode cX1_lengthOf 1 = .ok (.instanceof 366, 3) := dk_193 1 110 (dk_at dksX1_lengthOf_0 1 rfl rfl)
theorem dX1_lengthOf_4 : decode cX1_lengthOf 4 = .ok (.ifCond .eq 9, 3) := dk_153 0 9 (dk_at dksX1_lengthOf_0 4 rfl rfl)
theorem dX1_lengthOf_7 : decode cX1_lengthOf 7 = .ok (.aload_n 0, 1) := dk_42 (dk_at dksX1_lengthOf_0 7 rfl rfl)
theorem dX1_lengthOf_8 : decode cX1_lengthOf 8 = .ok (.checkcast 366, 3) := dk_192 1 110 (dk_at dksX1_lengthOf_0 8 rfl rfl)
theorem dX1_lengthOf_11 : decode cX1_lengthOf 11 = .ok (.arraylength, 1) := dk_190 (dk_at dksX1_lengthOf_0 11 rfl rfl)
theorem dX1_lengthOf_12 : decode cX1_lengthOf 12 = .ok (.ireturn, 1) := dk_172 (dk_at dksX1_lengthOf_0 12 rfl rfl)
theorem dX1_lengthOf_13 : decode cX1_lengthOf 13 = .ok (.aload_n 0, 1) := dk_42 (dk_at dksX1_lengthOf_0 13 rfl rfl)
theorem dX1_lengthOf_14 : decode cX1_lengthOf 14 = .ok (.instanceof 368, 3) := dk_193 1 112 (dk_at dksX1_lengthOf_0 14 rfl rfl)
theorem dX1_lengthOf_17 : decode cX1_lengthOf 17 = .ok (.ifCond .eq 9, 3) := dk_153 0 9 (dk_at dksX1_lengthOf_0 17 rfl rfl)
theorem dX1_lengthOf_20 : decode cX1_lengthOf 20 = .ok (.aload_n 0, 1) := dk_42 (dk_at dksX1_lengthOf_0 20 rfl rfl)
theorem dX1_lengthOf_21 : decode cX1_lengthOf 21 = .ok (.checkcast 368, 3) := dk_192 1 112 (dk_at dksX1_lengthOf_0 21 rfl rfl)
theorem dX1_lengthOf_24 : decode cX1_lengthOf 24 = .ok (.arraylength, 1) := dk_190 (dk_at dksX1_lengthOf_1 0 rfl rfl)
theorem dX1_lengthOf_25 : decode cX1_lengthOf 25 = .ok (.ireturn, 1) := dk_172 (dk_at dksX1_lengthOf_1 1 rfl rfl)
theorem dX1_lengthOf_26 : decode cX1_lengthOf 26 = .ok (.aload_n 0, 1) := dk_42 (dk_at dksX1_lengthOf_1 2 rfl rfl)
theorem dX1_lengthOf_27 : decode cX1_lengthOf 27 = .ok (.checkcast 369, 3) := dk_192 1 113 (dk_at dksX1_lengthOf_1 3 rfl rfl)
theorem dX1_lengthOf_30 : decode cX1_lengthOf 30 = .ok (.arraylength, 1) := dk_190 (dk_at dksX1_lengthOf_1 6 rfl rfl)
theorem dX1_lengthOf_31 : decode cX1_lengthOf 31 = .ok (.ireturn, 1) := dk_172 (dk_at dksX1_lengthOf_1 7 rfl rfl)
abbrev cX1_wide : ByteArray := prog_1_method_53_code
def yX1_wide : MethodName := ⟨RX1, "wide", "(Ljava/lang/Object;I)J"⟩
def dkwX1_wide_1 : List UInt8 := [192, 1, 112, 27, 46, 133, 173, 42, 192, 1, 113, 27, 47, 173]
abbrev dktX1_wide_1 : List UInt8 := dkwX1_wide_1 ++ []
def dkwX1_wide_0 : List UInt8 := [42, 193, 1, 110, 153, 0, 11, 42, 192, 1, 110, 27, 53, 133, 173, 42, 193, 1, 112, 153, 0, 11, 42]
abbrev dktX1_wide_0 : List UInt8 := dkwX1_wide_0 ++ dktX1_wide_1
theorem dksX1_wide_0 : cX1_wide.data.toList.drop 0 = dktX1_wide_0 := by decide +kernel
theorem dksX1_wide_1 : cX1_wide.data.toList.drop 23 = dktX1_wide_1 := dk_seg dksX1_wide_0 23 rfl rfl
theorem dX1_wide_0 : decode cX1_wide 0 = .ok (.aload_n 0, 1) := dk_42 (dk_at dksX1_wide_0 0 rfl rfl)
theorem dX1_wide_1 : decode cX1_wide 1 = .ok (.instanceof 366, 3) := dk_193 1 110 (dk_at dksX1_wide_0 1 rfl rfl)
theorem dX1_wide_4 : decode cX1_wide 4 = .ok (.ifCond .eq 11, 3) := dk_153 0 11 (dk_at dksX1_wide_0 4 rfl rfl)
theorem dX1_wide_7 : decode cX1_wide 7 = .ok (.aload_n 0, 1) := dk_42 (dk_at dksX1_wide_0 7 rfl rfl)
theorem dX1_wide_8 : decode cX1_wide 8 = .ok (.checkcast 366, 3) := dk_192 1 110 (dk_at dksX1_wide_0 8 rfl rfl)
theorem dX1_wide_11 : decode cX1_wide 11 = .ok (.iload_n 1, 1) := dk_27 (dk_at dksX1_wide_0 11 rfl rfl)
theorem dX1_wide_12 : decode cX1_wide 12 = .ok (.saload, 1) := dk_53 (dk_at dksX1_wide_0 12 rfl rfl)
theorem dX1_wide_13 : decode cX1_wide 13 = .ok (.i2l, 1) := dk_133 (dk_at dksX1_wide_0 13 rfl rfl)
theorem dX1_wide_14 : decode cX1_wide 14 = .ok (.lreturn, 1) := dk_173 (dk_at dksX1_wide_0 14 rfl rfl)
theorem dX1_wide_15 : decode cX1_wide 15 = .ok (.aload_n 0, 1) := dk_42 (dk_at dksX1_wide_0 15 rfl rfl)
theorem dX1_wide_16 : decode cX1_wide 16 = .ok (.instanceof 368, 3) := dk_193 1 112 (dk_at dksX1_wide_0 16 rfl rfl)
theorem dX1_wide_19 : decode cX1_wide 19 = .ok (.ifCond .eq 11, 3) := dk_153 0 11 (dk_at dksX1_wide_0 19 rfl rfl)
theorem dX1_wide_22 : decode cX1_wide 22 = .ok (.aload_n 0, 1) := dk_42 (dk_at dksX1_wide_0 22 rfl rfl)
theorem dX1_wide_23 : decode cX1_wide 23 = .ok (.checkcast 368, 3) := dk_192 1 112 (dk_at dksX1_wide_1 0 rfl rfl)
theorem dX1_wide_26 : decode cX1_wide 26 = .ok (.iload_n 1, 1) := dk_27 (dk_at dksX1_wide_1 3 rfl rfl)
theorem dX1_wide_27 : decode cX1_wide 27 = .ok (.iaload, 1) := dk_46 (dk_at dksX1_wide_1 4 rfl rfl)
theorem dX1_wide_28 : decode cX1_wide 28 = .ok (.i2l, 1) := dk_133 (dk_at dksX1_wide_1 5 rfl rfl)
theorem dX1_wide_29 : decode cX1_wide 29 = .ok (.lreturn, 1) := dk_173 (dk_at dksX1_wide_1 6 rfl rfl)
theorem dX1_wide_30 : decode cX1_wide 30 = .ok (.aload_n 0, 1) := dk_42 (dk_at dksX1_wide_1 7 rfl rfl)
theorem dX1_wide_31 : decode cX1_wide 31 = .ok (.checkcast 369, 3) := dk_192 1 113 (dk_at dksX1_wide_1 8 rfl rfl)
theorem dX1_wide_34 : decode cX1_wide 34 = .ok (.iload_n 1, 1) := dk_27 (dk_at dksX1_wide_1 11 rfl rfl)
theorem dX1_wide_35 : decode cX1_wide 35 = .ok (.laload, 1) := dk_47 (dk_at dksX1_wide_1 12 rfl rfl)
theorem dX1_wide_36 : decode cX1_wide 36 = .ok (.lreturn, 1) := dk_173 (dk_at dksX1_wide_1 13 rfl rfl)
abbrev cX1_clear : ByteArray := prog_1_method_56_code
def yX1_clear : MethodName := ⟨RX1, "clear", "(I)I"⟩
def dkwX1_clear_1 : List UInt8 := [27, 50, 1, 181, 1, 81, 28, 172]
abbrev dktX1_clear_1 : List UInt8 := dkwX1_clear_1 ++ []
def dkwX1_clear_0 : List UInt8 := [42, 27, 182, 1, 78, 154, 0, 5, 2, 172, 42, 180, 0, 147, 27, 50, 182, 1, 128, 61, 42, 180, 0, 147]
abbrev dktX1_clear_0 : List UInt8 := dkwX1_clear_0 ++ dktX1_clear_1
theorem dksX1_clear_0 : cX1_clear.data.toList.drop 0 = dktX1_clear_0 := by decide +kernel
theorem dksX1_clear_1 : cX1_clear.data.toList.drop 24 = dktX1_clear_1 := dk_seg dksX1_clear_0 24 rfl rfl
theorem dX1_clear_0 : decode cX1_clear 0 = .ok (.aload_n 0, 1) := dk_42 (dk_at dksX1_clear_0 0 rfl rfl)
theorem dX1_clear_1 : decode cX1_clear 1 = .ok (.iload_n 1, 1) := dk_27 (dk_at dksX1_clear_0 1 rfl rfl)
theorem dX1_clear_2 : decode cX1_clear 2 = .ok (.invokevirtual 334, 3) := dk_182 1 78 (dk_at dksX1_clear_0 2 rfl rfl)
theorem dX1_clear_5 : decode cX1_clear 5 = .ok (.ifCond .ne 5, 3) := dk_154 0 5 (dk_at dksX1_clear_0 5 rfl rfl)
theorem dX1_clear_8 : decode cX1_clear 8 = .ok (.iconst (-1), 1) := dk_2 (dk_at dksX1_clear_0 8 rfl rfl)
theorem dX1_clear_9 : decode cX1_clear 9 = .ok (.ireturn, 1) := dk_172 (dk_at dksX1_clear_0 9 rfl rfl)
theorem dX1_clear_10 : decode cX1_clear 10 = .ok (.aload_n 0, 1) := dk_42 (dk_at dksX1_clear_0 10 rfl rfl)
theorem dX1_clear_11 : decode cX1_clear 11 = .ok (.getfield 147, 3) := dk_180 0 147 (dk_at dksX1_clear_0 11 rfl rfl)
theorem dX1_clear_14 : decode cX1_clear 14 = .ok (.iload_n 1, 1) := dk_27 (dk_at dksX1_clear_0 14 rfl rfl)
theorem dX1_clear_15 : decode cX1_clear 15 = .ok (.aaload, 1) := dk_50 (dk_at dksX1_clear_0 15 rfl rfl)
theorem dX1_clear_16 : decode cX1_clear 16 = .ok (.invokevirtual 384, 3) := dk_182 1 128 (dk_at dksX1_clear_0 16 rfl rfl)
theorem dX1_clear_19 : decode cX1_clear 19 = .ok (.istore_n 2, 1) := dk_61 (dk_at dksX1_clear_0 19 rfl rfl)
theorem dX1_clear_20 : decode cX1_clear 20 = .ok (.aload_n 0, 1) := dk_42 (dk_at dksX1_clear_0 20 rfl rfl)
theorem dX1_clear_21 : decode cX1_clear 21 = .ok (.getfield 147, 3) := dk_180 0 147 (dk_at dksX1_clear_0 21 rfl rfl)
theorem dX1_clear_24 : decode cX1_clear 24 = .ok (.iload_n 1, 1) := dk_27 (dk_at dksX1_clear_1 0 rfl rfl)
theorem dX1_clear_25 : decode cX1_clear 25 = .ok (.aaload, 1) := dk_50 (dk_at dksX1_clear_1 1 rfl rfl)
theorem dX1_clear_26 : decode cX1_clear 26 = .ok (.aconst_null, 1) := dk_1 (dk_at dksX1_clear_1 2 rfl rfl)
theorem dX1_clear_27 : decode cX1_clear 27 = .ok (.putfield 337, 3) := dk_181 1 81 (dk_at dksX1_clear_1 3 rfl rfl)
theorem dX1_clear_30 : decode cX1_clear 30 = .ok (.iload_n 2, 1) := dk_28 (dk_at dksX1_clear_1 6 rfl rfl)
theorem dX1_clear_31 : decode cX1_clear 31 = .ok (.ireturn, 1) := dk_172 (dk_at dksX1_clear_1 7 rfl rfl)
abbrev cX1_put : ByteArray := prog_1_method_57_code
def yX1_put : MethodName := ⟨RX1, "put", "(IIJ)I"⟩
def dkwX1_put_5 : List UInt8 := [182, 1, 87, 172, 4, 172]
abbrev dktX1_put_5 : List UInt8 := dkwX1_put_5 ++ []
def dkwX1_put_4 : List UInt8 := [58, 6, 42, 16, 245, 182, 1, 87, 172, 58, 6, 42, 16, 244, 182, 1, 87, 172, 58, 6, 42, 16, 243]
abbrev dktX1_put_4 : List UInt8 := dkwX1_put_4 ++ dktX1_put_5
def dkwX1_put_3 : List UInt8 := [25, 5, 192, 1, 112, 28, 33, 136, 79, 167, 0, 11, 25, 5, 192, 1, 113, 28, 33, 80, 167, 0, 30]
abbrev dktX1_put_3 : List UInt8 := dkwX1_put_3 ++ dktX1_put_4
def dkwX1_put_2 : List UInt8 := [153, 0, 16, 25, 5, 192, 1, 110, 28, 33, 136, 147, 86, 167, 0, 31, 25, 5, 193, 1, 112, 153, 0, 15]
abbrev dktX1_put_2 : List UInt8 := dkwX1_put_2 ++ dktX1_put_3
def dkwX1_put_1 : List UInt8 := [193, 1, 131, 153, 0, 16, 25, 5, 192, 1, 131, 28, 33, 136, 145, 84, 167, 0, 52, 25, 5, 193, 1, 110]
abbrev dktX1_put_1 : List UInt8 := dkwX1_put_1 ++ dktX1_put_2
def dkwX1_put_0 : List UInt8 := [42, 27, 182, 1, 78, 154, 0, 5, 2, 172, 42, 180, 0, 147, 27, 50, 180, 1, 81, 58, 5, 25, 5]
abbrev dktX1_put_0 : List UInt8 := dkwX1_put_0 ++ dktX1_put_1
theorem dksX1_put_0 : cX1_put.data.toList.drop 0 = dktX1_put_0 := by decide +kernel
theorem dksX1_put_1 : cX1_put.data.toList.drop 23 = dktX1_put_1 := dk_seg dksX1_put_0 23 rfl rfl
theorem dksX1_put_2 : cX1_put.data.toList.drop 47 = dktX1_put_2 := dk_seg dksX1_put_1 24 rfl rfl
theorem dksX1_put_3 : cX1_put.data.toList.drop 71 = dktX1_put_3 := dk_seg dksX1_put_2 24 rfl rfl
theorem dksX1_put_4 : cX1_put.data.toList.drop 94 = dktX1_put_4 := dk_seg dksX1_put_3 23 rfl rfl
theorem dksX1_put_5 : cX1_put.data.toList.drop 117 = dktX1_put_5 := dk_seg dksX1_put_4 23 rfl rfl
theorem dX1_put_0 : decode cX1_put 0 = .ok (.aload_n 0, 1) := dk_42 (dk_at dksX1_put_0 0 rfl rfl)
theorem dX1_put_1 : decode cX1_put 1 = .ok (.iload_n 1, 1) := dk_27 (dk_at dksX1_put_0 1 rfl rfl)
theorem dX1_put_2 : decode cX1_put 2 = .ok (.invokevirtual 334, 3) := dk_182 1 78 (dk_at dksX1_put_0 2 rfl rfl)
theorem dX1_put_5 : decode cX1_put 5 = .ok (.ifCond .ne 5, 3) := dk_154 0 5 (dk_at dksX1_put_0 5 rfl rfl)
theorem dX1_put_8 : decode cX1_put 8 = .ok (.iconst (-1), 1) := dk_2 (dk_at dksX1_put_0 8 rfl rfl)
theorem dX1_put_9 : decode cX1_put 9 = .ok (.ireturn, 1) := dk_172 (dk_at dksX1_put_0 9 rfl rfl)
theorem dX1_put_10 : decode cX1_put 10 = .ok (.aload_n 0, 1) := dk_42 (dk_at dksX1_put_0 10 rfl rfl)
theorem dX1_put_11 : decode cX1_put 11 = .ok (.getfield 147, 3) := dk_180 0 147 (dk_at dksX1_put_0 11 rfl rfl)
theorem dX1_put_14 : decode cX1_put 14 = .ok (.iload_n 1, 1) := dk_27 (dk_at dksX1_put_0 14 rfl rfl)
theorem dX1_put_15 : decode cX1_put 15 = .ok (.aaload, 1) := dk_50 (dk_at dksX1_put_0 15 rfl rfl)
theorem dX1_put_16 : decode cX1_put 16 = .ok (.getfield 337, 3) := dk_180 1 81 (dk_at dksX1_put_0 16 rfl rfl)
theorem dX1_put_19 : decode cX1_put 19 = .ok (.astore 5, 2) := dk_58 5 (dk_at dksX1_put_0 19 rfl rfl)
theorem dX1_put_21 : decode cX1_put 21 = .ok (.aload 5, 2) := dk_25 5 (dk_at dksX1_put_0 21 rfl rfl)
theorem dX1_put_23 : decode cX1_put 23 = .ok (.instanceof 387, 3) := dk_193 1 131 (dk_at dksX1_put_1 0 rfl rfl)
theorem dX1_put_26 : decode cX1_put 26 = .ok (.ifCond .eq 16, 3) := dk_153 0 16 (dk_at dksX1_put_1 3 rfl rfl)
theorem dX1_put_29 : decode cX1_put 29 = .ok (.aload 5, 2) := dk_25 5 (dk_at dksX1_put_1 6 rfl rfl)
theorem dX1_put_31 : decode cX1_put 31 = .ok (.checkcast 387, 3) := dk_192 1 131 (dk_at dksX1_put_1 8 rfl rfl)
theorem dX1_put_34 : decode cX1_put 34 = .ok (.iload_n 2, 1) := dk_28 (dk_at dksX1_put_1 11 rfl rfl)
theorem dX1_put_35 : decode cX1_put 35 = .ok (.lload_n 3, 1) := dk_33 (dk_at dksX1_put_1 12 rfl rfl)
theorem dX1_put_36 : decode cX1_put 36 = .ok (.l2i, 1) := dk_136 (dk_at dksX1_put_1 13 rfl rfl)
theorem dX1_put_37 : decode cX1_put 37 = .ok (.i2b, 1) := dk_145 (dk_at dksX1_put_1 14 rfl rfl)
theorem dX1_put_38 : decode cX1_put 38 = .ok (.bastore, 1) := dk_84 (dk_at dksX1_put_1 15 rfl rfl)
theorem dX1_put_39 : decode cX1_put 39 = .ok (.goto 52, 3) := dk_167 0 52 (dk_at dksX1_put_1 16 rfl rfl)
theorem dX1_put_42 : decode cX1_put 42 = .ok (.aload 5, 2) := dk_25 5 (dk_at dksX1_put_1 19 rfl rfl)
theorem dX1_put_44 : decode cX1_put 44 = .ok (.instanceof 366, 3) := dk_193 1 110 (dk_at dksX1_put_1 21 rfl rfl)
theorem dX1_put_47 : decode cX1_put 47 = .ok (.ifCond .eq 16, 3) := dk_153 0 16 (dk_at dksX1_put_2 0 rfl rfl)
theorem dX1_put_50 : decode cX1_put 50 = .ok (.aload 5, 2) := dk_25 5 (dk_at dksX1_put_2 3 rfl rfl)
theorem dX1_put_52 : decode cX1_put 52 = .ok (.checkcast 366, 3) := dk_192 1 110 (dk_at dksX1_put_2 5 rfl rfl)
theorem dX1_put_55 : decode cX1_put 55 = .ok (.iload_n 2, 1) := dk_28 (dk_at dksX1_put_2 8 rfl rfl)
theorem dX1_put_56 : decode cX1_put 56 = .ok (.lload_n 3, 1) := dk_33 (dk_at dksX1_put_2 9 rfl rfl)
theorem dX1_put_57 : decode cX1_put 57 = .ok (.l2i, 1) := dk_136 (dk_at dksX1_put_2 10 rfl rfl)
theorem dX1_put_58 : decode cX1_put 58 = .ok (.i2s, 1) := dk_147 (dk_at dksX1_put_2 11 rfl rfl)
theorem dX1_put_59 : decode cX1_put 59 = .ok (.sastore, 1) := dk_86 (dk_at dksX1_put_2 12 rfl rfl)
theorem dX1_put_60 : decode cX1_put 60 = .ok (.goto 31, 3) := dk_167 0 31 (dk_at dksX1_put_2 13 rfl rfl)
theorem dX1_put_63 : decode cX1_put 63 = .ok (.aload 5, 2) := dk_25 5 (dk_at dksX1_put_2 16 rfl rfl)
theorem dX1_put_65 : decode cX1_put 65 = .ok (.instanceof 368, 3) := dk_193 1 112 (dk_at dksX1_put_2 18 rfl rfl)
theorem dX1_put_68 : decode cX1_put 68 = .ok (.ifCond .eq 15, 3) := dk_153 0 15 (dk_at dksX1_put_2 21 rfl rfl)
theorem dX1_put_71 : decode cX1_put 71 = .ok (.aload 5, 2) := dk_25 5 (dk_at dksX1_put_3 0 rfl rfl)
theorem dX1_put_73 : decode cX1_put 73 = .ok (.checkcast 368, 3) := dk_192 1 112 (dk_at dksX1_put_3 2 rfl rfl)
theorem dX1_put_76 : decode cX1_put 76 = .ok (.iload_n 2, 1) := dk_28 (dk_at dksX1_put_3 5 rfl rfl)
theorem dX1_put_77 : decode cX1_put 77 = .ok (.lload_n 3, 1) := dk_33 (dk_at dksX1_put_3 6 rfl rfl)
theorem dX1_put_78 : decode cX1_put 78 = .ok (.l2i, 1) := dk_136 (dk_at dksX1_put_3 7 rfl rfl)
theorem dX1_put_79 : decode cX1_put 79 = .ok (.iastore, 1) := dk_79 (dk_at dksX1_put_3 8 rfl rfl)
theorem dX1_put_80 : decode cX1_put 80 = .ok (.goto 11, 3) := dk_167 0 11 (dk_at dksX1_put_3 9 rfl rfl)
theorem dX1_put_83 : decode cX1_put 83 = .ok (.aload 5, 2) := dk_25 5 (dk_at dksX1_put_3 12 rfl rfl)
theorem dX1_put_85 : decode cX1_put 85 = .ok (.checkcast 369, 3) := dk_192 1 113 (dk_at dksX1_put_3 14 rfl rfl)
theorem dX1_put_88 : decode cX1_put 88 = .ok (.iload_n 2, 1) := dk_28 (dk_at dksX1_put_3 17 rfl rfl)
theorem dX1_put_89 : decode cX1_put 89 = .ok (.lload_n 3, 1) := dk_33 (dk_at dksX1_put_3 18 rfl rfl)
theorem dX1_put_90 : decode cX1_put 90 = .ok (.lastore, 1) := dk_80 (dk_at dksX1_put_3 19 rfl rfl)
theorem dX1_put_91 : decode cX1_put 91 = .ok (.goto 30, 3) := dk_167 0 30 (dk_at dksX1_put_3 20 rfl rfl)
theorem dX1_put_94 : decode cX1_put 94 = .ok (.astore 6, 2) := dk_58 6 (dk_at dksX1_put_4 0 rfl rfl)
theorem dX1_put_96 : decode cX1_put 96 = .ok (.aload_n 0, 1) := dk_42 (dk_at dksX1_put_4 2 rfl rfl)
theorem dX1_put_97 : decode cX1_put 97 = .ok (.bipush (-11), 2) := dk_16 245 (dk_at dksX1_put_4 3 rfl rfl)
theorem dX1_put_99 : decode cX1_put 99 = .ok (.invokevirtual 343, 3) := dk_182 1 87 (dk_at dksX1_put_4 5 rfl rfl)
theorem dX1_put_102 : decode cX1_put 102 = .ok (.ireturn, 1) := dk_172 (dk_at dksX1_put_4 8 rfl rfl)
theorem dX1_put_103 : decode cX1_put 103 = .ok (.astore 6, 2) := dk_58 6 (dk_at dksX1_put_4 9 rfl rfl)
theorem dX1_put_105 : decode cX1_put 105 = .ok (.aload_n 0, 1) := dk_42 (dk_at dksX1_put_4 11 rfl rfl)
theorem dX1_put_106 : decode cX1_put 106 = .ok (.bipush (-12), 2) := dk_16 244 (dk_at dksX1_put_4 12 rfl rfl)
theorem dX1_put_108 : decode cX1_put 108 = .ok (.invokevirtual 343, 3) := dk_182 1 87 (dk_at dksX1_put_4 14 rfl rfl)
theorem dX1_put_111 : decode cX1_put 111 = .ok (.ireturn, 1) := dk_172 (dk_at dksX1_put_4 17 rfl rfl)
theorem dX1_put_112 : decode cX1_put 112 = .ok (.astore 6, 2) := dk_58 6 (dk_at dksX1_put_4 18 rfl rfl)
theorem dX1_put_114 : decode cX1_put 114 = .ok (.aload_n 0, 1) := dk_42 (dk_at dksX1_put_4 20 rfl rfl)
theorem dX1_put_115 : decode cX1_put 115 = .ok (.bipush (-13), 2) := dk_16 243 (dk_at dksX1_put_4 21 rfl rfl)
theorem dX1_put_117 : decode cX1_put 117 = .ok (.invokevirtual 343, 3) := dk_182 1 87 (dk_at dksX1_put_5 0 rfl rfl)
theorem dX1_put_120 : decode cX1_put 120 = .ok (.ireturn, 1) := dk_172 (dk_at dksX1_put_5 3 rfl rfl)
theorem dX1_put_121 : decode cX1_put 121 = .ok (.iconst 1, 1) := dk_4 (dk_at dksX1_put_5 4 rfl rfl)
theorem dX1_put_122 : decode cX1_put 122 = .ok (.ireturn, 1) := dk_172 (dk_at dksX1_put_5 5 rfl rfl)
abbrev cX1_copy : ByteArray := prog_1_method_61_code
def yX1_copy : MethodName := ⟨RX1, "copy", "(IIIII)I"⟩
def dkwX1_copy_6 : List UInt8 := [182, 1, 87, 172, 21, 5, 172]
abbrev dktX1_copy_6 : List UInt8 := dkwX1_copy_6 ++ []
def dkwX1_copy_5 : List UInt8 := [182, 1, 87, 172, 25, 6, 28, 25, 7, 21, 4, 21, 5, 184, 1, 142, 167, 0, 12, 58, 8, 42, 16, 243]
abbrev dktX1_copy_5 : List UInt8 := dkwX1_copy_5 ++ dktX1_copy_6
def dkwX1_copy_4 : List UInt8 := [180, 0, 147, 27, 50, 182, 1, 128, 25, 6, 25, 7, 184, 1, 148, 87, 167, 0, 12, 58, 8, 42, 16, 244]
abbrev dktX1_copy_4 : List UInt8 := dkwX1_copy_4 ++ dktX1_copy_5
def dkwX1_copy_3 : List UInt8 := [167, 0, 6, 178, 1, 139, 3, 3, 184, 1, 142, 167, 0, 12, 58, 8, 42, 16, 245, 182, 1, 87, 172, 42]
abbrev dktX1_copy_3 : List UInt8 := dkwX1_copy_3 ++ dktX1_copy_4
def dkwX1_copy_2 : List UInt8 := [199, 0, 45, 25, 6, 199, 0, 7, 1, 167, 0, 6, 178, 1, 139, 3, 25, 7, 199, 0, 7, 1]
abbrev dktX1_copy_2 : List UInt8 := dkwX1_copy_2 ++ dktX1_copy_3
def dkwX1_copy_1 : List UInt8 := [180, 1, 81, 58, 6, 42, 180, 0, 147, 29, 50, 180, 1, 81, 58, 7, 25, 6, 198, 0, 8, 25, 7]
abbrev dktX1_copy_1 : List UInt8 := dkwX1_copy_1 ++ dktX1_copy_2
def dkwX1_copy_0 : List UInt8 := [42, 27, 182, 1, 78, 153, 0, 11, 42, 29, 182, 1, 78, 154, 0, 5, 2, 172, 42, 180, 0, 147, 27, 50]
abbrev dktX1_copy_0 : List UInt8 := dkwX1_copy_0 ++ dktX1_copy_1
theorem dksX1_copy_0 : cX1_copy.data.toList.drop 0 = dktX1_copy_0 := by decide +kernel
theorem dksX1_copy_1 : cX1_copy.data.toList.drop 24 = dktX1_copy_1 := dk_seg dksX1_copy_0 24 rfl rfl
theorem dksX1_copy_2 : cX1_copy.data.toList.drop 47 = dktX1_copy_2 := dk_seg dksX1_copy_1 23 rfl rfl
theorem dksX1_copy_3 : cX1_copy.data.toList.drop 69 = dktX1_copy_3 := dk_seg dksX1_copy_2 22 rfl rfl
theorem dksX1_copy_4 : cX1_copy.data.toList.drop 93 = dktX1_copy_4 := dk_seg dksX1_copy_3 24 rfl rfl
theorem dksX1_copy_5 : cX1_copy.data.toList.drop 117 = dktX1_copy_5 := dk_seg dksX1_copy_4 24 rfl rfl
theorem dksX1_copy_6 : cX1_copy.data.toList.drop 141 = dktX1_copy_6 := dk_seg dksX1_copy_5 24 rfl rfl
theorem dX1_copy_0 : decode cX1_copy 0 = .ok (.aload_n 0, 1) := dk_42 (dk_at dksX1_copy_0 0 rfl rfl)
theorem dX1_copy_1 : decode cX1_copy 1 = .ok (.iload_n 1, 1) := dk_27 (dk_at dksX1_copy_0 1 rfl rfl)
theorem dX1_copy_2 : decode cX1_copy 2 = .ok (.invokevirtual 334, 3) := dk_182 1 78 (dk_at dksX1_copy_0 2 rfl rfl)
theorem dX1_copy_5 : decode cX1_copy 5 = .ok (.ifCond .eq 11, 3) := dk_153 0 11 (dk_at dksX1_copy_0 5 rfl rfl)
theorem dX1_copy_8 : decode cX1_copy 8 = .ok (.aload_n 0, 1) := dk_42 (dk_at dksX1_copy_0 8 rfl rfl)
theorem dX1_copy_9 : decode cX1_copy 9 = .ok (.iload_n 3, 1) := dk_29 (dk_at dksX1_copy_0 9 rfl rfl)
theorem dX1_copy_10 : decode cX1_copy 10 = .ok (.invokevirtual 334, 3) := dk_182 1 78 (dk_at dksX1_copy_0 10 rfl rfl)
theorem dX1_copy_13 : decode cX1_copy 13 = .ok (.ifCond .ne 5, 3) := dk_154 0 5 (dk_at dksX1_copy_0 13 rfl rfl)
theorem dX1_copy_16 : decode cX1_copy 16 = .ok (.iconst (-1), 1) := dk_2 (dk_at dksX1_copy_0 16 rfl rfl)
theorem dX1_copy_17 : decode cX1_copy 17 = .ok (.ireturn, 1) := dk_172 (dk_at dksX1_copy_0 17 rfl rfl)
theorem dX1_copy_18 : decode cX1_copy 18 = .ok (.aload_n 0, 1) := dk_42 (dk_at dksX1_copy_0 18 rfl rfl)
theorem dX1_copy_19 : decode cX1_copy 19 = .ok (.getfield 147, 3) := dk_180 0 147 (dk_at dksX1_copy_0 19 rfl rfl)
theorem dX1_copy_22 : decode cX1_copy 22 = .ok (.iload_n 1, 1) := dk_27 (dk_at dksX1_copy_0 22 rfl rfl)
theorem dX1_copy_23 : decode cX1_copy 23 = .ok (.aaload, 1) := dk_50 (dk_at dksX1_copy_0 23 rfl rfl)
theorem dX1_copy_24 : decode cX1_copy 24 = .ok (.getfield 337, 3) := dk_180 1 81 (dk_at dksX1_copy_1 0 rfl rfl)
theorem dX1_copy_27 : decode cX1_copy 27 = .ok (.astore 6, 2) := dk_58 6 (dk_at dksX1_copy_1 3 rfl rfl)
theorem dX1_copy_29 : decode cX1_copy 29 = .ok (.aload_n 0, 1) := dk_42 (dk_at dksX1_copy_1 5 rfl rfl)
theorem dX1_copy_30 : decode cX1_copy 30 = .ok (.getfield 147, 3) := dk_180 0 147 (dk_at dksX1_copy_1 6 rfl rfl)
theorem dX1_copy_33 : decode cX1_copy 33 = .ok (.iload_n 3, 1) := dk_29 (dk_at dksX1_copy_1 9 rfl rfl)
theorem dX1_copy_34 : decode cX1_copy 34 = .ok (.aaload, 1) := dk_50 (dk_at dksX1_copy_1 10 rfl rfl)
theorem dX1_copy_35 : decode cX1_copy 35 = .ok (.getfield 337, 3) := dk_180 1 81 (dk_at dksX1_copy_1 11 rfl rfl)
theorem dX1_copy_38 : decode cX1_copy 38 = .ok (.astore 7, 2) := dk_58 7 (dk_at dksX1_copy_1 14 rfl rfl)
theorem dX1_copy_40 : decode cX1_copy 40 = .ok (.aload 6, 2) := dk_25 6 (dk_at dksX1_copy_1 16 rfl rfl)
theorem dX1_copy_42 : decode cX1_copy 42 = .ok (.ifnull 8, 3) := dk_198 0 8 (dk_at dksX1_copy_1 18 rfl rfl)
theorem dX1_copy_45 : decode cX1_copy 45 = .ok (.aload 7, 2) := dk_25 7 (dk_at dksX1_copy_1 21 rfl rfl)
theorem dX1_copy_47 : decode cX1_copy 47 = .ok (.ifnonnull 45, 3) := dk_199 0 45 (dk_at dksX1_copy_2 0 rfl rfl)
theorem dX1_copy_50 : decode cX1_copy 50 = .ok (.aload 6, 2) := dk_25 6 (dk_at dksX1_copy_2 3 rfl rfl)
theorem dX1_copy_52 : decode cX1_copy 52 = .ok (.ifnonnull 7, 3) := dk_199 0 7 (dk_at dksX1_copy_2 5 rfl rfl)
theorem dX1_copy_55 : decode cX1_copy 55 = .ok (.aconst_null, 1) := dk_1 (dk_at dksX1_copy_2 8 rfl rfl)
theorem dX1_copy_56 : decode cX1_copy 56 = .ok (.goto 6, 3) := dk_167 0 6 (dk_at dksX1_copy_2 9 rfl rfl)
theorem dX1_copy_59 : decode cX1_copy 59 = .ok (.getstatic 395, 3) := dk_178 1 139 (dk_at dksX1_copy_2 12 rfl rfl)
theorem dX1_copy_62 : decode cX1_copy 62 = .ok (.iconst 0, 1) := dk_3 (dk_at dksX1_copy_2 15 rfl rfl)
theorem dX1_copy_63 : decode cX1_copy 63 = .ok (.aload 7, 2) := dk_25 7 (dk_at dksX1_copy_2 16 rfl rfl)
theorem dX1_copy_65 : decode cX1_copy 65 = .ok (.ifnonnull 7, 3) := dk_199 0 7 (dk_at dksX1_copy_2 18 rfl rfl)
theorem dX1_copy_68 : decode cX1_copy 68 = .ok (.aconst_null, 1) := dk_1 (dk_at dksX1_copy_2 21 rfl rfl)
theorem dX1_copy_69 : decode cX1_copy 69 = .ok (.goto 6, 3) := dk_167 0 6 (dk_at dksX1_copy_3 0 rfl rfl)
theorem dX1_copy_72 : decode cX1_copy 72 = .ok (.getstatic 395, 3) := dk_178 1 139 (dk_at dksX1_copy_3 3 rfl rfl)
theorem dX1_copy_75 : decode cX1_copy 75 = .ok (.iconst 0, 1) := dk_3 (dk_at dksX1_copy_3 6 rfl rfl)
theorem dX1_copy_76 : decode cX1_copy 76 = .ok (.iconst 0, 1) := dk_3 (dk_at dksX1_copy_3 7 rfl rfl)
theorem dX1_copy_77 : decode cX1_copy 77 = .ok (.invokestatic 398, 3) := dk_184 1 142 (dk_at dksX1_copy_3 8 rfl rfl)
theorem dX1_copy_80 : decode cX1_copy 80 = .ok (.goto 12, 3) := dk_167 0 12 (dk_at dksX1_copy_3 11 rfl rfl)
theorem dX1_copy_83 : decode cX1_copy 83 = .ok (.astore 8, 2) := dk_58 8 (dk_at dksX1_copy_3 14 rfl rfl)
theorem dX1_copy_85 : decode cX1_copy 85 = .ok (.aload_n 0, 1) := dk_42 (dk_at dksX1_copy_3 16 rfl rfl)
theorem dX1_copy_86 : decode cX1_copy 86 = .ok (.bipush (-11), 2) := dk_16 245 (dk_at dksX1_copy_3 17 rfl rfl)
theorem dX1_copy_88 : decode cX1_copy 88 = .ok (.invokevirtual 343, 3) := dk_182 1 87 (dk_at dksX1_copy_3 19 rfl rfl)
theorem dX1_copy_91 : decode cX1_copy 91 = .ok (.ireturn, 1) := dk_172 (dk_at dksX1_copy_3 22 rfl rfl)
theorem dX1_copy_92 : decode cX1_copy 92 = .ok (.aload_n 0, 1) := dk_42 (dk_at dksX1_copy_3 23 rfl rfl)
theorem dX1_copy_93 : decode cX1_copy 93 = .ok (.getfield 147, 3) := dk_180 0 147 (dk_at dksX1_copy_4 0 rfl rfl)
theorem dX1_copy_96 : decode cX1_copy 96 = .ok (.iload_n 1, 1) := dk_27 (dk_at dksX1_copy_4 3 rfl rfl)
theorem dX1_copy_97 : decode cX1_copy 97 = .ok (.aaload, 1) := dk_50 (dk_at dksX1_copy_4 4 rfl rfl)
theorem dX1_copy_98 : decode cX1_copy 98 = .ok (.invokevirtual 384, 3) := dk_182 1 128 (dk_at dksX1_copy_4 5 rfl rfl)
theorem dX1_copy_101 : decode cX1_copy 101 = .ok (.aload 6, 2) := dk_25 6 (dk_at dksX1_copy_4 8 rfl rfl)
theorem dX1_copy_103 : decode cX1_copy 103 = .ok (.aload 7, 2) := dk_25 7 (dk_at dksX1_copy_4 10 rfl rfl)
theorem dX1_copy_105 : decode cX1_copy 105 = .ok (.invokestatic 404, 3) := dk_184 1 148 (dk_at dksX1_copy_4 12 rfl rfl)
theorem dX1_copy_108 : decode cX1_copy 108 = .ok (.pop, 1) := dk_87 (dk_at dksX1_copy_4 15 rfl rfl)
theorem dX1_copy_109 : decode cX1_copy 109 = .ok (.goto 12, 3) := dk_167 0 12 (dk_at dksX1_copy_4 16 rfl rfl)
theorem dX1_copy_112 : decode cX1_copy 112 = .ok (.astore 8, 2) := dk_58 8 (dk_at dksX1_copy_4 19 rfl rfl)
theorem dX1_copy_114 : decode cX1_copy 114 = .ok (.aload_n 0, 1) := dk_42 (dk_at dksX1_copy_4 21 rfl rfl)
theorem dX1_copy_115 : decode cX1_copy 115 = .ok (.bipush (-12), 2) := dk_16 244 (dk_at dksX1_copy_4 22 rfl rfl)
theorem dX1_copy_117 : decode cX1_copy 117 = .ok (.invokevirtual 343, 3) := dk_182 1 87 (dk_at dksX1_copy_5 0 rfl rfl)
theorem dX1_copy_120 : decode cX1_copy 120 = .ok (.ireturn, 1) := dk_172 (dk_at dksX1_copy_5 3 rfl rfl)
theorem dX1_copy_121 : decode cX1_copy 121 = .ok (.aload 6, 2) := dk_25 6 (dk_at dksX1_copy_5 4 rfl rfl)
theorem dX1_copy_123 : decode cX1_copy 123 = .ok (.iload_n 2, 1) := dk_28 (dk_at dksX1_copy_5 6 rfl rfl)
theorem dX1_copy_124 : decode cX1_copy 124 = .ok (.aload 7, 2) := dk_25 7 (dk_at dksX1_copy_5 7 rfl rfl)
theorem dX1_copy_126 : decode cX1_copy 126 = .ok (.iload 4, 2) := dk_21 4 (dk_at dksX1_copy_5 9 rfl rfl)
theorem dX1_copy_128 : decode cX1_copy 128 = .ok (.iload 5, 2) := dk_21 5 (dk_at dksX1_copy_5 11 rfl rfl)
theorem dX1_copy_130 : decode cX1_copy 130 = .ok (.invokestatic 398, 3) := dk_184 1 142 (dk_at dksX1_copy_5 13 rfl rfl)
theorem dX1_copy_133 : decode cX1_copy 133 = .ok (.goto 12, 3) := dk_167 0 12 (dk_at dksX1_copy_5 16 rfl rfl)
theorem dX1_copy_136 : decode cX1_copy 136 = .ok (.astore 8, 2) := dk_58 8 (dk_at dksX1_copy_5 19 rfl rfl)
theorem dX1_copy_138 : decode cX1_copy 138 = .ok (.aload_n 0, 1) := dk_42 (dk_at dksX1_copy_5 21 rfl rfl)
theorem dX1_copy_139 : decode cX1_copy 139 = .ok (.bipush (-13), 2) := dk_16 243 (dk_at dksX1_copy_5 22 rfl rfl)
theorem dX1_copy_141 : decode cX1_copy 141 = .ok (.invokevirtual 343, 3) := dk_182 1 87 (dk_at dksX1_copy_6 0 rfl rfl)
theorem dX1_copy_144 : decode cX1_copy 144 = .ok (.ireturn, 1) := dk_172 (dk_at dksX1_copy_6 3 rfl rfl)
theorem dX1_copy_145 : decode cX1_copy 145 = .ok (.iload 5, 2) := dk_21 5 (dk_at dksX1_copy_6 4 rfl rfl)
theorem dX1_copy_147 : decode cX1_copy 147 = .ok (.ireturn, 1) := dk_172 (dk_at dksX1_copy_6 6 rfl rfl)
abbrev cX1_mate : ByteArray := prog_1_method_60_code
def yX1_mate : MethodName := ⟨RX1, "mate", "(ILjava/lang/Object;Ljava/lang/Object;)I"⟩
def dkwX1_mate_1 : List UInt8 := [160, 0, 9, 44, 192, 1, 112, 190, 172, 43, 192, 1, 113, 190, 44, 192, 1, 113, 190, 96, 172]
abbrev dktX1_mate_1 : List UInt8 := dkwX1_mate_1 ++ []
def dkwX1_mate_0 : List UInt8 := [26, 4, 160, 0, 9, 44, 192, 1, 131, 190, 172, 26, 5, 160, 0, 9, 44, 192, 1, 110, 190, 172, 26, 6]
abbrev dktX1_mate_0 : List UInt8 := dkwX1_mate_0 ++ dktX1_mate_1
theorem dksX1_mate_0 : cX1_mate.data.toList.drop 0 = dktX1_mate_0 := by decide +kernel
theorem dksX1_mate_1 : cX1_mate.data.toList.drop 24 = dktX1_mate_1 := dk_seg dksX1_mate_0 24 rfl rfl
theorem dX1_mate_0 : decode cX1_mate 0 = .ok (.iload_n 0, 1) := dk_26 (dk_at dksX1_mate_0 0 rfl rfl)
theorem dX1_mate_1 : decode cX1_mate 1 = .ok (.iconst 1, 1) := dk_4 (dk_at dksX1_mate_0 1 rfl rfl)
theorem dX1_mate_2 : decode cX1_mate 2 = .ok (.if_icmp .ne 9, 3) := dk_160 0 9 (dk_at dksX1_mate_0 2 rfl rfl)
theorem dX1_mate_5 : decode cX1_mate 5 = .ok (.aload_n 2, 1) := dk_44 (dk_at dksX1_mate_0 5 rfl rfl)
theorem dX1_mate_6 : decode cX1_mate 6 = .ok (.checkcast 387, 3) := dk_192 1 131 (dk_at dksX1_mate_0 6 rfl rfl)
theorem dX1_mate_9 : decode cX1_mate 9 = .ok (.arraylength, 1) := dk_190 (dk_at dksX1_mate_0 9 rfl rfl)
theorem dX1_mate_10 : decode cX1_mate 10 = .ok (.ireturn, 1) := dk_172 (dk_at dksX1_mate_0 10 rfl rfl)
theorem dX1_mate_11 : decode cX1_mate 11 = .ok (.iload_n 0, 1) := dk_26 (dk_at dksX1_mate_0 11 rfl rfl)
theorem dX1_mate_12 : decode cX1_mate 12 = .ok (.iconst 2, 1) := dk_5 (dk_at dksX1_mate_0 12 rfl rfl)
theorem dX1_mate_13 : decode cX1_mate 13 = .ok (.if_icmp .ne 9, 3) := dk_160 0 9 (dk_at dksX1_mate_0 13 rfl rfl)
theorem dX1_mate_16 : decode cX1_mate 16 = .ok (.aload_n 2, 1) := dk_44 (dk_at dksX1_mate_0 16 rfl rfl)
theorem dX1_mate_17 : decode cX1_mate 17 = .ok (.checkcast 366, 3) := dk_192 1 110 (dk_at dksX1_mate_0 17 rfl rfl)
theorem dX1_mate_20 : decode cX1_mate 20 = .ok (.arraylength, 1) := dk_190 (dk_at dksX1_mate_0 20 rfl rfl)
theorem dX1_mate_21 : decode cX1_mate 21 = .ok (.ireturn, 1) := dk_172 (dk_at dksX1_mate_0 21 rfl rfl)
theorem dX1_mate_22 : decode cX1_mate 22 = .ok (.iload_n 0, 1) := dk_26 (dk_at dksX1_mate_0 22 rfl rfl)
theorem dX1_mate_23 : decode cX1_mate 23 = .ok (.iconst 3, 1) := dk_6 (dk_at dksX1_mate_0 23 rfl rfl)
theorem dX1_mate_24 : decode cX1_mate 24 = .ok (.if_icmp .ne 9, 3) := dk_160 0 9 (dk_at dksX1_mate_1 0 rfl rfl)
theorem dX1_mate_27 : decode cX1_mate 27 = .ok (.aload_n 2, 1) := dk_44 (dk_at dksX1_mate_1 3 rfl rfl)
theorem dX1_mate_28 : decode cX1_mate 28 = .ok (.checkcast 368, 3) := dk_192 1 112 (dk_at dksX1_mate_1 4 rfl rfl)
theorem dX1_mate_31 : decode cX1_mate 31 = .ok (.arraylength, 1) := dk_190 (dk_at dksX1_mate_1 7 rfl rfl)
theorem dX1_mate_32 : decode cX1_mate 32 = .ok (.ireturn, 1) := dk_172 (dk_at dksX1_mate_1 8 rfl rfl)
theorem dX1_mate_33 : decode cX1_mate 33 = .ok (.aload_n 1, 1) := dk_43 (dk_at dksX1_mate_1 9 rfl rfl)
theorem dX1_mate_34 : decode cX1_mate 34 = .ok (.checkcast 369, 3) := dk_192 1 113 (dk_at dksX1_mate_1 10 rfl rfl)
theorem dX1_mate_37 : decode cX1_mate 37 = .ok (.arraylength, 1) := dk_190 (dk_at dksX1_mate_1 13 rfl rfl)
theorem dX1_mate_38 : decode cX1_mate 38 = .ok (.aload_n 2, 1) := dk_44 (dk_at dksX1_mate_1 14 rfl rfl)
theorem dX1_mate_39 : decode cX1_mate 39 = .ok (.checkcast 369, 3) := dk_192 1 113 (dk_at dksX1_mate_1 15 rfl rfl)
theorem dX1_mate_42 : decode cX1_mate 42 = .ok (.arraylength, 1) := dk_190 (dk_at dksX1_mate_1 18 rfl rfl)
theorem dX1_mate_43 : decode cX1_mate 43 = .ok (.iadd, 1) := dk_96 (dk_at dksX1_mate_1 19 rfl rfl)
theorem dX1_mate_44 : decode cX1_mate 44 = .ok (.ireturn, 1) := dk_172 (dk_at dksX1_mate_1 20 rfl rfl)
abbrev cX1_count : ByteArray := prog_1_method_62_code
def yX1_count : MethodName := ⟨RX1, "count", "(I)I"⟩
def dkwX1_count_5 : List UInt8 := [46, 172, 2, 172]
abbrev dktX1_count_5 : List UInt8 := dkwX1_count_5 ++ []
def dkwX1_count_4 : List UInt8 := [180, 0, 190, 172, 27, 16, 20, 161, 0, 19, 27, 16, 24, 162, 0, 13, 42, 180, 0, 92, 27, 16, 20, 100]
abbrev dktX1_count_4 : List UInt8 := dkwX1_count_4 ++ dktX1_count_5
def dkwX1_count_3 : List UInt8 := [161, 0, 27, 27, 16, 10, 100, 42, 180, 0, 164, 162, 0, 16, 42, 180, 0, 97, 27, 16, 10, 100, 50]
abbrev dktX1_count_3 : List UInt8 := dkwX1_count_3 ++ dktX1_count_4
def dkwX1_count_2 : List UInt8 := [42, 180, 0, 160, 172, 42, 180, 0, 164, 172, 42, 180, 0, 167, 172, 42, 180, 0, 178, 172, 27, 16, 10]
abbrev dktX1_count_2 : List UInt8 := dkwX1_count_2 ++ dktX1_count_3
def dkwX1_count_1 : List UInt8 := [170, 0, 0, 0, 0, 0, 51, 0, 0, 0, 0, 0, 0, 0, 3, 0, 0, 0, 31, 0, 0, 0, 36, 0, 0, 0, 41, 0, 0, 0, 46]
abbrev dktX1_count_1 : List UInt8 := dkwX1_count_1 ++ dktX1_count_2
def dkwX1_count_0 : List UInt8 := [27]
abbrev dktX1_count_0 : List UInt8 := dkwX1_count_0 ++ dktX1_count_1
theorem dksX1_count_0 : cX1_count.data.toList.drop 0 = dktX1_count_0 := by decide +kernel
theorem dksX1_count_1 : cX1_count.data.toList.drop 1 = dktX1_count_1 := dk_seg dksX1_count_0 1 rfl rfl
theorem dksX1_count_2 : cX1_count.data.toList.drop 32 = dktX1_count_2 := dk_seg dksX1_count_1 31 rfl rfl
theorem dksX1_count_3 : cX1_count.data.toList.drop 55 = dktX1_count_3 := dk_seg dksX1_count_2 23 rfl rfl
theorem dksX1_count_4 : cX1_count.data.toList.drop 78 = dktX1_count_4 := dk_seg dksX1_count_3 23 rfl rfl
theorem dksX1_count_5 : cX1_count.data.toList.drop 102 = dktX1_count_5 := dk_seg dksX1_count_4 24 rfl rfl
theorem dX1_count_0 : decode cX1_count 0 = .ok (.iload_n 1, 1) := dk_27 (dk_at dksX1_count_0 0 rfl rfl)
theorem dX1_count_1 : decode cX1_count 1 = .ok (.tableswitch 51 0 3 #[31, 36, 41, 46], 31) := by decide +kernel
theorem dX1_count_32 : decode cX1_count 32 = .ok (.aload_n 0, 1) := dk_42 (dk_at dksX1_count_2 0 rfl rfl)
theorem dX1_count_33 : decode cX1_count 33 = .ok (.getfield 160, 3) := dk_180 0 160 (dk_at dksX1_count_2 1 rfl rfl)
theorem dX1_count_36 : decode cX1_count 36 = .ok (.ireturn, 1) := dk_172 (dk_at dksX1_count_2 4 rfl rfl)
theorem dX1_count_37 : decode cX1_count 37 = .ok (.aload_n 0, 1) := dk_42 (dk_at dksX1_count_2 5 rfl rfl)
theorem dX1_count_38 : decode cX1_count 38 = .ok (.getfield 164, 3) := dk_180 0 164 (dk_at dksX1_count_2 6 rfl rfl)
theorem dX1_count_41 : decode cX1_count 41 = .ok (.ireturn, 1) := dk_172 (dk_at dksX1_count_2 9 rfl rfl)
theorem dX1_count_42 : decode cX1_count 42 = .ok (.aload_n 0, 1) := dk_42 (dk_at dksX1_count_2 10 rfl rfl)
theorem dX1_count_43 : decode cX1_count 43 = .ok (.getfield 167, 3) := dk_180 0 167 (dk_at dksX1_count_2 11 rfl rfl)
theorem dX1_count_46 : decode cX1_count 46 = .ok (.ireturn, 1) := dk_172 (dk_at dksX1_count_2 14 rfl rfl)
theorem dX1_count_47 : decode cX1_count 47 = .ok (.aload_n 0, 1) := dk_42 (dk_at dksX1_count_2 15 rfl rfl)
theorem dX1_count_48 : decode cX1_count 48 = .ok (.getfield 178, 3) := dk_180 0 178 (dk_at dksX1_count_2 16 rfl rfl)
theorem dX1_count_51 : decode cX1_count 51 = .ok (.ireturn, 1) := dk_172 (dk_at dksX1_count_2 19 rfl rfl)
theorem dX1_count_52 : decode cX1_count 52 = .ok (.iload_n 1, 1) := dk_27 (dk_at dksX1_count_2 20 rfl rfl)
theorem dX1_count_53 : decode cX1_count 53 = .ok (.bipush 10, 2) := dk_16 10 (dk_at dksX1_count_2 21 rfl rfl)
theorem dX1_count_55 : decode cX1_count 55 = .ok (.if_icmp .lt 27, 3) := dk_161 0 27 (dk_at dksX1_count_3 0 rfl rfl)
theorem dX1_count_58 : decode cX1_count 58 = .ok (.iload_n 1, 1) := dk_27 (dk_at dksX1_count_3 3 rfl rfl)
theorem dX1_count_59 : decode cX1_count 59 = .ok (.bipush 10, 2) := dk_16 10 (dk_at dksX1_count_3 4 rfl rfl)
theorem dX1_count_61 : decode cX1_count 61 = .ok (.isub, 1) := dk_100 (dk_at dksX1_count_3 6 rfl rfl)
theorem dX1_count_62 : decode cX1_count 62 = .ok (.aload_n 0, 1) := dk_42 (dk_at dksX1_count_3 7 rfl rfl)
theorem dX1_count_63 : decode cX1_count 63 = .ok (.getfield 164, 3) := dk_180 0 164 (dk_at dksX1_count_3 8 rfl rfl)
theorem dX1_count_66 : decode cX1_count 66 = .ok (.if_icmp .ge 16, 3) := dk_162 0 16 (dk_at dksX1_count_3 11 rfl rfl)
theorem dX1_count_69 : decode cX1_count 69 = .ok (.aload_n 0, 1) := dk_42 (dk_at dksX1_count_3 14 rfl rfl)
theorem dX1_count_70 : decode cX1_count 70 = .ok (.getfield 97, 3) := dk_180 0 97 (dk_at dksX1_count_3 15 rfl rfl)
theorem dX1_count_73 : decode cX1_count 73 = .ok (.iload_n 1, 1) := dk_27 (dk_at dksX1_count_3 18 rfl rfl)
theorem dX1_count_74 : decode cX1_count 74 = .ok (.bipush 10, 2) := dk_16 10 (dk_at dksX1_count_3 19 rfl rfl)
theorem dX1_count_76 : decode cX1_count 76 = .ok (.isub, 1) := dk_100 (dk_at dksX1_count_3 21 rfl rfl)
theorem dX1_count_77 : decode cX1_count 77 = .ok (.aaload, 1) := dk_50 (dk_at dksX1_count_3 22 rfl rfl)
theorem dX1_count_78 : decode cX1_count 78 = .ok (.getfield 190, 3) := dk_180 0 190 (dk_at dksX1_count_4 0 rfl rfl)
theorem dX1_count_81 : decode cX1_count 81 = .ok (.ireturn, 1) := dk_172 (dk_at dksX1_count_4 3 rfl rfl)
theorem dX1_count_82 : decode cX1_count 82 = .ok (.iload_n 1, 1) := dk_27 (dk_at dksX1_count_4 4 rfl rfl)
theorem dX1_count_83 : decode cX1_count 83 = .ok (.bipush 20, 2) := dk_16 20 (dk_at dksX1_count_4 5 rfl rfl)
theorem dX1_count_85 : decode cX1_count 85 = .ok (.if_icmp .lt 19, 3) := dk_161 0 19 (dk_at dksX1_count_4 7 rfl rfl)
theorem dX1_count_88 : decode cX1_count 88 = .ok (.iload_n 1, 1) := dk_27 (dk_at dksX1_count_4 10 rfl rfl)
theorem dX1_count_89 : decode cX1_count 89 = .ok (.bipush 24, 2) := dk_16 24 (dk_at dksX1_count_4 11 rfl rfl)
theorem dX1_count_91 : decode cX1_count 91 = .ok (.if_icmp .ge 13, 3) := dk_162 0 13 (dk_at dksX1_count_4 13 rfl rfl)
theorem dX1_count_94 : decode cX1_count 94 = .ok (.aload_n 0, 1) := dk_42 (dk_at dksX1_count_4 16 rfl rfl)
theorem dX1_count_95 : decode cX1_count 95 = .ok (.getfield 92, 3) := dk_180 0 92 (dk_at dksX1_count_4 17 rfl rfl)
theorem dX1_count_98 : decode cX1_count 98 = .ok (.iload_n 1, 1) := dk_27 (dk_at dksX1_count_4 20 rfl rfl)
theorem dX1_count_99 : decode cX1_count 99 = .ok (.bipush 20, 2) := dk_16 20 (dk_at dksX1_count_4 21 rfl rfl)
theorem dX1_count_101 : decode cX1_count 101 = .ok (.isub, 1) := dk_100 (dk_at dksX1_count_4 23 rfl rfl)
theorem dX1_count_102 : decode cX1_count 102 = .ok (.iaload, 1) := dk_46 (dk_at dksX1_count_5 0 rfl rfl)
theorem dX1_count_103 : decode cX1_count 103 = .ok (.ireturn, 1) := dk_172 (dk_at dksX1_count_5 1 rfl rfl)
theorem dX1_count_104 : decode cX1_count 104 = .ok (.iconst (-1), 1) := dk_2 (dk_at dksX1_count_5 2 rfl rfl)
theorem dX1_count_105 : decode cX1_count 105 = .ok (.ireturn, 1) := dk_172 (dk_at dksX1_count_5 3 rfl rfl)
abbrev cX1_account : ByteArray := prog_1_method_27_code
def yX1_account : MethodName := ⟨RX1, "account", "(I)J"⟩
def dkwX1_account_1 : List UInt8 := [173]
abbrev dktX1_account_1 : List UInt8 := dkwX1_account_1 ++ []
def dkwX1_account_0 : List UInt8 := [27, 155, 0, 9, 27, 16, 7, 164, 0, 11, 187, 0, 251, 89, 183, 0, 253, 191, 42, 180, 0, 101, 27, 47]
abbrev dktX1_account_0 : List UInt8 := dkwX1_account_0 ++ dktX1_account_1
theorem dksX1_account_0 : cX1_account.data.toList.drop 0 = dktX1_account_0 := by decide +kernel
theorem dksX1_account_1 : cX1_account.data.toList.drop 24 = dktX1_account_1 := dk_seg dksX1_account_0 24 rfl rfl
theorem dX1_account_0 : decode cX1_account 0 = .ok (.iload_n 1, 1) := dk_27 (dk_at dksX1_account_0 0 rfl rfl)
theorem dX1_account_1 : decode cX1_account 1 = .ok (.ifCond .lt 9, 3) := dk_155 0 9 (dk_at dksX1_account_0 1 rfl rfl)
theorem dX1_account_4 : decode cX1_account 4 = .ok (.iload_n 1, 1) := dk_27 (dk_at dksX1_account_0 4 rfl rfl)
theorem dX1_account_5 : decode cX1_account 5 = .ok (.bipush 7, 2) := dk_16 7 (dk_at dksX1_account_0 5 rfl rfl)
theorem dX1_account_7 : decode cX1_account 7 = .ok (.if_icmp .le 11, 3) := dk_164 0 11 (dk_at dksX1_account_0 7 rfl rfl)
theorem dX1_account_10 : decode cX1_account 10 = .ok (.new 251, 3) := dk_187 0 251 (dk_at dksX1_account_0 10 rfl rfl)
theorem dX1_account_13 : decode cX1_account 13 = .ok (.dup, 1) := dk_89 (dk_at dksX1_account_0 13 rfl rfl)
theorem dX1_account_14 : decode cX1_account 14 = .ok (.invokespecial 253, 3) := dk_183 0 253 (dk_at dksX1_account_0 14 rfl rfl)
theorem dX1_account_17 : decode cX1_account 17 = .ok (.athrow, 1) := dk_191 (dk_at dksX1_account_0 17 rfl rfl)
theorem dX1_account_18 : decode cX1_account 18 = .ok (.aload_n 0, 1) := dk_42 (dk_at dksX1_account_0 18 rfl rfl)
theorem dX1_account_19 : decode cX1_account 19 = .ok (.getfield 101, 3) := dk_180 0 101 (dk_at dksX1_account_0 19 rfl rfl)
theorem dX1_account_22 : decode cX1_account 22 = .ok (.iload_n 1, 1) := dk_27 (dk_at dksX1_account_0 22 rfl rfl)
theorem dX1_account_23 : decode cX1_account 23 = .ok (.laload, 1) := dk_47 (dk_at dksX1_account_0 23 rfl rfl)
theorem dX1_account_24 : decode cX1_account 24 = .ok (.lreturn, 1) := dk_173 (dk_at dksX1_account_1 0 rfl rfl)
abbrev cX1_slot : ByteArray := prog_1_method_28_code
def yX1_slot : MethodName := ⟨RX1, "slot", "(II)J"⟩
def dkwX1_slot_3 : List UInt8 := [153, 0, 7, 10, 167, 0, 4, 9, 173]
abbrev dktX1_slot_3 : List UInt8 := dkwX1_slot_3 ++ []
def dkwX1_slot_2 : List UInt8 := [160, 0, 15, 42, 180, 0, 108, 180, 1, 1, 27, 47, 167, 0, 20, 42, 180, 0, 108, 180, 1, 4, 27, 51]
abbrev dktX1_slot_2 : List UInt8 := dkwX1_slot_2 ++ dktX1_slot_3
def dkwX1_slot_1 : List UInt8 := [183, 0, 253, 191, 28, 154, 0, 15, 42, 180, 0, 108, 180, 0, 254, 27, 47, 167, 0, 37, 28, 4]
abbrev dktX1_slot_1 : List UInt8 := dkwX1_slot_1 ++ dktX1_slot_2
def dkwX1_slot_0 : List UInt8 := [27, 155, 0, 18, 27, 16, 7, 163, 0, 12, 28, 155, 0, 8, 28, 5, 164, 0, 11, 187, 0, 251, 89]
abbrev dktX1_slot_0 : List UInt8 := dkwX1_slot_0 ++ dktX1_slot_1
theorem dksX1_slot_0 : cX1_slot.data.toList.drop 0 = dktX1_slot_0 := by decide +kernel
theorem dksX1_slot_1 : cX1_slot.data.toList.drop 23 = dktX1_slot_1 := dk_seg dksX1_slot_0 23 rfl rfl
theorem dksX1_slot_2 : cX1_slot.data.toList.drop 45 = dktX1_slot_2 := dk_seg dksX1_slot_1 22 rfl rfl
theorem dksX1_slot_3 : cX1_slot.data.toList.drop 69 = dktX1_slot_3 := dk_seg dksX1_slot_2 24 rfl rfl
theorem dX1_slot_0 : decode cX1_slot 0 = .ok (.iload_n 1, 1) := dk_27 (dk_at dksX1_slot_0 0 rfl rfl)
theorem dX1_slot_1 : decode cX1_slot 1 = .ok (.ifCond .lt 18, 3) := dk_155 0 18 (dk_at dksX1_slot_0 1 rfl rfl)
theorem dX1_slot_4 : decode cX1_slot 4 = .ok (.iload_n 1, 1) := dk_27 (dk_at dksX1_slot_0 4 rfl rfl)
theorem dX1_slot_5 : decode cX1_slot 5 = .ok (.bipush 7, 2) := dk_16 7 (dk_at dksX1_slot_0 5 rfl rfl)
theorem dX1_slot_7 : decode cX1_slot 7 = .ok (.if_icmp .gt 12, 3) := dk_163 0 12 (dk_at dksX1_slot_0 7 rfl rfl)
theorem dX1_slot_10 : decode cX1_slot 10 = .ok (.iload_n 2, 1) := dk_28 (dk_at dksX1_slot_0 10 rfl rfl)
theorem dX1_slot_11 : decode cX1_slot 11 = .ok (.ifCond .lt 8, 3) := dk_155 0 8 (dk_at dksX1_slot_0 11 rfl rfl)
theorem dX1_slot_14 : decode cX1_slot 14 = .ok (.iload_n 2, 1) := dk_28 (dk_at dksX1_slot_0 14 rfl rfl)
theorem dX1_slot_15 : decode cX1_slot 15 = .ok (.iconst 2, 1) := dk_5 (dk_at dksX1_slot_0 15 rfl rfl)
theorem dX1_slot_16 : decode cX1_slot 16 = .ok (.if_icmp .le 11, 3) := dk_164 0 11 (dk_at dksX1_slot_0 16 rfl rfl)
theorem dX1_slot_19 : decode cX1_slot 19 = .ok (.new 251, 3) := dk_187 0 251 (dk_at dksX1_slot_0 19 rfl rfl)
theorem dX1_slot_22 : decode cX1_slot 22 = .ok (.dup, 1) := dk_89 (dk_at dksX1_slot_0 22 rfl rfl)
theorem dX1_slot_23 : decode cX1_slot 23 = .ok (.invokespecial 253, 3) := dk_183 0 253 (dk_at dksX1_slot_1 0 rfl rfl)
theorem dX1_slot_26 : decode cX1_slot 26 = .ok (.athrow, 1) := dk_191 (dk_at dksX1_slot_1 3 rfl rfl)
theorem dX1_slot_27 : decode cX1_slot 27 = .ok (.iload_n 2, 1) := dk_28 (dk_at dksX1_slot_1 4 rfl rfl)
theorem dX1_slot_28 : decode cX1_slot 28 = .ok (.ifCond .ne 15, 3) := dk_154 0 15 (dk_at dksX1_slot_1 5 rfl rfl)
theorem dX1_slot_31 : decode cX1_slot 31 = .ok (.aload_n 0, 1) := dk_42 (dk_at dksX1_slot_1 8 rfl rfl)
theorem dX1_slot_32 : decode cX1_slot 32 = .ok (.getfield 108, 3) := dk_180 0 108 (dk_at dksX1_slot_1 9 rfl rfl)
theorem dX1_slot_35 : decode cX1_slot 35 = .ok (.getfield 254, 3) := dk_180 0 254 (dk_at dksX1_slot_1 12 rfl rfl)
theorem dX1_slot_38 : decode cX1_slot 38 = .ok (.iload_n 1, 1) := dk_27 (dk_at dksX1_slot_1 15 rfl rfl)
theorem dX1_slot_39 : decode cX1_slot 39 = .ok (.laload, 1) := dk_47 (dk_at dksX1_slot_1 16 rfl rfl)
theorem dX1_slot_40 : decode cX1_slot 40 = .ok (.goto 37, 3) := dk_167 0 37 (dk_at dksX1_slot_1 17 rfl rfl)
theorem dX1_slot_43 : decode cX1_slot 43 = .ok (.iload_n 2, 1) := dk_28 (dk_at dksX1_slot_1 20 rfl rfl)
theorem dX1_slot_44 : decode cX1_slot 44 = .ok (.iconst 1, 1) := dk_4 (dk_at dksX1_slot_1 21 rfl rfl)
theorem dX1_slot_45 : decode cX1_slot 45 = .ok (.if_icmp .ne 15, 3) := dk_160 0 15 (dk_at dksX1_slot_2 0 rfl rfl)
theorem dX1_slot_48 : decode cX1_slot 48 = .ok (.aload_n 0, 1) := dk_42 (dk_at dksX1_slot_2 3 rfl rfl)
theorem dX1_slot_49 : decode cX1_slot 49 = .ok (.getfield 108, 3) := dk_180 0 108 (dk_at dksX1_slot_2 4 rfl rfl)
theorem dX1_slot_52 : decode cX1_slot 52 = .ok (.getfield 257, 3) := dk_180 1 1 (dk_at dksX1_slot_2 7 rfl rfl)
theorem dX1_slot_55 : decode cX1_slot 55 = .ok (.iload_n 1, 1) := dk_27 (dk_at dksX1_slot_2 10 rfl rfl)
theorem dX1_slot_56 : decode cX1_slot 56 = .ok (.laload, 1) := dk_47 (dk_at dksX1_slot_2 11 rfl rfl)
theorem dX1_slot_57 : decode cX1_slot 57 = .ok (.goto 20, 3) := dk_167 0 20 (dk_at dksX1_slot_2 12 rfl rfl)
theorem dX1_slot_60 : decode cX1_slot 60 = .ok (.aload_n 0, 1) := dk_42 (dk_at dksX1_slot_2 15 rfl rfl)
theorem dX1_slot_61 : decode cX1_slot 61 = .ok (.getfield 108, 3) := dk_180 0 108 (dk_at dksX1_slot_2 16 rfl rfl)
theorem dX1_slot_64 : decode cX1_slot 64 = .ok (.getfield 260, 3) := dk_180 1 4 (dk_at dksX1_slot_2 19 rfl rfl)
theorem dX1_slot_67 : decode cX1_slot 67 = .ok (.iload_n 1, 1) := dk_27 (dk_at dksX1_slot_2 22 rfl rfl)
theorem dX1_slot_68 : decode cX1_slot 68 = .ok (.baload, 1) := dk_51 (dk_at dksX1_slot_2 23 rfl rfl)
theorem dX1_slot_69 : decode cX1_slot 69 = .ok (.ifCond .eq 7, 3) := dk_153 0 7 (dk_at dksX1_slot_3 0 rfl rfl)
theorem dX1_slot_72 : decode cX1_slot 72 = .ok (.lconst 1, 1) := dk_10 (dk_at dksX1_slot_3 3 rfl rfl)
theorem dX1_slot_73 : decode cX1_slot 73 = .ok (.goto 4, 3) := dk_167 0 4 (dk_at dksX1_slot_3 4 rfl rfl)
theorem dX1_slot_76 : decode cX1_slot 76 = .ok (.lconst 0, 1) := dk_9 (dk_at dksX1_slot_3 7 rfl rfl)
theorem dX1_slot_77 : decode cX1_slot 77 = .ok (.lreturn, 1) := dk_173 (dk_at dksX1_slot_3 8 rfl rfl)
abbrev cX1_part : ByteArray := prog_1_method_29_code
def yX1_part : MethodName := ⟨RX1, "part", "(I)J"⟩
def dkwX1_part_1 : List UInt8 := [180, 1, 8, 27, 47, 173]
abbrev dktX1_part_1 : List UInt8 := dkwX1_part_1 ++ []
def dkwX1_part_0 : List UInt8 := [27, 155, 0, 9, 27, 16, 7, 164, 0, 11, 187, 0, 251, 89, 183, 0, 253, 191, 42, 180, 0, 108]
abbrev dktX1_part_0 : List UInt8 := dkwX1_part_0 ++ dktX1_part_1
theorem dksX1_part_0 : cX1_part.data.toList.drop 0 = dktX1_part_0 := by decide +kernel
theorem dksX1_part_1 : cX1_part.data.toList.drop 22 = dktX1_part_1 := dk_seg dksX1_part_0 22 rfl rfl
theorem dX1_part_0 : decode cX1_part 0 = .ok (.iload_n 1, 1) := dk_27 (dk_at dksX1_part_0 0 rfl rfl)
theorem dX1_part_1 : decode cX1_part 1 = .ok (.ifCond .lt 9, 3) := dk_155 0 9 (dk_at dksX1_part_0 1 rfl rfl)
theorem dX1_part_4 : decode cX1_part 4 = .ok (.iload_n 1, 1) := dk_27 (dk_at dksX1_part_0 4 rfl rfl)
theorem dX1_part_5 : decode cX1_part 5 = .ok (.bipush 7, 2) := dk_16 7 (dk_at dksX1_part_0 5 rfl rfl)
theorem dX1_part_7 : decode cX1_part 7 = .ok (.if_icmp .le 11, 3) := dk_164 0 11 (dk_at dksX1_part_0 7 rfl rfl)
theorem dX1_part_10 : decode cX1_part 10 = .ok (.new 251, 3) := dk_187 0 251 (dk_at dksX1_part_0 10 rfl rfl)
theorem dX1_part_13 : decode cX1_part 13 = .ok (.dup, 1) := dk_89 (dk_at dksX1_part_0 13 rfl rfl)
theorem dX1_part_14 : decode cX1_part 14 = .ok (.invokespecial 253, 3) := dk_183 0 253 (dk_at dksX1_part_0 14 rfl rfl)
theorem dX1_part_17 : decode cX1_part 17 = .ok (.athrow, 1) := dk_191 (dk_at dksX1_part_0 17 rfl rfl)
theorem dX1_part_18 : decode cX1_part 18 = .ok (.aload_n 0, 1) := dk_42 (dk_at dksX1_part_0 18 rfl rfl)
theorem dX1_part_19 : decode cX1_part 19 = .ok (.getfield 108, 3) := dk_180 0 108 (dk_at dksX1_part_0 19 rfl rfl)
theorem dX1_part_22 : decode cX1_part 22 = .ok (.getfield 264, 3) := dk_180 1 8 (dk_at dksX1_part_1 0 rfl rfl)
theorem dX1_part_25 : decode cX1_part 25 = .ok (.iload_n 1, 1) := dk_27 (dk_at dksX1_part_1 3 rfl rfl)
theorem dX1_part_26 : decode cX1_part 26 = .ok (.laload, 1) := dk_47 (dk_at dksX1_part_1 4 rfl rfl)
theorem dX1_part_27 : decode cX1_part 27 = .ok (.lreturn, 1) := dk_173 (dk_at dksX1_part_1 5 rfl rfl)
abbrev cX1_got : ByteArray := prog_1_method_30_code
def yX1_got : MethodName := ⟨RX1, "got", "(I)J"⟩
def dkwX1_got_1 : List UInt8 := [180, 1, 11, 27, 47, 173]
abbrev dktX1_got_1 : List UInt8 := dkwX1_got_1 ++ []
def dkwX1_got_0 : List UInt8 := [27, 155, 0, 9, 27, 16, 11, 164, 0, 11, 187, 0, 251, 89, 183, 0, 253, 191, 42, 180, 0, 108]
abbrev dktX1_got_0 : List UInt8 := dkwX1_got_0 ++ dktX1_got_1
theorem dksX1_got_0 : cX1_got.data.toList.drop 0 = dktX1_got_0 := by decide +kernel
theorem dksX1_got_1 : cX1_got.data.toList.drop 22 = dktX1_got_1 := dk_seg dksX1_got_0 22 rfl rfl
theorem dX1_got_0 : decode cX1_got 0 = .ok (.iload_n 1, 1) := dk_27 (dk_at dksX1_got_0 0 rfl rfl)
theorem dX1_got_1 : decode cX1_got 1 = .ok (.ifCond .lt 9, 3) := dk_155 0 9 (dk_at dksX1_got_0 1 rfl rfl)
theorem dX1_got_4 : decode cX1_got 4 = .ok (.iload_n 1, 1) := dk_27 (dk_at dksX1_got_0 4 rfl rfl)
theorem dX1_got_5 : decode cX1_got 5 = .ok (.bipush 11, 2) := dk_16 11 (dk_at dksX1_got_0 5 rfl rfl)
theorem dX1_got_7 : decode cX1_got 7 = .ok (.if_icmp .le 11, 3) := dk_164 0 11 (dk_at dksX1_got_0 7 rfl rfl)
theorem dX1_got_10 : decode cX1_got 10 = .ok (.new 251, 3) := dk_187 0 251 (dk_at dksX1_got_0 10 rfl rfl)
theorem dX1_got_13 : decode cX1_got 13 = .ok (.dup, 1) := dk_89 (dk_at dksX1_got_0 13 rfl rfl)
theorem dX1_got_14 : decode cX1_got 14 = .ok (.invokespecial 253, 3) := dk_183 0 253 (dk_at dksX1_got_0 14 rfl rfl)
theorem dX1_got_17 : decode cX1_got 17 = .ok (.athrow, 1) := dk_191 (dk_at dksX1_got_0 17 rfl rfl)
theorem dX1_got_18 : decode cX1_got 18 = .ok (.aload_n 0, 1) := dk_42 (dk_at dksX1_got_0 18 rfl rfl)
theorem dX1_got_19 : decode cX1_got 19 = .ok (.getfield 108, 3) := dk_180 0 108 (dk_at dksX1_got_0 19 rfl rfl)
theorem dX1_got_22 : decode cX1_got 22 = .ok (.getfield 267, 3) := dk_180 1 11 (dk_at dksX1_got_1 0 rfl rfl)
theorem dX1_got_25 : decode cX1_got 25 = .ok (.iload_n 1, 1) := dk_27 (dk_at dksX1_got_1 3 rfl rfl)
theorem dX1_got_26 : decode cX1_got 26 = .ok (.laload, 1) := dk_47 (dk_at dksX1_got_1 4 rfl rfl)
theorem dX1_got_27 : decode cX1_got 27 = .ok (.lreturn, 1) := dk_173 (dk_at dksX1_got_1 5 rfl rfl)
abbrev cX1_carried : ByteArray := prog_1_method_31_code
def yX1_carried : MethodName := ⟨RX1, "carried", "(II)J"⟩
def dkwX1_carried_2 : List UInt8 := [180, 0, 240, 173]
abbrev dktX1_carried_2 : List UInt8 := dkwX1_carried_2 ++ []
def dkwX1_carried_1 : List UInt8 := [191, 28, 154, 0, 15, 42, 180, 0, 97, 27, 50, 180, 0, 235, 167, 0, 12, 42, 180, 0, 97, 27, 50]
abbrev dktX1_carried_1 : List UInt8 := dkwX1_carried_1 ++ dktX1_carried_2
def dkwX1_carried_0 : List UInt8 := [42, 27, 182, 0, 183, 153, 0, 12, 28, 155, 0, 8, 28, 4, 164, 0, 11, 187, 0, 251, 89, 183, 0, 253]
abbrev dktX1_carried_0 : List UInt8 := dkwX1_carried_0 ++ dktX1_carried_1
theorem dksX1_carried_0 : cX1_carried.data.toList.drop 0 = dktX1_carried_0 := by decide +kernel
theorem dksX1_carried_1 : cX1_carried.data.toList.drop 24 = dktX1_carried_1 := dk_seg dksX1_carried_0 24 rfl rfl
theorem dksX1_carried_2 : cX1_carried.data.toList.drop 47 = dktX1_carried_2 := dk_seg dksX1_carried_1 23 rfl rfl
theorem dX1_carried_0 : decode cX1_carried 0 = .ok (.aload_n 0, 1) := dk_42 (dk_at dksX1_carried_0 0 rfl rfl)
theorem dX1_carried_1 : decode cX1_carried 1 = .ok (.iload_n 1, 1) := dk_27 (dk_at dksX1_carried_0 1 rfl rfl)
theorem dX1_carried_2 : decode cX1_carried 2 = .ok (.invokevirtual 183, 3) := dk_182 0 183 (dk_at dksX1_carried_0 2 rfl rfl)
theorem dX1_carried_5 : decode cX1_carried 5 = .ok (.ifCond .eq 12, 3) := dk_153 0 12 (dk_at dksX1_carried_0 5 rfl rfl)
theorem dX1_carried_8 : decode cX1_carried 8 = .ok (.iload_n 2, 1) := dk_28 (dk_at dksX1_carried_0 8 rfl rfl)
theorem dX1_carried_9 : decode cX1_carried 9 = .ok (.ifCond .lt 8, 3) := dk_155 0 8 (dk_at dksX1_carried_0 9 rfl rfl)
theorem dX1_carried_12 : decode cX1_carried 12 = .ok (.iload_n 2, 1) := dk_28 (dk_at dksX1_carried_0 12 rfl rfl)
theorem dX1_carried_13 : decode cX1_carried 13 = .ok (.iconst 1, 1) := dk_4 (dk_at dksX1_carried_0 13 rfl rfl)
theorem dX1_carried_14 : decode cX1_carried 14 = .ok (.if_icmp .le 11, 3) := dk_164 0 11 (dk_at dksX1_carried_0 14 rfl rfl)
theorem dX1_carried_17 : decode cX1_carried 17 = .ok (.new 251, 3) := dk_187 0 251 (dk_at dksX1_carried_0 17 rfl rfl)
theorem dX1_carried_20 : decode cX1_carried 20 = .ok (.dup, 1) := dk_89 (dk_at dksX1_carried_0 20 rfl rfl)
theorem dX1_carried_21 : decode cX1_carried 21 = .ok (.invokespecial 253, 3) := dk_183 0 253 (dk_at dksX1_carried_0 21 rfl rfl)
theorem dX1_carried_24 : decode cX1_carried 24 = .ok (.athrow, 1) := dk_191 (dk_at dksX1_carried_1 0 rfl rfl)
theorem dX1_carried_25 : decode cX1_carried 25 = .ok (.iload_n 2, 1) := dk_28 (dk_at dksX1_carried_1 1 rfl rfl)
theorem dX1_carried_26 : decode cX1_carried 26 = .ok (.ifCond .ne 15, 3) := dk_154 0 15 (dk_at dksX1_carried_1 2 rfl rfl)
theorem dX1_carried_29 : decode cX1_carried 29 = .ok (.aload_n 0, 1) := dk_42 (dk_at dksX1_carried_1 5 rfl rfl)
theorem dX1_carried_30 : decode cX1_carried 30 = .ok (.getfield 97, 3) := dk_180 0 97 (dk_at dksX1_carried_1 6 rfl rfl)
theorem dX1_carried_33 : decode cX1_carried 33 = .ok (.iload_n 1, 1) := dk_27 (dk_at dksX1_carried_1 9 rfl rfl)
theorem dX1_carried_34 : decode cX1_carried 34 = .ok (.aaload, 1) := dk_50 (dk_at dksX1_carried_1 10 rfl rfl)
theorem dX1_carried_35 : decode cX1_carried 35 = .ok (.getfield 235, 3) := dk_180 0 235 (dk_at dksX1_carried_1 11 rfl rfl)
theorem dX1_carried_38 : decode cX1_carried 38 = .ok (.goto 12, 3) := dk_167 0 12 (dk_at dksX1_carried_1 14 rfl rfl)
theorem dX1_carried_41 : decode cX1_carried 41 = .ok (.aload_n 0, 1) := dk_42 (dk_at dksX1_carried_1 17 rfl rfl)
theorem dX1_carried_42 : decode cX1_carried 42 = .ok (.getfield 97, 3) := dk_180 0 97 (dk_at dksX1_carried_1 18 rfl rfl)
theorem dX1_carried_45 : decode cX1_carried 45 = .ok (.iload_n 1, 1) := dk_27 (dk_at dksX1_carried_1 21 rfl rfl)
theorem dX1_carried_46 : decode cX1_carried 46 = .ok (.aaload, 1) := dk_50 (dk_at dksX1_carried_1 22 rfl rfl)
theorem dX1_carried_47 : decode cX1_carried 47 = .ok (.getfield 240, 3) := dk_180 0 240 (dk_at dksX1_carried_2 0 rfl rfl)
theorem dX1_carried_50 : decode cX1_carried 50 = .ok (.lreturn, 1) := dk_173 (dk_at dksX1_carried_2 3 rfl rfl)
abbrev cX1_drift : ByteArray := prog_1_method_43_code
def yX1_drift : MethodName := ⟨RX1, "drift", "(IIIII)I"⟩
def dkwX1_drift_17 : List UInt8 := [180, 0, 136, 21, 9, 46, 21, 12, 100, 54, 8, 132, 9, 1, 167, 255, 124, 21, 8, 172]
abbrev dktX1_drift_17 : List UInt8 := dkwX1_drift_17 ++ []
def dkwX1_drift_16 : List UInt8 := [21, 5, 4, 160, 0, 30, 42, 180, 0, 136, 21, 9, 46, 21, 12, 100, 21, 8, 162, 0, 15, 42]
abbrev dktX1_drift_16 : List UInt8 := dkwX1_drift_16 ++ dktX1_drift_17
def dkwX1_drift_15 : List UInt8 := [21, 9, 46, 21, 12, 100, 21, 8, 164, 0, 15, 42, 180, 0, 133, 21, 9, 46, 21, 12, 100, 54, 8]
abbrev dktX1_drift_15 : List UInt8 := dkwX1_drift_15 ++ dktX1_drift_16
def dkwX1_drift_14 : List UInt8 := [21, 6, 112, 21, 6, 21, 11, 28, 184, 1, 60, 96, 54, 12, 21, 5, 154, 0, 30, 42, 180, 0, 133]
abbrev dktX1_drift_14 : List UInt8 := dkwX1_drift_14 ++ dktX1_drift_15
def dkwX1_drift_13 : List UInt8 := [108, 54, 10, 21, 9, 4, 126, 21, 10, 21, 6, 108, 96, 4, 126, 54, 11, 21, 10, 21, 6, 108, 21, 10]
abbrev dktX1_drift_13 : List UInt8 := dkwX1_drift_13 ++ dktX1_drift_14
def dkwX1_drift_12 : List UInt8 := [21, 7, 162, 0, 131, 42, 180, 0, 133, 21, 9, 46, 17, 252, 24, 160, 0, 6, 167, 0, 109, 21, 9, 5]
abbrev dktX1_drift_12 : List UInt8 := dkwX1_drift_12 ++ dktX1_drift_13
def dkwX1_drift_11 : List UInt8 := [167, 255, 150, 21, 5, 154, 0, 9, 17, 252, 24, 167, 0, 6, 17, 3, 232, 54, 8, 3, 54, 9, 21, 9]
abbrev dktX1_drift_11 : List UInt8 := dkwX1_drift_11 ++ dktX1_drift_12
def dkwX1_drift_10 : List UInt8 := [180, 0, 136, 21, 9, 42, 180, 0, 142, 21, 9, 46, 79, 132, 9, 1, 167, 255, 218, 132, 8, 1]
abbrev dktX1_drift_10 : List UInt8 := dkwX1_drift_10 ++ dktX1_drift_11
def dkwX1_drift_9 : List UInt8 := [21, 9, 21, 7, 162, 0, 37, 42, 180, 0, 133, 21, 9, 42, 180, 0, 139, 21, 9, 46, 79, 42]
abbrev dktX1_drift_9 : List UInt8 := dkwX1_drift_9 ++ dktX1_drift_10
def dkwX1_drift_8 : List UInt8 := [167, 255, 226, 42, 21, 6, 21, 8, 42, 180, 0, 79, 27, 46, 28, 21, 4, 182, 1, 56, 3, 54, 9]
abbrev dktX1_drift_8 : List UInt8 := dkwX1_drift_8 ++ dktX1_drift_9
def dkwX1_drift_7 : List UInt8 := [180, 0, 139, 21, 9, 17, 252, 24, 79, 42, 180, 0, 142, 21, 9, 17, 3, 232, 79, 132, 9, 1]
abbrev dktX1_drift_7 : List UInt8 := dkwX1_drift_7 ++ dktX1_drift_8
def dkwX1_drift_6 : List UInt8 := [3, 79, 3, 54, 8, 21, 8, 29, 162, 0, 106, 3, 54, 9, 21, 9, 21, 7, 162, 0, 29, 42]
abbrev dktX1_drift_6 : List UInt8 := dkwX1_drift_6 ++ dktX1_drift_7
def dkwX1_drift_5 : List UInt8 := [21, 8, 17, 3, 232, 79, 132, 8, 1, 167, 255, 226, 42, 180, 0, 133, 3, 3, 79, 42, 180, 0, 136, 3]
abbrev dktX1_drift_5 : List UInt8 := dkwX1_drift_5 ++ dktX1_drift_6
def dkwX1_drift_4 : List UInt8 := [3, 54, 8, 21, 8, 21, 7, 162, 0, 29, 42, 180, 0, 133, 21, 8, 17, 252, 24, 79, 42, 180, 0, 136]
abbrev dktX1_drift_4 : List UInt8 := dkwX1_drift_4 ++ dktX1_drift_5
def dkwX1_drift_3 : List UInt8 := [183, 0, 253, 191, 42, 180, 0, 83, 27, 46, 54, 6, 29, 21, 6, 4, 100, 104, 4, 96, 5, 104, 54, 7]
abbrev dktX1_drift_3 : List UInt8 := dkwX1_drift_3 ++ dktX1_drift_4
def dkwX1_drift_2 : List UInt8 := [21, 4, 17, 3, 232, 163, 0, 14, 21, 5, 155, 0, 9, 21, 5, 4, 164, 0, 11, 187, 0, 251, 89]
abbrev dktX1_drift_2 : List UInt8 := dkwX1_drift_2 ++ dktX1_drift_3
def dkwX1_drift_1 : List UInt8 := [155, 0, 43, 28, 8, 163, 0, 38, 29, 4, 161, 0, 33, 29, 16, 12, 163, 0, 27, 21, 4, 155, 0, 22]
abbrev dktX1_drift_1 : List UInt8 := dkwX1_drift_1 ++ dktX1_drift_2
def dkwX1_drift_0 : List UInt8 := [27, 155, 0, 64, 27, 16, 7, 163, 0, 58, 42, 180, 0, 83, 27, 46, 16, 100, 163, 0, 47, 28]
abbrev dktX1_drift_0 : List UInt8 := dkwX1_drift_0 ++ dktX1_drift_1
theorem dksX1_drift_0 : cX1_drift.data.toList.drop 0 = dktX1_drift_0 := by decide +kernel
theorem dksX1_drift_1 : cX1_drift.data.toList.drop 22 = dktX1_drift_1 := dk_seg dksX1_drift_0 22 rfl rfl
theorem dksX1_drift_2 : cX1_drift.data.toList.drop 46 = dktX1_drift_2 := dk_seg dksX1_drift_1 24 rfl rfl
theorem dksX1_drift_3 : cX1_drift.data.toList.drop 69 = dktX1_drift_3 := dk_seg dksX1_drift_2 23 rfl rfl
theorem dksX1_drift_4 : cX1_drift.data.toList.drop 93 = dktX1_drift_4 := dk_seg dksX1_drift_3 24 rfl rfl
theorem dksX1_drift_5 : cX1_drift.data.toList.drop 117 = dktX1_drift_5 := dk_seg dksX1_drift_4 24 rfl rfl
theorem dksX1_drift_6 : cX1_drift.data.toList.drop 141 = dktX1_drift_6 := dk_seg dksX1_drift_5 24 rfl rfl
theorem dksX1_drift_7 : cX1_drift.data.toList.drop 163 = dktX1_drift_7 := dk_seg dksX1_drift_6 22 rfl rfl
theorem dksX1_drift_8 : cX1_drift.data.toList.drop 185 = dktX1_drift_8 := dk_seg dksX1_drift_7 22 rfl rfl
theorem dksX1_drift_9 : cX1_drift.data.toList.drop 208 = dktX1_drift_9 := dk_seg dksX1_drift_8 23 rfl rfl
theorem dksX1_drift_10 : cX1_drift.data.toList.drop 230 = dktX1_drift_10 := dk_seg dksX1_drift_9 22 rfl rfl
theorem dksX1_drift_11 : cX1_drift.data.toList.drop 252 = dktX1_drift_11 := dk_seg dksX1_drift_10 22 rfl rfl
theorem dksX1_drift_12 : cX1_drift.data.toList.drop 276 = dktX1_drift_12 := dk_seg dksX1_drift_11 24 rfl rfl
theorem dksX1_drift_13 : cX1_drift.data.toList.drop 300 = dktX1_drift_13 := dk_seg dksX1_drift_12 24 rfl rfl
theorem dksX1_drift_14 : cX1_drift.data.toList.drop 324 = dktX1_drift_14 := dk_seg dksX1_drift_13 24 rfl rfl
theorem dksX1_drift_15 : cX1_drift.data.toList.drop 347 = dktX1_drift_15 := dk_seg dksX1_drift_14 23 rfl rfl
theorem dksX1_drift_16 : cX1_drift.data.toList.drop 370 = dktX1_drift_16 := dk_seg dksX1_drift_15 23 rfl rfl
theorem dksX1_drift_17 : cX1_drift.data.toList.drop 392 = dktX1_drift_17 := dk_seg dksX1_drift_16 22 rfl rfl
theorem dX1_drift_0 : decode cX1_drift 0 = .ok (.iload_n 1, 1) := dk_27 (dk_at dksX1_drift_0 0 rfl rfl)
theorem dX1_drift_1 : decode cX1_drift 1 = .ok (.ifCond .lt 64, 3) := dk_155 0 64 (dk_at dksX1_drift_0 1 rfl rfl)
theorem dX1_drift_4 : decode cX1_drift 4 = .ok (.iload_n 1, 1) := dk_27 (dk_at dksX1_drift_0 4 rfl rfl)
theorem dX1_drift_5 : decode cX1_drift 5 = .ok (.bipush 7, 2) := dk_16 7 (dk_at dksX1_drift_0 5 rfl rfl)
theorem dX1_drift_7 : decode cX1_drift 7 = .ok (.if_icmp .gt 58, 3) := dk_163 0 58 (dk_at dksX1_drift_0 7 rfl rfl)
theorem dX1_drift_10 : decode cX1_drift 10 = .ok (.aload_n 0, 1) := dk_42 (dk_at dksX1_drift_0 10 rfl rfl)
theorem dX1_drift_11 : decode cX1_drift 11 = .ok (.getfield 83, 3) := dk_180 0 83 (dk_at dksX1_drift_0 11 rfl rfl)
theorem dX1_drift_14 : decode cX1_drift 14 = .ok (.iload_n 1, 1) := dk_27 (dk_at dksX1_drift_0 14 rfl rfl)
theorem dX1_drift_15 : decode cX1_drift 15 = .ok (.iaload, 1) := dk_46 (dk_at dksX1_drift_0 15 rfl rfl)
theorem dX1_drift_16 : decode cX1_drift 16 = .ok (.bipush 100, 2) := dk_16 100 (dk_at dksX1_drift_0 16 rfl rfl)
theorem dX1_drift_18 : decode cX1_drift 18 = .ok (.if_icmp .gt 47, 3) := dk_163 0 47 (dk_at dksX1_drift_0 18 rfl rfl)
theorem dX1_drift_21 : decode cX1_drift 21 = .ok (.iload_n 2, 1) := dk_28 (dk_at dksX1_drift_0 21 rfl rfl)
theorem dX1_drift_22 : decode cX1_drift 22 = .ok (.ifCond .lt 43, 3) := dk_155 0 43 (dk_at dksX1_drift_1 0 rfl rfl)
theorem dX1_drift_25 : decode cX1_drift 25 = .ok (.iload_n 2, 1) := dk_28 (dk_at dksX1_drift_1 3 rfl rfl)
theorem dX1_drift_26 : decode cX1_drift 26 = .ok (.iconst 5, 1) := dk_8 (dk_at dksX1_drift_1 4 rfl rfl)
theorem dX1_drift_27 : decode cX1_drift 27 = .ok (.if_icmp .gt 38, 3) := dk_163 0 38 (dk_at dksX1_drift_1 5 rfl rfl)
theorem dX1_drift_30 : decode cX1_drift 30 = .ok (.iload_n 3, 1) := dk_29 (dk_at dksX1_drift_1 8 rfl rfl)
theorem dX1_drift_31 : decode cX1_drift 31 = .ok (.iconst 1, 1) := dk_4 (dk_at dksX1_drift_1 9 rfl rfl)
theorem dX1_drift_32 : decode cX1_drift 32 = .ok (.if_icmp .lt 33, 3) := dk_161 0 33 (dk_at dksX1_drift_1 10 rfl rfl)
theorem dX1_drift_35 : decode cX1_drift 35 = .ok (.iload_n 3, 1) := dk_29 (dk_at dksX1_drift_1 13 rfl rfl)
theorem dX1_drift_36 : decode cX1_drift 36 = .ok (.bipush 12, 2) := dk_16 12 (dk_at dksX1_drift_1 14 rfl rfl)
theorem dX1_drift_38 : decode cX1_drift 38 = .ok (.if_icmp .gt 27, 3) := dk_163 0 27 (dk_at dksX1_drift_1 16 rfl rfl)
theorem dX1_drift_41 : decode cX1_drift 41 = .ok (.iload 4, 2) := dk_21 4 (dk_at dksX1_drift_1 19 rfl rfl)
theorem dX1_drift_43 : decode cX1_drift 43 = .ok (.ifCond .lt 22, 3) := dk_155 0 22 (dk_at dksX1_drift_1 21 rfl rfl)
theorem dX1_drift_46 : decode cX1_drift 46 = .ok (.iload 4, 2) := dk_21 4 (dk_at dksX1_drift_2 0 rfl rfl)
theorem dX1_drift_48 : decode cX1_drift 48 = .ok (.sipush 1000, 3) := dk_17 3 232 (dk_at dksX1_drift_2 2 rfl rfl)
theorem dX1_drift_51 : decode cX1_drift 51 = .ok (.if_icmp .gt 14, 3) := dk_163 0 14 (dk_at dksX1_drift_2 5 rfl rfl)
theorem dX1_drift_54 : decode cX1_drift 54 = .ok (.iload 5, 2) := dk_21 5 (dk_at dksX1_drift_2 8 rfl rfl)
theorem dX1_drift_56 : decode cX1_drift 56 = .ok (.ifCond .lt 9, 3) := dk_155 0 9 (dk_at dksX1_drift_2 10 rfl rfl)
theorem dX1_drift_59 : decode cX1_drift 59 = .ok (.iload 5, 2) := dk_21 5 (dk_at dksX1_drift_2 13 rfl rfl)
theorem dX1_drift_61 : decode cX1_drift 61 = .ok (.iconst 1, 1) := dk_4 (dk_at dksX1_drift_2 15 rfl rfl)
theorem dX1_drift_62 : decode cX1_drift 62 = .ok (.if_icmp .le 11, 3) := dk_164 0 11 (dk_at dksX1_drift_2 16 rfl rfl)
theorem dX1_drift_65 : decode cX1_drift 65 = .ok (.new 251, 3) := dk_187 0 251 (dk_at dksX1_drift_2 19 rfl rfl)
theorem dX1_drift_68 : decode cX1_drift 68 = .ok (.dup, 1) := dk_89 (dk_at dksX1_drift_2 22 rfl rfl)
theorem dX1_drift_69 : decode cX1_drift 69 = .ok (.invokespecial 253, 3) := dk_183 0 253 (dk_at dksX1_drift_3 0 rfl rfl)
theorem dX1_drift_72 : decode cX1_drift 72 = .ok (.athrow, 1) := dk_191 (dk_at dksX1_drift_3 3 rfl rfl)
theorem dX1_drift_73 : decode cX1_drift 73 = .ok (.aload_n 0, 1) := dk_42 (dk_at dksX1_drift_3 4 rfl rfl)
theorem dX1_drift_74 : decode cX1_drift 74 = .ok (.getfield 83, 3) := dk_180 0 83 (dk_at dksX1_drift_3 5 rfl rfl)
theorem dX1_drift_77 : decode cX1_drift 77 = .ok (.iload_n 1, 1) := dk_27 (dk_at dksX1_drift_3 8 rfl rfl)
theorem dX1_drift_78 : decode cX1_drift 78 = .ok (.iaload, 1) := dk_46 (dk_at dksX1_drift_3 9 rfl rfl)
theorem dX1_drift_79 : decode cX1_drift 79 = .ok (.istore 6, 2) := dk_54 6 (dk_at dksX1_drift_3 10 rfl rfl)
theorem dX1_drift_81 : decode cX1_drift 81 = .ok (.iload_n 3, 1) := dk_29 (dk_at dksX1_drift_3 12 rfl rfl)
theorem dX1_drift_82 : decode cX1_drift 82 = .ok (.iload 6, 2) := dk_21 6 (dk_at dksX1_drift_3 13 rfl rfl)
theorem dX1_drift_84 : decode cX1_drift 84 = .ok (.iconst 1, 1) := dk_4 (dk_at dksX1_drift_3 15 rfl rfl)
theorem dX1_drift_85 : decode cX1_drift 85 = .ok (.isub, 1) := dk_100 (dk_at dksX1_drift_3 16 rfl rfl)
theorem dX1_drift_86 : decode cX1_drift 86 = .ok (.imul, 1) := dk_104 (dk_at dksX1_drift_3 17 rfl rfl)
theorem dX1_drift_87 : decode cX1_drift 87 = .ok (.iconst 1, 1) := dk_4 (dk_at dksX1_drift_3 18 rfl rfl)
theorem dX1_drift_88 : decode cX1_drift 88 = .ok (.iadd, 1) := dk_96 (dk_at dksX1_drift_3 19 rfl rfl)
theorem dX1_drift_89 : decode cX1_drift 89 = .ok (.iconst 2, 1) := dk_5 (dk_at dksX1_drift_3 20 rfl rfl)
theorem dX1_drift_90 : decode cX1_drift 90 = .ok (.imul, 1) := dk_104 (dk_at dksX1_drift_3 21 rfl rfl)
theorem dX1_drift_91 : decode cX1_drift 91 = .ok (.istore 7, 2) := dk_54 7 (dk_at dksX1_drift_3 22 rfl rfl)
theorem dX1_drift_93 : decode cX1_drift 93 = .ok (.iconst 0, 1) := dk_3 (dk_at dksX1_drift_4 0 rfl rfl)
theorem dX1_drift_94 : decode cX1_drift 94 = .ok (.istore 8, 2) := dk_54 8 (dk_at dksX1_drift_4 1 rfl rfl)
theorem dX1_drift_96 : decode cX1_drift 96 = .ok (.iload 8, 2) := dk_21 8 (dk_at dksX1_drift_4 3 rfl rfl)
theorem dX1_drift_98 : decode cX1_drift 98 = .ok (.iload 7, 2) := dk_21 7 (dk_at dksX1_drift_4 5 rfl rfl)
theorem dX1_drift_100 : decode cX1_drift 100 = .ok (.if_icmp .ge 29, 3) := dk_162 0 29 (dk_at dksX1_drift_4 7 rfl rfl)
theorem dX1_drift_103 : decode cX1_drift 103 = .ok (.aload_n 0, 1) := dk_42 (dk_at dksX1_drift_4 10 rfl rfl)
theorem dX1_drift_104 : decode cX1_drift 104 = .ok (.getfield 133, 3) := dk_180 0 133 (dk_at dksX1_drift_4 11 rfl rfl)
theorem dX1_drift_107 : decode cX1_drift 107 = .ok (.iload 8, 2) := dk_21 8 (dk_at dksX1_drift_4 14 rfl rfl)
theorem dX1_drift_109 : decode cX1_drift 109 = .ok (.sipush (-1000), 3) := dk_17 252 24 (dk_at dksX1_drift_4 16 rfl rfl)
theorem dX1_drift_112 : decode cX1_drift 112 = .ok (.iastore, 1) := dk_79 (dk_at dksX1_drift_4 19 rfl rfl)
theorem dX1_drift_113 : decode cX1_drift 113 = .ok (.aload_n 0, 1) := dk_42 (dk_at dksX1_drift_4 20 rfl rfl)
theorem dX1_drift_114 : decode cX1_drift 114 = .ok (.getfield 136, 3) := dk_180 0 136 (dk_at dksX1_drift_4 21 rfl rfl)
theorem dX1_drift_117 : decode cX1_drift 117 = .ok (.iload 8, 2) := dk_21 8 (dk_at dksX1_drift_5 0 rfl rfl)
theorem dX1_drift_119 : decode cX1_drift 119 = .ok (.sipush 1000, 3) := dk_17 3 232 (dk_at dksX1_drift_5 2 rfl rfl)
theorem dX1_drift_122 : decode cX1_drift 122 = .ok (.iastore, 1) := dk_79 (dk_at dksX1_drift_5 5 rfl rfl)
theorem dX1_drift_123 : decode cX1_drift 123 = .ok (.iinc 8 1, 3) := dk_132 8 1 (dk_at dksX1_drift_5 6 rfl rfl)
theorem dX1_drift_126 : decode cX1_drift 126 = .ok (.goto (-30), 3) := dk_167 255 226 (dk_at dksX1_drift_5 9 rfl rfl)
theorem dX1_drift_129 : decode cX1_drift 129 = .ok (.aload_n 0, 1) := dk_42 (dk_at dksX1_drift_5 12 rfl rfl)
theorem dX1_drift_130 : decode cX1_drift 130 = .ok (.getfield 133, 3) := dk_180 0 133 (dk_at dksX1_drift_5 13 rfl rfl)
theorem dX1_drift_133 : decode cX1_drift 133 = .ok (.iconst 0, 1) := dk_3 (dk_at dksX1_drift_5 16 rfl rfl)
theorem dX1_drift_134 : decode cX1_drift 134 = .ok (.iconst 0, 1) := dk_3 (dk_at dksX1_drift_5 17 rfl rfl)
theorem dX1_drift_135 : decode cX1_drift 135 = .ok (.iastore, 1) := dk_79 (dk_at dksX1_drift_5 18 rfl rfl)
theorem dX1_drift_136 : decode cX1_drift 136 = .ok (.aload_n 0, 1) := dk_42 (dk_at dksX1_drift_5 19 rfl rfl)
theorem dX1_drift_137 : decode cX1_drift 137 = .ok (.getfield 136, 3) := dk_180 0 136 (dk_at dksX1_drift_5 20 rfl rfl)
theorem dX1_drift_140 : decode cX1_drift 140 = .ok (.iconst 0, 1) := dk_3 (dk_at dksX1_drift_5 23 rfl rfl)
theorem dX1_drift_141 : decode cX1_drift 141 = .ok (.iconst 0, 1) := dk_3 (dk_at dksX1_drift_6 0 rfl rfl)
theorem dX1_drift_142 : decode cX1_drift 142 = .ok (.iastore, 1) := dk_79 (dk_at dksX1_drift_6 1 rfl rfl)
theorem dX1_drift_143 : decode cX1_drift 143 = .ok (.iconst 0, 1) := dk_3 (dk_at dksX1_drift_6 2 rfl rfl)
theorem dX1_drift_144 : decode cX1_drift 144 = .ok (.istore 8, 2) := dk_54 8 (dk_at dksX1_drift_6 3 rfl rfl)
theorem dX1_drift_146 : decode cX1_drift 146 = .ok (.iload 8, 2) := dk_21 8 (dk_at dksX1_drift_6 5 rfl rfl)
theorem dX1_drift_148 : decode cX1_drift 148 = .ok (.iload_n 3, 1) := dk_29 (dk_at dksX1_drift_6 7 rfl rfl)
theorem dX1_drift_149 : decode cX1_drift 149 = .ok (.if_icmp .ge 106, 3) := dk_162 0 106 (dk_at dksX1_drift_6 8 rfl rfl)
theorem dX1_drift_152 : decode cX1_drift 152 = .ok (.iconst 0, 1) := dk_3 (dk_at dksX1_drift_6 11 rfl rfl)
theorem dX1_drift_153 : decode cX1_drift 153 = .ok (.istore 9, 2) := dk_54 9 (dk_at dksX1_drift_6 12 rfl rfl)
theorem dX1_drift_155 : decode cX1_drift 155 = .ok (.iload 9, 2) := dk_21 9 (dk_at dksX1_drift_6 14 rfl rfl)
theorem dX1_drift_157 : decode cX1_drift 157 = .ok (.iload 7, 2) := dk_21 7 (dk_at dksX1_drift_6 16 rfl rfl)
theorem dX1_drift_159 : decode cX1_drift 159 = .ok (.if_icmp .ge 29, 3) := dk_162 0 29 (dk_at dksX1_drift_6 18 rfl rfl)
theorem dX1_drift_162 : decode cX1_drift 162 = .ok (.aload_n 0, 1) := dk_42 (dk_at dksX1_drift_6 21 rfl rfl)
theorem dX1_drift_163 : decode cX1_drift 163 = .ok (.getfield 139, 3) := dk_180 0 139 (dk_at dksX1_drift_7 0 rfl rfl)
theorem dX1_drift_166 : decode cX1_drift 166 = .ok (.iload 9, 2) := dk_21 9 (dk_at dksX1_drift_7 3 rfl rfl)
theorem dX1_drift_168 : decode cX1_drift 168 = .ok (.sipush (-1000), 3) := dk_17 252 24 (dk_at dksX1_drift_7 5 rfl rfl)
theorem dX1_drift_171 : decode cX1_drift 171 = .ok (.iastore, 1) := dk_79 (dk_at dksX1_drift_7 8 rfl rfl)
theorem dX1_drift_172 : decode cX1_drift 172 = .ok (.aload_n 0, 1) := dk_42 (dk_at dksX1_drift_7 9 rfl rfl)
theorem dX1_drift_173 : decode cX1_drift 173 = .ok (.getfield 142, 3) := dk_180 0 142 (dk_at dksX1_drift_7 10 rfl rfl)
theorem dX1_drift_176 : decode cX1_drift 176 = .ok (.iload 9, 2) := dk_21 9 (dk_at dksX1_drift_7 13 rfl rfl)
theorem dX1_drift_178 : decode cX1_drift 178 = .ok (.sipush 1000, 3) := dk_17 3 232 (dk_at dksX1_drift_7 15 rfl rfl)
theorem dX1_drift_181 : decode cX1_drift 181 = .ok (.iastore, 1) := dk_79 (dk_at dksX1_drift_7 18 rfl rfl)
theorem dX1_drift_182 : decode cX1_drift 182 = .ok (.iinc 9 1, 3) := dk_132 9 1 (dk_at dksX1_drift_7 19 rfl rfl)
theorem dX1_drift_185 : decode cX1_drift 185 = .ok (.goto (-30), 3) := dk_167 255 226 (dk_at dksX1_drift_8 0 rfl rfl)
theorem dX1_drift_188 : decode cX1_drift 188 = .ok (.aload_n 0, 1) := dk_42 (dk_at dksX1_drift_8 3 rfl rfl)
theorem dX1_drift_189 : decode cX1_drift 189 = .ok (.iload 6, 2) := dk_21 6 (dk_at dksX1_drift_8 4 rfl rfl)
theorem dX1_drift_191 : decode cX1_drift 191 = .ok (.iload 8, 2) := dk_21 8 (dk_at dksX1_drift_8 6 rfl rfl)
theorem dX1_drift_193 : decode cX1_drift 193 = .ok (.aload_n 0, 1) := dk_42 (dk_at dksX1_drift_8 8 rfl rfl)
theorem dX1_drift_194 : decode cX1_drift 194 = .ok (.getfield 79, 3) := dk_180 0 79 (dk_at dksX1_drift_8 9 rfl rfl)
theorem dX1_drift_197 : decode cX1_drift 197 = .ok (.iload_n 1, 1) := dk_27 (dk_at dksX1_drift_8 12 rfl rfl)
theorem dX1_drift_198 : decode cX1_drift 198 = .ok (.iaload, 1) := dk_46 (dk_at dksX1_drift_8 13 rfl rfl)
theorem dX1_drift_199 : decode cX1_drift 199 = .ok (.iload_n 2, 1) := dk_28 (dk_at dksX1_drift_8 14 rfl rfl)
theorem dX1_drift_200 : decode cX1_drift 200 = .ok (.iload 4, 2) := dk_21 4 (dk_at dksX1_drift_8 15 rfl rfl)
theorem dX1_drift_202 : decode cX1_drift 202 = .ok (.invokevirtual 312, 3) := dk_182 1 56 (dk_at dksX1_drift_8 17 rfl rfl)
theorem dX1_drift_205 : decode cX1_drift 205 = .ok (.iconst 0, 1) := dk_3 (dk_at dksX1_drift_8 20 rfl rfl)
theorem dX1_drift_206 : decode cX1_drift 206 = .ok (.istore 9, 2) := dk_54 9 (dk_at dksX1_drift_8 21 rfl rfl)
theorem dX1_drift_208 : decode cX1_drift 208 = .ok (.iload 9, 2) := dk_21 9 (dk_at dksX1_drift_9 0 rfl rfl)
theorem dX1_drift_210 : decode cX1_drift 210 = .ok (.iload 7, 2) := dk_21 7 (dk_at dksX1_drift_9 2 rfl rfl)
theorem dX1_drift_212 : decode cX1_drift 212 = .ok (.if_icmp .ge 37, 3) := dk_162 0 37 (dk_at dksX1_drift_9 4 rfl rfl)
theorem dX1_drift_215 : decode cX1_drift 215 = .ok (.aload_n 0, 1) := dk_42 (dk_at dksX1_drift_9 7 rfl rfl)
theorem dX1_drift_216 : decode cX1_drift 216 = .ok (.getfield 133, 3) := dk_180 0 133 (dk_at dksX1_drift_9 8 rfl rfl)
theorem dX1_drift_219 : decode cX1_drift 219 = .ok (.iload 9, 2) := dk_21 9 (dk_at dksX1_drift_9 11 rfl rfl)
theorem dX1_drift_221 : decode cX1_drift 221 = .ok (.aload_n 0, 1) := dk_42 (dk_at dksX1_drift_9 13 rfl rfl)
theorem dX1_drift_222 : decode cX1_drift 222 = .ok (.getfield 139, 3) := dk_180 0 139 (dk_at dksX1_drift_9 14 rfl rfl)
theorem dX1_drift_225 : decode cX1_drift 225 = .ok (.iload 9, 2) := dk_21 9 (dk_at dksX1_drift_9 17 rfl rfl)
theorem dX1_drift_227 : decode cX1_drift 227 = .ok (.iaload, 1) := dk_46 (dk_at dksX1_drift_9 19 rfl rfl)
theorem dX1_drift_228 : decode cX1_drift 228 = .ok (.iastore, 1) := dk_79 (dk_at dksX1_drift_9 20 rfl rfl)
theorem dX1_drift_229 : decode cX1_drift 229 = .ok (.aload_n 0, 1) := dk_42 (dk_at dksX1_drift_9 21 rfl rfl)
theorem dX1_drift_230 : decode cX1_drift 230 = .ok (.getfield 136, 3) := dk_180 0 136 (dk_at dksX1_drift_10 0 rfl rfl)
theorem dX1_drift_233 : decode cX1_drift 233 = .ok (.iload 9, 2) := dk_21 9 (dk_at dksX1_drift_10 3 rfl rfl)
theorem dX1_drift_235 : decode cX1_drift 235 = .ok (.aload_n 0, 1) := dk_42 (dk_at dksX1_drift_10 5 rfl rfl)
theorem dX1_drift_236 : decode cX1_drift 236 = .ok (.getfield 142, 3) := dk_180 0 142 (dk_at dksX1_drift_10 6 rfl rfl)
theorem dX1_drift_239 : decode cX1_drift 239 = .ok (.iload 9, 2) := dk_21 9 (dk_at dksX1_drift_10 9 rfl rfl)
theorem dX1_drift_241 : decode cX1_drift 241 = .ok (.iaload, 1) := dk_46 (dk_at dksX1_drift_10 11 rfl rfl)
theorem dX1_drift_242 : decode cX1_drift 242 = .ok (.iastore, 1) := dk_79 (dk_at dksX1_drift_10 12 rfl rfl)
theorem dX1_drift_243 : decode cX1_drift 243 = .ok (.iinc 9 1, 3) := dk_132 9 1 (dk_at dksX1_drift_10 13 rfl rfl)
theorem dX1_drift_246 : decode cX1_drift 246 = .ok (.goto (-38), 3) := dk_167 255 218 (dk_at dksX1_drift_10 16 rfl rfl)
theorem dX1_drift_249 : decode cX1_drift 249 = .ok (.iinc 8 1, 3) := dk_132 8 1 (dk_at dksX1_drift_10 19 rfl rfl)
theorem dX1_drift_252 : decode cX1_drift 252 = .ok (.goto (-106), 3) := dk_167 255 150 (dk_at dksX1_drift_11 0 rfl rfl)
theorem dX1_drift_255 : decode cX1_drift 255 = .ok (.iload 5, 2) := dk_21 5 (dk_at dksX1_drift_11 3 rfl rfl)
theorem dX1_drift_257 : decode cX1_drift 257 = .ok (.ifCond .ne 9, 3) := dk_154 0 9 (dk_at dksX1_drift_11 5 rfl rfl)
theorem dX1_drift_260 : decode cX1_drift 260 = .ok (.sipush (-1000), 3) := dk_17 252 24 (dk_at dksX1_drift_11 8 rfl rfl)
theorem dX1_drift_263 : decode cX1_drift 263 = .ok (.goto 6, 3) := dk_167 0 6 (dk_at dksX1_drift_11 11 rfl rfl)
theorem dX1_drift_266 : decode cX1_drift 266 = .ok (.sipush 1000, 3) := dk_17 3 232 (dk_at dksX1_drift_11 14 rfl rfl)
theorem dX1_drift_269 : decode cX1_drift 269 = .ok (.istore 8, 2) := dk_54 8 (dk_at dksX1_drift_11 17 rfl rfl)
theorem dX1_drift_271 : decode cX1_drift 271 = .ok (.iconst 0, 1) := dk_3 (dk_at dksX1_drift_11 19 rfl rfl)
theorem dX1_drift_272 : decode cX1_drift 272 = .ok (.istore 9, 2) := dk_54 9 (dk_at dksX1_drift_11 20 rfl rfl)
theorem dX1_drift_274 : decode cX1_drift 274 = .ok (.iload 9, 2) := dk_21 9 (dk_at dksX1_drift_11 22 rfl rfl)
theorem dX1_drift_276 : decode cX1_drift 276 = .ok (.iload 7, 2) := dk_21 7 (dk_at dksX1_drift_12 0 rfl rfl)
theorem dX1_drift_278 : decode cX1_drift 278 = .ok (.if_icmp .ge 131, 3) := dk_162 0 131 (dk_at dksX1_drift_12 2 rfl rfl)
theorem dX1_drift_281 : decode cX1_drift 281 = .ok (.aload_n 0, 1) := dk_42 (dk_at dksX1_drift_12 5 rfl rfl)
theorem dX1_drift_282 : decode cX1_drift 282 = .ok (.getfield 133, 3) := dk_180 0 133 (dk_at dksX1_drift_12 6 rfl rfl)
theorem dX1_drift_285 : decode cX1_drift 285 = .ok (.iload 9, 2) := dk_21 9 (dk_at dksX1_drift_12 9 rfl rfl)
theorem dX1_drift_287 : decode cX1_drift 287 = .ok (.iaload, 1) := dk_46 (dk_at dksX1_drift_12 11 rfl rfl)
theorem dX1_drift_288 : decode cX1_drift 288 = .ok (.sipush (-1000), 3) := dk_17 252 24 (dk_at dksX1_drift_12 12 rfl rfl)
theorem dX1_drift_291 : decode cX1_drift 291 = .ok (.if_icmp .ne 6, 3) := dk_160 0 6 (dk_at dksX1_drift_12 15 rfl rfl)
theorem dX1_drift_294 : decode cX1_drift 294 = .ok (.goto 109, 3) := dk_167 0 109 (dk_at dksX1_drift_12 18 rfl rfl)
theorem dX1_drift_297 : decode cX1_drift 297 = .ok (.iload 9, 2) := dk_21 9 (dk_at dksX1_drift_12 21 rfl rfl)
theorem dX1_drift_299 : decode cX1_drift 299 = .ok (.iconst 2, 1) := dk_5 (dk_at dksX1_drift_12 23 rfl rfl)
theorem dX1_drift_300 : decode cX1_drift 300 = .ok (.idiv, 1) := dk_108 (dk_at dksX1_drift_13 0 rfl rfl)
theorem dX1_drift_301 : decode cX1_drift 301 = .ok (.istore 10, 2) := dk_54 10 (dk_at dksX1_drift_13 1 rfl rfl)
theorem dX1_drift_303 : decode cX1_drift 303 = .ok (.iload 9, 2) := dk_21 9 (dk_at dksX1_drift_13 3 rfl rfl)
theorem dX1_drift_305 : decode cX1_drift 305 = .ok (.iconst 1, 1) := dk_4 (dk_at dksX1_drift_13 5 rfl rfl)
theorem dX1_drift_306 : decode cX1_drift 306 = .ok (.iand, 1) := dk_126 (dk_at dksX1_drift_13 6 rfl rfl)
theorem dX1_drift_307 : decode cX1_drift 307 = .ok (.iload 10, 2) := dk_21 10 (dk_at dksX1_drift_13 7 rfl rfl)
theorem dX1_drift_309 : decode cX1_drift 309 = .ok (.iload 6, 2) := dk_21 6 (dk_at dksX1_drift_13 9 rfl rfl)
theorem dX1_drift_311 : decode cX1_drift 311 = .ok (.idiv, 1) := dk_108 (dk_at dksX1_drift_13 11 rfl rfl)
theorem dX1_drift_312 : decode cX1_drift 312 = .ok (.iadd, 1) := dk_96 (dk_at dksX1_drift_13 12 rfl rfl)
theorem dX1_drift_313 : decode cX1_drift 313 = .ok (.iconst 1, 1) := dk_4 (dk_at dksX1_drift_13 13 rfl rfl)
theorem dX1_drift_314 : decode cX1_drift 314 = .ok (.iand, 1) := dk_126 (dk_at dksX1_drift_13 14 rfl rfl)
theorem dX1_drift_315 : decode cX1_drift 315 = .ok (.istore 11, 2) := dk_54 11 (dk_at dksX1_drift_13 15 rfl rfl)
theorem dX1_drift_317 : decode cX1_drift 317 = .ok (.iload 10, 2) := dk_21 10 (dk_at dksX1_drift_13 17 rfl rfl)
theorem dX1_drift_319 : decode cX1_drift 319 = .ok (.iload 6, 2) := dk_21 6 (dk_at dksX1_drift_13 19 rfl rfl)
theorem dX1_drift_321 : decode cX1_drift 321 = .ok (.idiv, 1) := dk_108 (dk_at dksX1_drift_13 21 rfl rfl)
theorem dX1_drift_322 : decode cX1_drift 322 = .ok (.iload 10, 2) := dk_21 10 (dk_at dksX1_drift_13 22 rfl rfl)
theorem dX1_drift_324 : decode cX1_drift 324 = .ok (.iload 6, 2) := dk_21 6 (dk_at dksX1_drift_14 0 rfl rfl)
theorem dX1_drift_326 : decode cX1_drift 326 = .ok (.irem, 1) := dk_112 (dk_at dksX1_drift_14 2 rfl rfl)
theorem dX1_drift_327 : decode cX1_drift 327 = .ok (.iload 6, 2) := dk_21 6 (dk_at dksX1_drift_14 3 rfl rfl)
theorem dX1_drift_329 : decode cX1_drift 329 = .ok (.iload 11, 2) := dk_21 11 (dk_at dksX1_drift_14 5 rfl rfl)
theorem dX1_drift_331 : decode cX1_drift 331 = .ok (.iload_n 2, 1) := dk_28 (dk_at dksX1_drift_14 7 rfl rfl)
theorem dX1_drift_332 : decode cX1_drift 332 = .ok (.invokestatic 316, 3) := dk_184 1 60 (dk_at dksX1_drift_14 8 rfl rfl)
theorem dX1_drift_335 : decode cX1_drift 335 = .ok (.iadd, 1) := dk_96 (dk_at dksX1_drift_14 11 rfl rfl)
theorem dX1_drift_336 : decode cX1_drift 336 = .ok (.istore 12, 2) := dk_54 12 (dk_at dksX1_drift_14 12 rfl rfl)
theorem dX1_drift_338 : decode cX1_drift 338 = .ok (.iload 5, 2) := dk_21 5 (dk_at dksX1_drift_14 14 rfl rfl)
theorem dX1_drift_340 : decode cX1_drift 340 = .ok (.ifCond .ne 30, 3) := dk_154 0 30 (dk_at dksX1_drift_14 16 rfl rfl)
theorem dX1_drift_343 : decode cX1_drift 343 = .ok (.aload_n 0, 1) := dk_42 (dk_at dksX1_drift_14 19 rfl rfl)
theorem dX1_drift_344 : decode cX1_drift 344 = .ok (.getfield 133, 3) := dk_180 0 133 (dk_at dksX1_drift_14 20 rfl rfl)
theorem dX1_drift_347 : decode cX1_drift 347 = .ok (.iload 9, 2) := dk_21 9 (dk_at dksX1_drift_15 0 rfl rfl)
theorem dX1_drift_349 : decode cX1_drift 349 = .ok (.iaload, 1) := dk_46 (dk_at dksX1_drift_15 2 rfl rfl)
theorem dX1_drift_350 : decode cX1_drift 350 = .ok (.iload 12, 2) := dk_21 12 (dk_at dksX1_drift_15 3 rfl rfl)
theorem dX1_drift_352 : decode cX1_drift 352 = .ok (.isub, 1) := dk_100 (dk_at dksX1_drift_15 5 rfl rfl)
theorem dX1_drift_353 : decode cX1_drift 353 = .ok (.iload 8, 2) := dk_21 8 (dk_at dksX1_drift_15 6 rfl rfl)
theorem dX1_drift_355 : decode cX1_drift 355 = .ok (.if_icmp .le 15, 3) := dk_164 0 15 (dk_at dksX1_drift_15 8 rfl rfl)
theorem dX1_drift_358 : decode cX1_drift 358 = .ok (.aload_n 0, 1) := dk_42 (dk_at dksX1_drift_15 11 rfl rfl)
theorem dX1_drift_359 : decode cX1_drift 359 = .ok (.getfield 133, 3) := dk_180 0 133 (dk_at dksX1_drift_15 12 rfl rfl)
theorem dX1_drift_362 : decode cX1_drift 362 = .ok (.iload 9, 2) := dk_21 9 (dk_at dksX1_drift_15 15 rfl rfl)
theorem dX1_drift_364 : decode cX1_drift 364 = .ok (.iaload, 1) := dk_46 (dk_at dksX1_drift_15 17 rfl rfl)
theorem dX1_drift_365 : decode cX1_drift 365 = .ok (.iload 12, 2) := dk_21 12 (dk_at dksX1_drift_15 18 rfl rfl)
theorem dX1_drift_367 : decode cX1_drift 367 = .ok (.isub, 1) := dk_100 (dk_at dksX1_drift_15 20 rfl rfl)
theorem dX1_drift_368 : decode cX1_drift 368 = .ok (.istore 8, 2) := dk_54 8 (dk_at dksX1_drift_15 21 rfl rfl)
theorem dX1_drift_370 : decode cX1_drift 370 = .ok (.iload 5, 2) := dk_21 5 (dk_at dksX1_drift_16 0 rfl rfl)
theorem dX1_drift_372 : decode cX1_drift 372 = .ok (.iconst 1, 1) := dk_4 (dk_at dksX1_drift_16 2 rfl rfl)
theorem dX1_drift_373 : decode cX1_drift 373 = .ok (.if_icmp .ne 30, 3) := dk_160 0 30 (dk_at dksX1_drift_16 3 rfl rfl)
theorem dX1_drift_376 : decode cX1_drift 376 = .ok (.aload_n 0, 1) := dk_42 (dk_at dksX1_drift_16 6 rfl rfl)
theorem dX1_drift_377 : decode cX1_drift 377 = .ok (.getfield 136, 3) := dk_180 0 136 (dk_at dksX1_drift_16 7 rfl rfl)
theorem dX1_drift_380 : decode cX1_drift 380 = .ok (.iload 9, 2) := dk_21 9 (dk_at dksX1_drift_16 10 rfl rfl)
theorem dX1_drift_382 : decode cX1_drift 382 = .ok (.iaload, 1) := dk_46 (dk_at dksX1_drift_16 12 rfl rfl)
theorem dX1_drift_383 : decode cX1_drift 383 = .ok (.iload 12, 2) := dk_21 12 (dk_at dksX1_drift_16 13 rfl rfl)
theorem dX1_drift_385 : decode cX1_drift 385 = .ok (.isub, 1) := dk_100 (dk_at dksX1_drift_16 15 rfl rfl)
theorem dX1_drift_386 : decode cX1_drift 386 = .ok (.iload 8, 2) := dk_21 8 (dk_at dksX1_drift_16 16 rfl rfl)
theorem dX1_drift_388 : decode cX1_drift 388 = .ok (.if_icmp .ge 15, 3) := dk_162 0 15 (dk_at dksX1_drift_16 18 rfl rfl)
theorem dX1_drift_391 : decode cX1_drift 391 = .ok (.aload_n 0, 1) := dk_42 (dk_at dksX1_drift_16 21 rfl rfl)
theorem dX1_drift_392 : decode cX1_drift 392 = .ok (.getfield 136, 3) := dk_180 0 136 (dk_at dksX1_drift_17 0 rfl rfl)
theorem dX1_drift_395 : decode cX1_drift 395 = .ok (.iload 9, 2) := dk_21 9 (dk_at dksX1_drift_17 3 rfl rfl)
theorem dX1_drift_397 : decode cX1_drift 397 = .ok (.iaload, 1) := dk_46 (dk_at dksX1_drift_17 5 rfl rfl)
theorem dX1_drift_398 : decode cX1_drift 398 = .ok (.iload 12, 2) := dk_21 12 (dk_at dksX1_drift_17 6 rfl rfl)
theorem dX1_drift_400 : decode cX1_drift 400 = .ok (.isub, 1) := dk_100 (dk_at dksX1_drift_17 8 rfl rfl)
theorem dX1_drift_401 : decode cX1_drift 401 = .ok (.istore 8, 2) := dk_54 8 (dk_at dksX1_drift_17 9 rfl rfl)
theorem dX1_drift_403 : decode cX1_drift 403 = .ok (.iinc 9 1, 3) := dk_132 9 1 (dk_at dksX1_drift_17 11 rfl rfl)
theorem dX1_drift_406 : decode cX1_drift 406 = .ok (.goto (-132), 3) := dk_167 255 124 (dk_at dksX1_drift_17 14 rfl rfl)
theorem dX1_drift_409 : decode cX1_drift 409 = .ok (.iload 8, 2) := dk_21 8 (dk_at dksX1_drift_17 17 rfl rfl)
theorem dX1_drift_411 : decode cX1_drift 411 = .ok (.ireturn, 1) := dk_172 (dk_at dksX1_drift_17 19 rfl rfl)
abbrev cX1_spread : ByteArray := prog_1_method_44_code
def yX1_spread : MethodName := ⟨RX1, "spread", "(IIIII)V"⟩
def dkwX1_spread_8 : List UInt8 := [180, 0, 136, 21, 13, 46, 21, 12, 96, 79, 132, 13, 1, 167, 255, 135, 132, 9, 1, 167, 255, 89, 177]
abbrev dktX1_spread_8 : List UInt8 := dkwX1_spread_8 ++ []
def dkwX1_spread_7 : List UInt8 := [21, 13, 46, 21, 12, 96, 42, 180, 0, 142, 21, 14, 46, 162, 0, 20, 42, 180, 0, 142, 21, 14, 42]
abbrev dktX1_spread_7 : List UInt8 := dkwX1_spread_7 ++ dktX1_spread_8
def dkwX1_spread_6 : List UInt8 := [164, 0, 20, 42, 180, 0, 139, 21, 14, 42, 180, 0, 133, 21, 13, 46, 21, 12, 96, 79, 42, 180, 0, 136]
abbrev dktX1_spread_6 : List UInt8 := dkwX1_spread_6 ++ dktX1_spread_7
def dkwX1_spread_5 : List UInt8 := [96, 4, 126, 96, 54, 14, 42, 180, 0, 133, 21, 13, 46, 21, 12, 96, 42, 180, 0, 139, 21, 14, 46]
abbrev dktX1_spread_5 : List UInt8 := dkwX1_spread_5 ++ dktX1_spread_6
def dkwX1_spread_4 : List UInt8 := [17, 252, 24, 160, 0, 6, 167, 0, 98, 21, 13, 5, 108, 21, 10, 96, 5, 104, 21, 13, 4, 126, 21, 11]
abbrev dktX1_spread_4 : List UInt8 := dkwX1_spread_4 ++ dktX1_spread_5
def dkwX1_spread_3 : List UInt8 := [21, 4, 184, 1, 60, 54, 12, 3, 54, 13, 21, 13, 21, 6, 162, 0, 120, 42, 180, 0, 133, 21, 13, 46]
abbrev dktX1_spread_3 : List UInt8 := dkwX1_spread_3 ++ dktX1_spread_4
def dkwX1_spread_2 : List UInt8 := [21, 9, 29, 104, 27, 112, 54, 10, 21, 9, 29, 104, 27, 108, 4, 126, 54, 11, 21, 10, 27, 21, 11]
abbrev dktX1_spread_2 : List UInt8 := dkwX1_spread_2 ++ dktX1_spread_3
def dkwX1_spread_1 : List UInt8 := [162, 0, 8, 21, 5, 167, 0, 7, 21, 7, 4, 100, 54, 8, 3, 54, 9, 21, 9, 21, 8, 163, 0, 166]
abbrev dktX1_spread_1 : List UInt8 := dkwX1_spread_1 ++ dktX1_spread_2
def dkwX1_spread_0 : List UInt8 := [28, 27, 4, 100, 104, 4, 96, 5, 104, 54, 6, 5, 27, 104, 54, 7, 21, 5, 21, 7, 4, 100]
abbrev dktX1_spread_0 : List UInt8 := dkwX1_spread_0 ++ dktX1_spread_1
theorem dksX1_spread_0 : cX1_spread.data.toList.drop 0 = dktX1_spread_0 := by decide +kernel
theorem dksX1_spread_1 : cX1_spread.data.toList.drop 22 = dktX1_spread_1 := dk_seg dksX1_spread_0 22 rfl rfl
theorem dksX1_spread_2 : cX1_spread.data.toList.drop 46 = dktX1_spread_2 := dk_seg dksX1_spread_1 24 rfl rfl
theorem dksX1_spread_3 : cX1_spread.data.toList.drop 69 = dktX1_spread_3 := dk_seg dksX1_spread_2 23 rfl rfl
theorem dksX1_spread_4 : cX1_spread.data.toList.drop 93 = dktX1_spread_4 := dk_seg dksX1_spread_3 24 rfl rfl
theorem dksX1_spread_5 : cX1_spread.data.toList.drop 117 = dktX1_spread_5 := dk_seg dksX1_spread_4 24 rfl rfl
theorem dksX1_spread_6 : cX1_spread.data.toList.drop 140 = dktX1_spread_6 := dk_seg dksX1_spread_5 23 rfl rfl
theorem dksX1_spread_7 : cX1_spread.data.toList.drop 164 = dktX1_spread_7 := dk_seg dksX1_spread_6 24 rfl rfl
theorem dksX1_spread_8 : cX1_spread.data.toList.drop 187 = dktX1_spread_8 := dk_seg dksX1_spread_7 23 rfl rfl
theorem dX1_spread_0 : decode cX1_spread 0 = .ok (.iload_n 2, 1) := dk_28 (dk_at dksX1_spread_0 0 rfl rfl)
theorem dX1_spread_1 : decode cX1_spread 1 = .ok (.iload_n 1, 1) := dk_27 (dk_at dksX1_spread_0 1 rfl rfl)
theorem dX1_spread_2 : decode cX1_spread 2 = .ok (.iconst 1, 1) := dk_4 (dk_at dksX1_spread_0 2 rfl rfl)
theorem dX1_spread_3 : decode cX1_spread 3 = .ok (.isub, 1) := dk_100 (dk_at dksX1_spread_0 3 rfl rfl)
theorem dX1_spread_4 : decode cX1_spread 4 = .ok (.imul, 1) := dk_104 (dk_at dksX1_spread_0 4 rfl rfl)
theorem dX1_spread_5 : decode cX1_spread 5 = .ok (.iconst 1, 1) := dk_4 (dk_at dksX1_spread_0 5 rfl rfl)
theorem dX1_spread_6 : decode cX1_spread 6 = .ok (.iadd, 1) := dk_96 (dk_at dksX1_spread_0 6 rfl rfl)
theorem dX1_spread_7 : decode cX1_spread 7 = .ok (.iconst 2, 1) := dk_5 (dk_at dksX1_spread_0 7 rfl rfl)
theorem dX1_spread_8 : decode cX1_spread 8 = .ok (.imul, 1) := dk_104 (dk_at dksX1_spread_0 8 rfl rfl)
theorem dX1_spread_9 : decode cX1_spread 9 = .ok (.istore 6, 2) := dk_54 6 (dk_at dksX1_spread_0 9 rfl rfl)
theorem dX1_spread_11 : decode cX1_spread 11 = .ok (.iconst 2, 1) := dk_5 (dk_at dksX1_spread_0 11 rfl rfl)
theorem dX1_spread_12 : decode cX1_spread 12 = .ok (.iload_n 1, 1) := dk_27 (dk_at dksX1_spread_0 12 rfl rfl)
theorem dX1_spread_13 : decode cX1_spread 13 = .ok (.imul, 1) := dk_104 (dk_at dksX1_spread_0 13 rfl rfl)
theorem dX1_spread_14 : decode cX1_spread 14 = .ok (.istore 7, 2) := dk_54 7 (dk_at dksX1_spread_0 14 rfl rfl)
theorem dX1_spread_16 : decode cX1_spread 16 = .ok (.iload 5, 2) := dk_21 5 (dk_at dksX1_spread_0 16 rfl rfl)
theorem dX1_spread_18 : decode cX1_spread 18 = .ok (.iload 7, 2) := dk_21 7 (dk_at dksX1_spread_0 18 rfl rfl)
theorem dX1_spread_20 : decode cX1_spread 20 = .ok (.iconst 1, 1) := dk_4 (dk_at dksX1_spread_0 20 rfl rfl)
theorem dX1_spread_21 : decode cX1_spread 21 = .ok (.isub, 1) := dk_100 (dk_at dksX1_spread_0 21 rfl rfl)
theorem dX1_spread_22 : decode cX1_spread 22 = .ok (.if_icmp .ge 8, 3) := dk_162 0 8 (dk_at dksX1_spread_1 0 rfl rfl)
theorem dX1_spread_25 : decode cX1_spread 25 = .ok (.iload 5, 2) := dk_21 5 (dk_at dksX1_spread_1 3 rfl rfl)
theorem dX1_spread_27 : decode cX1_spread 27 = .ok (.goto 7, 3) := dk_167 0 7 (dk_at dksX1_spread_1 5 rfl rfl)
theorem dX1_spread_30 : decode cX1_spread 30 = .ok (.iload 7, 2) := dk_21 7 (dk_at dksX1_spread_1 8 rfl rfl)
theorem dX1_spread_32 : decode cX1_spread 32 = .ok (.iconst 1, 1) := dk_4 (dk_at dksX1_spread_1 10 rfl rfl)
theorem dX1_spread_33 : decode cX1_spread 33 = .ok (.isub, 1) := dk_100 (dk_at dksX1_spread_1 11 rfl rfl)
theorem dX1_spread_34 : decode cX1_spread 34 = .ok (.istore 8, 2) := dk_54 8 (dk_at dksX1_spread_1 12 rfl rfl)
theorem dX1_spread_36 : decode cX1_spread 36 = .ok (.iconst 0, 1) := dk_3 (dk_at dksX1_spread_1 14 rfl rfl)
theorem dX1_spread_37 : decode cX1_spread 37 = .ok (.istore 9, 2) := dk_54 9 (dk_at dksX1_spread_1 15 rfl rfl)
theorem dX1_spread_39 : decode cX1_spread 39 = .ok (.iload 9, 2) := dk_21 9 (dk_at dksX1_spread_1 17 rfl rfl)
theorem dX1_spread_41 : decode cX1_spread 41 = .ok (.iload 8, 2) := dk_21 8 (dk_at dksX1_spread_1 19 rfl rfl)
theorem dX1_spread_43 : decode cX1_spread 43 = .ok (.if_icmp .gt 166, 3) := dk_163 0 166 (dk_at dksX1_spread_1 21 rfl rfl)
theorem dX1_spread_46 : decode cX1_spread 46 = .ok (.iload 9, 2) := dk_21 9 (dk_at dksX1_spread_2 0 rfl rfl)
theorem dX1_spread_48 : decode cX1_spread 48 = .ok (.iload_n 3, 1) := dk_29 (dk_at dksX1_spread_2 2 rfl rfl)
theorem dX1_spread_49 : decode cX1_spread 49 = .ok (.imul, 1) := dk_104 (dk_at dksX1_spread_2 3 rfl rfl)
theorem dX1_spread_50 : decode cX1_spread 50 = .ok (.iload_n 1, 1) := dk_27 (dk_at dksX1_spread_2 4 rfl rfl)
theorem dX1_spread_51 : decode cX1_spread 51 = .ok (.irem, 1) := dk_112 (dk_at dksX1_spread_2 5 rfl rfl)
theorem dX1_spread_52 : decode cX1_spread 52 = .ok (.istore 10, 2) := dk_54 10 (dk_at dksX1_spread_2 6 rfl rfl)
theorem dX1_spread_54 : decode cX1_spread 54 = .ok (.iload 9, 2) := dk_21 9 (dk_at dksX1_spread_2 8 rfl rfl)
theorem dX1_spread_56 : decode cX1_spread 56 = .ok (.iload_n 3, 1) := dk_29 (dk_at dksX1_spread_2 10 rfl rfl)
theorem dX1_spread_57 : decode cX1_spread 57 = .ok (.imul, 1) := dk_104 (dk_at dksX1_spread_2 11 rfl rfl)
theorem dX1_spread_58 : decode cX1_spread 58 = .ok (.iload_n 1, 1) := dk_27 (dk_at dksX1_spread_2 12 rfl rfl)
theorem dX1_spread_59 : decode cX1_spread 59 = .ok (.idiv, 1) := dk_108 (dk_at dksX1_spread_2 13 rfl rfl)
theorem dX1_spread_60 : decode cX1_spread 60 = .ok (.iconst 1, 1) := dk_4 (dk_at dksX1_spread_2 14 rfl rfl)
theorem dX1_spread_61 : decode cX1_spread 61 = .ok (.iand, 1) := dk_126 (dk_at dksX1_spread_2 15 rfl rfl)
theorem dX1_spread_62 : decode cX1_spread 62 = .ok (.istore 11, 2) := dk_54 11 (dk_at dksX1_spread_2 16 rfl rfl)
theorem dX1_spread_64 : decode cX1_spread 64 = .ok (.iload 10, 2) := dk_21 10 (dk_at dksX1_spread_2 18 rfl rfl)
theorem dX1_spread_66 : decode cX1_spread 66 = .ok (.iload_n 1, 1) := dk_27 (dk_at dksX1_spread_2 20 rfl rfl)
theorem dX1_spread_67 : decode cX1_spread 67 = .ok (.iload 11, 2) := dk_21 11 (dk_at dksX1_spread_2 21 rfl rfl)
theorem dX1_spread_69 : decode cX1_spread 69 = .ok (.iload 4, 2) := dk_21 4 (dk_at dksX1_spread_3 0 rfl rfl)
theorem dX1_spread_71 : decode cX1_spread 71 = .ok (.invokestatic 316, 3) := dk_184 1 60 (dk_at dksX1_spread_3 2 rfl rfl)
theorem dX1_spread_74 : decode cX1_spread 74 = .ok (.istore 12, 2) := dk_54 12 (dk_at dksX1_spread_3 5 rfl rfl)
theorem dX1_spread_76 : decode cX1_spread 76 = .ok (.iconst 0, 1) := dk_3 (dk_at dksX1_spread_3 7 rfl rfl)
theorem dX1_spread_77 : decode cX1_spread 77 = .ok (.istore 13, 2) := dk_54 13 (dk_at dksX1_spread_3 8 rfl rfl)
theorem dX1_spread_79 : decode cX1_spread 79 = .ok (.iload 13, 2) := dk_21 13 (dk_at dksX1_spread_3 10 rfl rfl)
theorem dX1_spread_81 : decode cX1_spread 81 = .ok (.iload 6, 2) := dk_21 6 (dk_at dksX1_spread_3 12 rfl rfl)
theorem dX1_spread_83 : decode cX1_spread 83 = .ok (.if_icmp .ge 120, 3) := dk_162 0 120 (dk_at dksX1_spread_3 14 rfl rfl)
theorem dX1_spread_86 : decode cX1_spread 86 = .ok (.aload_n 0, 1) := dk_42 (dk_at dksX1_spread_3 17 rfl rfl)
theorem dX1_spread_87 : decode cX1_spread 87 = .ok (.getfield 133, 3) := dk_180 0 133 (dk_at dksX1_spread_3 18 rfl rfl)
theorem dX1_spread_90 : decode cX1_spread 90 = .ok (.iload 13, 2) := dk_21 13 (dk_at dksX1_spread_3 21 rfl rfl)
theorem dX1_spread_92 : decode cX1_spread 92 = .ok (.iaload, 1) := dk_46 (dk_at dksX1_spread_3 23 rfl rfl)
theorem dX1_spread_93 : decode cX1_spread 93 = .ok (.sipush (-1000), 3) := dk_17 252 24 (dk_at dksX1_spread_4 0 rfl rfl)
theorem dX1_spread_96 : decode cX1_spread 96 = .ok (.if_icmp .ne 6, 3) := dk_160 0 6 (dk_at dksX1_spread_4 3 rfl rfl)
theorem dX1_spread_99 : decode cX1_spread 99 = .ok (.goto 98, 3) := dk_167 0 98 (dk_at dksX1_spread_4 6 rfl rfl)
theorem dX1_spread_102 : decode cX1_spread 102 = .ok (.iload 13, 2) := dk_21 13 (dk_at dksX1_spread_4 9 rfl rfl)
theorem dX1_spread_104 : decode cX1_spread 104 = .ok (.iconst 2, 1) := dk_5 (dk_at dksX1_spread_4 11 rfl rfl)
theorem dX1_spread_105 : decode cX1_spread 105 = .ok (.idiv, 1) := dk_108 (dk_at dksX1_spread_4 12 rfl rfl)
theorem dX1_spread_106 : decode cX1_spread 106 = .ok (.iload 10, 2) := dk_21 10 (dk_at dksX1_spread_4 13 rfl rfl)
theorem dX1_spread_108 : decode cX1_spread 108 = .ok (.iadd, 1) := dk_96 (dk_at dksX1_spread_4 15 rfl rfl)
theorem dX1_spread_109 : decode cX1_spread 109 = .ok (.iconst 2, 1) := dk_5 (dk_at dksX1_spread_4 16 rfl rfl)
theorem dX1_spread_110 : decode cX1_spread 110 = .ok (.imul, 1) := dk_104 (dk_at dksX1_spread_4 17 rfl rfl)
theorem dX1_spread_111 : decode cX1_spread 111 = .ok (.iload 13, 2) := dk_21 13 (dk_at dksX1_spread_4 18 rfl rfl)
theorem dX1_spread_113 : decode cX1_spread 113 = .ok (.iconst 1, 1) := dk_4 (dk_at dksX1_spread_4 20 rfl rfl)
theorem dX1_spread_114 : decode cX1_spread 114 = .ok (.iand, 1) := dk_126 (dk_at dksX1_spread_4 21 rfl rfl)
theorem dX1_spread_115 : decode cX1_spread 115 = .ok (.iload 11, 2) := dk_21 11 (dk_at dksX1_spread_4 22 rfl rfl)
theorem dX1_spread_117 : decode cX1_spread 117 = .ok (.iadd, 1) := dk_96 (dk_at dksX1_spread_5 0 rfl rfl)
theorem dX1_spread_118 : decode cX1_spread 118 = .ok (.iconst 1, 1) := dk_4 (dk_at dksX1_spread_5 1 rfl rfl)
theorem dX1_spread_119 : decode cX1_spread 119 = .ok (.iand, 1) := dk_126 (dk_at dksX1_spread_5 2 rfl rfl)
theorem dX1_spread_120 : decode cX1_spread 120 = .ok (.iadd, 1) := dk_96 (dk_at dksX1_spread_5 3 rfl rfl)
theorem dX1_spread_121 : decode cX1_spread 121 = .ok (.istore 14, 2) := dk_54 14 (dk_at dksX1_spread_5 4 rfl rfl)
theorem dX1_spread_123 : decode cX1_spread 123 = .ok (.aload_n 0, 1) := dk_42 (dk_at dksX1_spread_5 6 rfl rfl)
theorem dX1_spread_124 : decode cX1_spread 124 = .ok (.getfield 133, 3) := dk_180 0 133 (dk_at dksX1_spread_5 7 rfl rfl)
theorem dX1_spread_127 : decode cX1_spread 127 = .ok (.iload 13, 2) := dk_21 13 (dk_at dksX1_spread_5 10 rfl rfl)
theorem dX1_spread_129 : decode cX1_spread 129 = .ok (.iaload, 1) := dk_46 (dk_at dksX1_spread_5 12 rfl rfl)
theorem dX1_spread_130 : decode cX1_spread 130 = .ok (.iload 12, 2) := dk_21 12 (dk_at dksX1_spread_5 13 rfl rfl)
theorem dX1_spread_132 : decode cX1_spread 132 = .ok (.iadd, 1) := dk_96 (dk_at dksX1_spread_5 15 rfl rfl)
theorem dX1_spread_133 : decode cX1_spread 133 = .ok (.aload_n 0, 1) := dk_42 (dk_at dksX1_spread_5 16 rfl rfl)
theorem dX1_spread_134 : decode cX1_spread 134 = .ok (.getfield 139, 3) := dk_180 0 139 (dk_at dksX1_spread_5 17 rfl rfl)
theorem dX1_spread_137 : decode cX1_spread 137 = .ok (.iload 14, 2) := dk_21 14 (dk_at dksX1_spread_5 20 rfl rfl)
theorem dX1_spread_139 : decode cX1_spread 139 = .ok (.iaload, 1) := dk_46 (dk_at dksX1_spread_5 22 rfl rfl)
theorem dX1_spread_140 : decode cX1_spread 140 = .ok (.if_icmp .le 20, 3) := dk_164 0 20 (dk_at dksX1_spread_6 0 rfl rfl)
theorem dX1_spread_143 : decode cX1_spread 143 = .ok (.aload_n 0, 1) := dk_42 (dk_at dksX1_spread_6 3 rfl rfl)
theorem dX1_spread_144 : decode cX1_spread 144 = .ok (.getfield 139, 3) := dk_180 0 139 (dk_at dksX1_spread_6 4 rfl rfl)
theorem dX1_spread_147 : decode cX1_spread 147 = .ok (.iload 14, 2) := dk_21 14 (dk_at dksX1_spread_6 7 rfl rfl)
theorem dX1_spread_149 : decode cX1_spread 149 = .ok (.aload_n 0, 1) := dk_42 (dk_at dksX1_spread_6 9 rfl rfl)
theorem dX1_spread_150 : decode cX1_spread 150 = .ok (.getfield 133, 3) := dk_180 0 133 (dk_at dksX1_spread_6 10 rfl rfl)
theorem dX1_spread_153 : decode cX1_spread 153 = .ok (.iload 13, 2) := dk_21 13 (dk_at dksX1_spread_6 13 rfl rfl)
theorem dX1_spread_155 : decode cX1_spread 155 = .ok (.iaload, 1) := dk_46 (dk_at dksX1_spread_6 15 rfl rfl)
theorem dX1_spread_156 : decode cX1_spread 156 = .ok (.iload 12, 2) := dk_21 12 (dk_at dksX1_spread_6 16 rfl rfl)
theorem dX1_spread_158 : decode cX1_spread 158 = .ok (.iadd, 1) := dk_96 (dk_at dksX1_spread_6 18 rfl rfl)
theorem dX1_spread_159 : decode cX1_spread 159 = .ok (.iastore, 1) := dk_79 (dk_at dksX1_spread_6 19 rfl rfl)
theorem dX1_spread_160 : decode cX1_spread 160 = .ok (.aload_n 0, 1) := dk_42 (dk_at dksX1_spread_6 20 rfl rfl)
theorem dX1_spread_161 : decode cX1_spread 161 = .ok (.getfield 136, 3) := dk_180 0 136 (dk_at dksX1_spread_6 21 rfl rfl)
theorem dX1_spread_164 : decode cX1_spread 164 = .ok (.iload 13, 2) := dk_21 13 (dk_at dksX1_spread_7 0 rfl rfl)
theorem dX1_spread_166 : decode cX1_spread 166 = .ok (.iaload, 1) := dk_46 (dk_at dksX1_spread_7 2 rfl rfl)
theorem dX1_spread_167 : decode cX1_spread 167 = .ok (.iload 12, 2) := dk_21 12 (dk_at dksX1_spread_7 3 rfl rfl)
theorem dX1_spread_169 : decode cX1_spread 169 = .ok (.iadd, 1) := dk_96 (dk_at dksX1_spread_7 5 rfl rfl)
theorem dX1_spread_170 : decode cX1_spread 170 = .ok (.aload_n 0, 1) := dk_42 (dk_at dksX1_spread_7 6 rfl rfl)
theorem dX1_spread_171 : decode cX1_spread 171 = .ok (.getfield 142, 3) := dk_180 0 142 (dk_at dksX1_spread_7 7 rfl rfl)
theorem dX1_spread_174 : decode cX1_spread 174 = .ok (.iload 14, 2) := dk_21 14 (dk_at dksX1_spread_7 10 rfl rfl)
theorem dX1_spread_176 : decode cX1_spread 176 = .ok (.iaload, 1) := dk_46 (dk_at dksX1_spread_7 12 rfl rfl)
theorem dX1_spread_177 : decode cX1_spread 177 = .ok (.if_icmp .ge 20, 3) := dk_162 0 20 (dk_at dksX1_spread_7 13 rfl rfl)
theorem dX1_spread_180 : decode cX1_spread 180 = .ok (.aload_n 0, 1) := dk_42 (dk_at dksX1_spread_7 16 rfl rfl)
theorem dX1_spread_181 : decode cX1_spread 181 = .ok (.getfield 142, 3) := dk_180 0 142 (dk_at dksX1_spread_7 17 rfl rfl)
theorem dX1_spread_184 : decode cX1_spread 184 = .ok (.iload 14, 2) := dk_21 14 (dk_at dksX1_spread_7 20 rfl rfl)
theorem dX1_spread_186 : decode cX1_spread 186 = .ok (.aload_n 0, 1) := dk_42 (dk_at dksX1_spread_7 22 rfl rfl)
theorem dX1_spread_187 : decode cX1_spread 187 = .ok (.getfield 136, 3) := dk_180 0 136 (dk_at dksX1_spread_8 0 rfl rfl)
theorem dX1_spread_190 : decode cX1_spread 190 = .ok (.iload 13, 2) := dk_21 13 (dk_at dksX1_spread_8 3 rfl rfl)
theorem dX1_spread_192 : decode cX1_spread 192 = .ok (.iaload, 1) := dk_46 (dk_at dksX1_spread_8 5 rfl rfl)
theorem dX1_spread_193 : decode cX1_spread 193 = .ok (.iload 12, 2) := dk_21 12 (dk_at dksX1_spread_8 6 rfl rfl)
theorem dX1_spread_195 : decode cX1_spread 195 = .ok (.iadd, 1) := dk_96 (dk_at dksX1_spread_8 8 rfl rfl)
theorem dX1_spread_196 : decode cX1_spread 196 = .ok (.iastore, 1) := dk_79 (dk_at dksX1_spread_8 9 rfl rfl)
theorem dX1_spread_197 : decode cX1_spread 197 = .ok (.iinc 13 1, 3) := dk_132 13 1 (dk_at dksX1_spread_8 10 rfl rfl)
theorem dX1_spread_200 : decode cX1_spread 200 = .ok (.goto (-121), 3) := dk_167 255 135 (dk_at dksX1_spread_8 13 rfl rfl)
theorem dX1_spread_203 : decode cX1_spread 203 = .ok (.iinc 9 1, 3) := dk_132 9 1 (dk_at dksX1_spread_8 16 rfl rfl)
theorem dX1_spread_206 : decode cX1_spread 206 = .ok (.goto (-167), 3) := dk_167 255 89 (dk_at dksX1_spread_8 19 rfl rfl)
theorem dX1_spread_209 : decode cX1_spread 209 = .ok (.return_, 1) := dk_177 (dk_at dksX1_spread_8 22 rfl rfl)
abbrev cX1_up : ByteArray := prog_1_method_42_code
def yX1_up : MethodName := ⟨RX1, "up", "(IIII)I"⟩
def dkwX1_up_0 : List UInt8 := [28, 133, 27, 133, 105, 26, 133, 97, 27, 133, 29, 184, 0, 223, 28, 133, 101, 136, 172]
abbrev dktX1_up_0 : List UInt8 := dkwX1_up_0 ++ []
theorem dksX1_up_0 : cX1_up.data.toList.drop 0 = dktX1_up_0 := by decide +kernel
theorem dX1_up_0 : decode cX1_up 0 = .ok (.iload_n 2, 1) := dk_28 (dk_at dksX1_up_0 0 rfl rfl)
theorem dX1_up_1 : decode cX1_up 1 = .ok (.i2l, 1) := dk_133 (dk_at dksX1_up_0 1 rfl rfl)
theorem dX1_up_2 : decode cX1_up 2 = .ok (.iload_n 1, 1) := dk_27 (dk_at dksX1_up_0 2 rfl rfl)
theorem dX1_up_3 : decode cX1_up 3 = .ok (.i2l, 1) := dk_133 (dk_at dksX1_up_0 3 rfl rfl)
theorem dX1_up_4 : decode cX1_up 4 = .ok (.lmul, 1) := dk_105 (dk_at dksX1_up_0 4 rfl rfl)
theorem dX1_up_5 : decode cX1_up 5 = .ok (.iload_n 0, 1) := dk_26 (dk_at dksX1_up_0 5 rfl rfl)
theorem dX1_up_6 : decode cX1_up 6 = .ok (.i2l, 1) := dk_133 (dk_at dksX1_up_0 6 rfl rfl)
theorem dX1_up_7 : decode cX1_up 7 = .ok (.ladd, 1) := dk_97 (dk_at dksX1_up_0 7 rfl rfl)
theorem dX1_up_8 : decode cX1_up 8 = .ok (.iload_n 1, 1) := dk_27 (dk_at dksX1_up_0 8 rfl rfl)
theorem dX1_up_9 : decode cX1_up 9 = .ok (.i2l, 1) := dk_133 (dk_at dksX1_up_0 9 rfl rfl)
theorem dX1_up_10 : decode cX1_up 10 = .ok (.iload_n 3, 1) := dk_29 (dk_at dksX1_up_0 10 rfl rfl)
theorem dX1_up_11 : decode cX1_up 11 = .ok (.invokestatic 223, 3) := dk_184 0 223 (dk_at dksX1_up_0 11 rfl rfl)
theorem dX1_up_14 : decode cX1_up 14 = .ok (.iload_n 2, 1) := dk_28 (dk_at dksX1_up_0 14 rfl rfl)
theorem dX1_up_15 : decode cX1_up 15 = .ok (.i2l, 1) := dk_133 (dk_at dksX1_up_0 15 rfl rfl)
theorem dX1_up_16 : decode cX1_up 16 = .ok (.lsub, 1) := dk_101 (dk_at dksX1_up_0 16 rfl rfl)
theorem dX1_up_17 : decode cX1_up 17 = .ok (.l2i, 1) := dk_136 (dk_at dksX1_up_0 17 rfl rfl)
theorem dX1_up_18 : decode cX1_up 18 = .ok (.ireturn, 1) := dk_172 (dk_at dksX1_up_0 18 rfl rfl)
abbrev cX1_rounded : ByteArray := prog_1_method_47_code
def yX1_rounded : MethodName := ⟨RX1, "rounded", "(JIII)J"⟩
def dkwX1_rounded_3 : List UInt8 := [21, 4, 133, 105, 173]
abbrev dktX1_rounded_3 : List UInt8 := dkwX1_rounded_3 ++ []
def dkwX1_rounded_2 : List UInt8 := [164, 0, 11, 187, 0, 251, 89, 183, 0, 253, 191, 31, 29, 133, 21, 4, 133, 105, 21, 5, 184, 0, 223]
abbrev dktX1_rounded_2 : List UInt8 := dkwX1_rounded_2 ++ dktX1_rounded_3
def dkwX1_rounded_1 : List UInt8 := [31, 20, 1, 74, 148, 157, 0, 22, 31, 20, 1, 76, 148, 155, 0, 14, 21, 5, 155, 0, 9, 21, 5, 8]
abbrev dktX1_rounded_1 : List UInt8 := dkwX1_rounded_1 ++ dktX1_rounded_2
def dkwX1_rounded_0 : List UInt8 := [29, 4, 161, 0, 49, 29, 18, 73, 163, 0, 43, 21, 4, 4, 161, 0, 37, 21, 4, 18, 73, 163, 0, 30]
abbrev dktX1_rounded_0 : List UInt8 := dkwX1_rounded_0 ++ dktX1_rounded_1
theorem dksX1_rounded_0 : cX1_rounded.data.toList.drop 0 = dktX1_rounded_0 := by decide +kernel
theorem dksX1_rounded_1 : cX1_rounded.data.toList.drop 24 = dktX1_rounded_1 := dk_seg dksX1_rounded_0 24 rfl rfl
theorem dksX1_rounded_2 : cX1_rounded.data.toList.drop 48 = dktX1_rounded_2 := dk_seg dksX1_rounded_1 24 rfl rfl
theorem dksX1_rounded_3 : cX1_rounded.data.toList.drop 71 = dktX1_rounded_3 := dk_seg dksX1_rounded_2 23 rfl rfl
theorem dX1_rounded_0 : decode cX1_rounded 0 = .ok (.iload_n 3, 1) := dk_29 (dk_at dksX1_rounded_0 0 rfl rfl)
theorem dX1_rounded_1 : decode cX1_rounded 1 = .ok (.iconst 1, 1) := dk_4 (dk_at dksX1_rounded_0 1 rfl rfl)
theorem dX1_rounded_2 : decode cX1_rounded 2 = .ok (.if_icmp .lt 49, 3) := dk_161 0 49 (dk_at dksX1_rounded_0 2 rfl rfl)
theorem dX1_rounded_5 : decode cX1_rounded 5 = .ok (.iload_n 3, 1) := dk_29 (dk_at dksX1_rounded_0 5 rfl rfl)
theorem dX1_rounded_6 : decode cX1_rounded 6 = .ok (.ldc 73, 2) := dk_18 73 (dk_at dksX1_rounded_0 6 rfl rfl)
theorem dX1_rounded_8 : decode cX1_rounded 8 = .ok (.if_icmp .gt 43, 3) := dk_163 0 43 (dk_at dksX1_rounded_0 8 rfl rfl)
theorem dX1_rounded_11 : decode cX1_rounded 11 = .ok (.iload 4, 2) := dk_21 4 (dk_at dksX1_rounded_0 11 rfl rfl)
theorem dX1_rounded_13 : decode cX1_rounded 13 = .ok (.iconst 1, 1) := dk_4 (dk_at dksX1_rounded_0 13 rfl rfl)
theorem dX1_rounded_14 : decode cX1_rounded 14 = .ok (.if_icmp .lt 37, 3) := dk_161 0 37 (dk_at dksX1_rounded_0 14 rfl rfl)
theorem dX1_rounded_17 : decode cX1_rounded 17 = .ok (.iload 4, 2) := dk_21 4 (dk_at dksX1_rounded_0 17 rfl rfl)
theorem dX1_rounded_19 : decode cX1_rounded 19 = .ok (.ldc 73, 2) := dk_18 73 (dk_at dksX1_rounded_0 19 rfl rfl)
theorem dX1_rounded_21 : decode cX1_rounded 21 = .ok (.if_icmp .gt 30, 3) := dk_163 0 30 (dk_at dksX1_rounded_0 21 rfl rfl)
theorem dX1_rounded_24 : decode cX1_rounded 24 = .ok (.lload_n 1, 1) := dk_31 (dk_at dksX1_rounded_1 0 rfl rfl)
theorem dX1_rounded_25 : decode cX1_rounded 25 = .ok (.ldc2_w 330, 3) := dk_20 1 74 (dk_at dksX1_rounded_1 1 rfl rfl)
theorem dX1_rounded_28 : decode cX1_rounded 28 = .ok (.lcmp, 1) := dk_148 (dk_at dksX1_rounded_1 4 rfl rfl)
theorem dX1_rounded_29 : decode cX1_rounded 29 = .ok (.ifCond .gt 22, 3) := dk_157 0 22 (dk_at dksX1_rounded_1 5 rfl rfl)
theorem dX1_rounded_32 : decode cX1_rounded 32 = .ok (.lload_n 1, 1) := dk_31 (dk_at dksX1_rounded_1 8 rfl rfl)
theorem dX1_rounded_33 : decode cX1_rounded 33 = .ok (.ldc2_w 332, 3) := dk_20 1 76 (dk_at dksX1_rounded_1 9 rfl rfl)
theorem dX1_rounded_36 : decode cX1_rounded 36 = .ok (.lcmp, 1) := dk_148 (dk_at dksX1_rounded_1 12 rfl rfl)
theorem dX1_rounded_37 : decode cX1_rounded 37 = .ok (.ifCond .lt 14, 3) := dk_155 0 14 (dk_at dksX1_rounded_1 13 rfl rfl)
theorem dX1_rounded_40 : decode cX1_rounded 40 = .ok (.iload 5, 2) := dk_21 5 (dk_at dksX1_rounded_1 16 rfl rfl)
theorem dX1_rounded_42 : decode cX1_rounded 42 = .ok (.ifCond .lt 9, 3) := dk_155 0 9 (dk_at dksX1_rounded_1 18 rfl rfl)
theorem dX1_rounded_45 : decode cX1_rounded 45 = .ok (.iload 5, 2) := dk_21 5 (dk_at dksX1_rounded_1 21 rfl rfl)
theorem dX1_rounded_47 : decode cX1_rounded 47 = .ok (.iconst 5, 1) := dk_8 (dk_at dksX1_rounded_1 23 rfl rfl)
theorem dX1_rounded_48 : decode cX1_rounded 48 = .ok (.if_icmp .le 11, 3) := dk_164 0 11 (dk_at dksX1_rounded_2 0 rfl rfl)
theorem dX1_rounded_51 : decode cX1_rounded 51 = .ok (.new 251, 3) := dk_187 0 251 (dk_at dksX1_rounded_2 3 rfl rfl)
theorem dX1_rounded_54 : decode cX1_rounded 54 = .ok (.dup, 1) := dk_89 (dk_at dksX1_rounded_2 6 rfl rfl)
theorem dX1_rounded_55 : decode cX1_rounded 55 = .ok (.invokespecial 253, 3) := dk_183 0 253 (dk_at dksX1_rounded_2 7 rfl rfl)
theorem dX1_rounded_58 : decode cX1_rounded 58 = .ok (.athrow, 1) := dk_191 (dk_at dksX1_rounded_2 10 rfl rfl)
theorem dX1_rounded_59 : decode cX1_rounded 59 = .ok (.lload_n 1, 1) := dk_31 (dk_at dksX1_rounded_2 11 rfl rfl)
theorem dX1_rounded_60 : decode cX1_rounded 60 = .ok (.iload_n 3, 1) := dk_29 (dk_at dksX1_rounded_2 12 rfl rfl)
theorem dX1_rounded_61 : decode cX1_rounded 61 = .ok (.i2l, 1) := dk_133 (dk_at dksX1_rounded_2 13 rfl rfl)
theorem dX1_rounded_62 : decode cX1_rounded 62 = .ok (.iload 4, 2) := dk_21 4 (dk_at dksX1_rounded_2 14 rfl rfl)
theorem dX1_rounded_64 : decode cX1_rounded 64 = .ok (.i2l, 1) := dk_133 (dk_at dksX1_rounded_2 16 rfl rfl)
theorem dX1_rounded_65 : decode cX1_rounded 65 = .ok (.lmul, 1) := dk_105 (dk_at dksX1_rounded_2 17 rfl rfl)
theorem dX1_rounded_66 : decode cX1_rounded 66 = .ok (.iload 5, 2) := dk_21 5 (dk_at dksX1_rounded_2 18 rfl rfl)
theorem dX1_rounded_68 : decode cX1_rounded 68 = .ok (.invokestatic 223, 3) := dk_184 0 223 (dk_at dksX1_rounded_2 20 rfl rfl)
theorem dX1_rounded_71 : decode cX1_rounded 71 = .ok (.iload 4, 2) := dk_21 4 (dk_at dksX1_rounded_3 0 rfl rfl)
theorem dX1_rounded_73 : decode cX1_rounded 73 = .ok (.i2l, 1) := dk_133 (dk_at dksX1_rounded_3 2 rfl rfl)
theorem dX1_rounded_74 : decode cX1_rounded 74 = .ok (.lmul, 1) := dk_105 (dk_at dksX1_rounded_3 3 rfl rfl)
theorem dX1_rounded_75 : decode cX1_rounded 75 = .ok (.lreturn, 1) := dk_173 (dk_at dksX1_rounded_3 4 rfl rfl)
abbrev cX1_at : ByteArray := prog_1_method_59_code
def yX1_at : MethodName := ⟨RX1, "at", "(II)J"⟩
def dkwX1_at_2 : List UInt8 := [187, 1, 136, 89, 183, 1, 138, 191, 58, 5, 187, 1, 136, 89, 183, 1, 138, 191, 33, 173]
abbrev dktX1_at_2 : List UInt8 := dkwX1_at_2 ++ []
def dkwX1_at_1 : List UInt8 := [180, 1, 81, 28, 184, 1, 133, 66, 167, 0, 33, 58, 5, 187, 1, 136, 89, 183, 1, 138, 191, 58, 5]
abbrev dktX1_at_1 : List UInt8 := dkwX1_at_1 ++ dktX1_at_2
def dkwX1_at_0 : List UInt8 := [42, 27, 182, 1, 78, 154, 0, 11, 187, 0, 251, 89, 183, 0, 253, 191, 42, 180, 0, 147, 27, 50]
abbrev dktX1_at_0 : List UInt8 := dkwX1_at_0 ++ dktX1_at_1
theorem dksX1_at_0 : cX1_at.data.toList.drop 0 = dktX1_at_0 := by decide +kernel
theorem dksX1_at_1 : cX1_at.data.toList.drop 22 = dktX1_at_1 := dk_seg dksX1_at_0 22 rfl rfl
theorem dksX1_at_2 : cX1_at.data.toList.drop 45 = dktX1_at_2 := dk_seg dksX1_at_1 23 rfl rfl
theorem dX1_at_0 : decode cX1_at 0 = .ok (.aload_n 0, 1) := dk_42 (dk_at dksX1_at_0 0 rfl rfl)
theorem dX1_at_1 : decode cX1_at 1 = .ok (.iload_n 1, 1) := dk_27 (dk_at dksX1_at_0 1 rfl rfl)
theorem dX1_at_2 : decode cX1_at 2 = .ok (.invokevirtual 334, 3) := dk_182 1 78 (dk_at dksX1_at_0 2 rfl rfl)
theorem dX1_at_5 : decode cX1_at 5 = .ok (.ifCond .ne 11, 3) := dk_154 0 11 (dk_at dksX1_at_0 5 rfl rfl)
theorem dX1_at_8 : decode cX1_at 8 = .ok (.new 251, 3) := dk_187 0 251 (dk_at dksX1_at_0 8 rfl rfl)
theorem dX1_at_11 : decode cX1_at 11 = .ok (.dup, 1) := dk_89 (dk_at dksX1_at_0 11 rfl rfl)
theorem dX1_at_12 : decode cX1_at 12 = .ok (.invokespecial 253, 3) := dk_183 0 253 (dk_at dksX1_at_0 12 rfl rfl)
theorem dX1_at_15 : decode cX1_at 15 = .ok (.athrow, 1) := dk_191 (dk_at dksX1_at_0 15 rfl rfl)
theorem dX1_at_16 : decode cX1_at 16 = .ok (.aload_n 0, 1) := dk_42 (dk_at dksX1_at_0 16 rfl rfl)
theorem dX1_at_17 : decode cX1_at 17 = .ok (.getfield 147, 3) := dk_180 0 147 (dk_at dksX1_at_0 17 rfl rfl)
theorem dX1_at_20 : decode cX1_at 20 = .ok (.iload_n 1, 1) := dk_27 (dk_at dksX1_at_0 20 rfl rfl)
theorem dX1_at_21 : decode cX1_at 21 = .ok (.aaload, 1) := dk_50 (dk_at dksX1_at_0 21 rfl rfl)
theorem dX1_at_22 : decode cX1_at 22 = .ok (.getfield 337, 3) := dk_180 1 81 (dk_at dksX1_at_1 0 rfl rfl)
theorem dX1_at_25 : decode cX1_at 25 = .ok (.iload_n 2, 1) := dk_28 (dk_at dksX1_at_1 3 rfl rfl)
theorem dX1_at_26 : decode cX1_at 26 = .ok (.invokestatic 389, 3) := dk_184 1 133 (dk_at dksX1_at_1 4 rfl rfl)
theorem dX1_at_29 : decode cX1_at 29 = .ok (.lstore_n 3, 1) := dk_66 (dk_at dksX1_at_1 7 rfl rfl)
theorem dX1_at_30 : decode cX1_at 30 = .ok (.goto 33, 3) := dk_167 0 33 (dk_at dksX1_at_1 8 rfl rfl)
theorem dX1_at_33 : decode cX1_at 33 = .ok (.astore 5, 2) := dk_58 5 (dk_at dksX1_at_1 11 rfl rfl)
theorem dX1_at_35 : decode cX1_at 35 = .ok (.new 392, 3) := dk_187 1 136 (dk_at dksX1_at_1 13 rfl rfl)
theorem dX1_at_38 : decode cX1_at 38 = .ok (.dup, 1) := dk_89 (dk_at dksX1_at_1 16 rfl rfl)
theorem dX1_at_39 : decode cX1_at 39 = .ok (.invokespecial 394, 3) := dk_183 1 138 (dk_at dksX1_at_1 17 rfl rfl)
theorem dX1_at_42 : decode cX1_at 42 = .ok (.athrow, 1) := dk_191 (dk_at dksX1_at_1 20 rfl rfl)
theorem dX1_at_43 : decode cX1_at 43 = .ok (.astore 5, 2) := dk_58 5 (dk_at dksX1_at_1 21 rfl rfl)
theorem dX1_at_45 : decode cX1_at 45 = .ok (.new 392, 3) := dk_187 1 136 (dk_at dksX1_at_2 0 rfl rfl)
theorem dX1_at_48 : decode cX1_at 48 = .ok (.dup, 1) := dk_89 (dk_at dksX1_at_2 3 rfl rfl)
theorem dX1_at_49 : decode cX1_at 49 = .ok (.invokespecial 394, 3) := dk_183 1 138 (dk_at dksX1_at_2 4 rfl rfl)
theorem dX1_at_52 : decode cX1_at 52 = .ok (.athrow, 1) := dk_191 (dk_at dksX1_at_2 7 rfl rfl)
theorem dX1_at_53 : decode cX1_at 53 = .ok (.astore 5, 2) := dk_58 5 (dk_at dksX1_at_2 8 rfl rfl)
theorem dX1_at_55 : decode cX1_at 55 = .ok (.new 392, 3) := dk_187 1 136 (dk_at dksX1_at_2 10 rfl rfl)
theorem dX1_at_58 : decode cX1_at 58 = .ok (.dup, 1) := dk_89 (dk_at dksX1_at_2 13 rfl rfl)
theorem dX1_at_59 : decode cX1_at 59 = .ok (.invokespecial 394, 3) := dk_183 1 138 (dk_at dksX1_at_2 14 rfl rfl)
theorem dX1_at_62 : decode cX1_at 62 = .ok (.athrow, 1) := dk_191 (dk_at dksX1_at_2 17 rfl rfl)
theorem dX1_at_63 : decode cX1_at 63 = .ok (.lload_n 3, 1) := dk_33 (dk_at dksX1_at_2 18 rfl rfl)
theorem dX1_at_64 : decode cX1_at 64 = .ok (.lreturn, 1) := dk_173 (dk_at dksX1_at_2 19 rfl rfl)
abbrev cX1_element : ByteArray := prog_1_method_58_code
def yX1_element : MethodName := ⟨RX1, "element", "(Ljava/lang/Object;I)J"⟩
def dkwX1_element_0 : List UInt8 := [42, 193, 1, 131, 153, 0, 13, 42, 192, 1, 131, 27, 51, 133, 167, 0, 8, 42, 27, 184, 1, 118, 173]
abbrev dktX1_element_0 : List UInt8 := dkwX1_element_0 ++ []
theorem dksX1_element_0 : cX1_element.data.toList.drop 0 = dktX1_element_0 := by decide +kernel
theorem dX1_element_0 : decode cX1_element 0 = .ok (.aload_n 0, 1) := dk_42 (dk_at dksX1_element_0 0 rfl rfl)
theorem dX1_element_1 : decode cX1_element 1 = .ok (.instanceof 387, 3) := dk_193 1 131 (dk_at dksX1_element_0 1 rfl rfl)
theorem dX1_element_4 : decode cX1_element 4 = .ok (.ifCond .eq 13, 3) := dk_153 0 13 (dk_at dksX1_element_0 4 rfl rfl)
theorem dX1_element_7 : decode cX1_element 7 = .ok (.aload_n 0, 1) := dk_42 (dk_at dksX1_element_0 7 rfl rfl)
theorem dX1_element_8 : decode cX1_element 8 = .ok (.checkcast 387, 3) := dk_192 1 131 (dk_at dksX1_element_0 8 rfl rfl)
theorem dX1_element_11 : decode cX1_element 11 = .ok (.iload_n 1, 1) := dk_27 (dk_at dksX1_element_0 11 rfl rfl)
theorem dX1_element_12 : decode cX1_element 12 = .ok (.baload, 1) := dk_51 (dk_at dksX1_element_0 12 rfl rfl)
theorem dX1_element_13 : decode cX1_element 13 = .ok (.i2l, 1) := dk_133 (dk_at dksX1_element_0 13 rfl rfl)
theorem dX1_element_14 : decode cX1_element 14 = .ok (.goto 8, 3) := dk_167 0 8 (dk_at dksX1_element_0 14 rfl rfl)
theorem dX1_element_17 : decode cX1_element 17 = .ok (.aload_n 0, 1) := dk_42 (dk_at dksX1_element_0 17 rfl rfl)
theorem dX1_element_18 : decode cX1_element 18 = .ok (.iload_n 1, 1) := dk_27 (dk_at dksX1_element_0 18 rfl rfl)
theorem dX1_element_19 : decode cX1_element 19 = .ok (.invokestatic 374, 3) := dk_184 1 118 (dk_at dksX1_element_0 19 rfl rfl)
theorem dX1_element_22 : decode cX1_element 22 = .ok (.lreturn, 1) := dk_173 (dk_at dksX1_element_0 22 rfl rfl)
theorem q58 : (Jvm.Cond.initialized "PennyJudge") ∈ lw_all := lw_g (lw_at lw_m1 1 rfl) rfl
theorem q96 : (Jvm.Cond.instantiable "PennyJudge" (25 : Nat)) ∈ lw_all := lw_g (lw_at lw_m1 39 rfl) rfl
theorem q98 : (Jvm.Cond.instanceMethod ({ cls := "PennyJudge", name := "<init>", desc := "()V" } : Jvm.MethodName)) ∈ lw_all := lw_g (lw_at lw_m1 41 rfl) rfl
theorem q99 : (Jvm.Cond.code ({ cls := "PennyJudge", name := "<init>", desc := "()V" } : Jvm.MethodName) prog_1_method_9_code (2 : Nat) (Option.none : Option Jvm.ClassFile.FieldType)) ∈ lw_all := lw_g (lw_at lw_m1 42 rfl) rfl
theorem q100 : (Jvm.Cond.methodLink "PennyJudge" (74 : Nat) ({ cls := "java/lang/Object", name := "<init>", desc := "()V" } : Jvm.MethodName)) ∈ lw_all := lw_g (lw_at lw_m1 43 rfl) rfl
theorem q103 : (Jvm.Cond.classLink "PennyJudge" (95 : Nat) "PennyJudge$Program") ∈ lw_all := lw_g (lw_at lw_m1 46 rfl) rfl
theorem q105 : (Jvm.Cond.classLink "PennyJudge" (105 : Nat) "PennyJudge$Run") ∈ lw_all := lw_g (lw_at lw_m1 48 rfl) rfl
theorem q107 : (Jvm.Cond.methodLinkNest "PennyJudge" (107 : Nat) ({ cls := "PennyJudge$Run", name := "<init>", desc := "()V" } : Jvm.MethodName) "PennyJudge") ∈ lw_tbl := lw_at lw_m1 50 rfl
theorem q121 : (Jvm.Cond.fieldLink "PennyJudge" (254 : Nat) "PennyJudge$Run" "num" "[J") ∈ lw_all := lw_g (lw_at lw_m1 64 rfl) rfl
theorem q130 : (Jvm.Cond.fieldLink "PennyJudge" (257 : Nat) "PennyJudge$Run" "den" "[J") ∈ lw_all := lw_g (lw_at lw_m1 73 rfl) rfl
theorem q137 : (Jvm.Cond.fieldLink "PennyJudge" (260 : Nat) "PennyJudge$Run" "shown" "[Z") ∈ lw_all := lw_g (lw_at lw_m1 80 rfl) rfl
theorem q141 : (Jvm.Cond.fieldLink "PennyJudge" (264 : Nat) "PennyJudge$Run" "parts" "[J") ∈ lw_all := lw_g (lw_at lw_m1 84 rfl) rfl
theorem q147 : (Jvm.Cond.fieldLink "PennyJudge" (272 : Nat) "PennyJudge$Run" "splitSet" "I") ∈ lw_all := lw_g (lw_at lw_m1 90 rfl) rfl
theorem q149 : (Jvm.Cond.fieldLink "PennyJudge" (275 : Nat) "PennyJudge$Run" "splitValue" "J") ∈ lw_all := lw_g (lw_at lw_m1 92 rfl) rfl
theorem q153 : (Jvm.Cond.fieldLink "PennyJudge" (267 : Nat) "PennyJudge$Run" "results" "[J") ∈ lw_all := lw_g (lw_at lw_m1 96 rfl) rfl
theorem q164 : (Jvm.Cond.fieldLink "PennyJudge" (239 : Nat) "PennyJudge$Run" "carriedNum" "J") ∈ lw_all := lw_g (lw_at lw_m1 107 rfl) rfl
theorem q167 : (Jvm.Cond.fieldLink "PennyJudge" (243 : Nat) "PennyJudge$Run" "carriedDen" "J") ∈ lw_all := lw_g (lw_at lw_m1 110 rfl) rfl
theorem q170 : (Jvm.Cond.fieldLink "PennyJudge" (233 : Nat) "PennyJudge$Run" "accounts" "[J") ∈ lw_all := lw_g (lw_at lw_m1 113 rfl) rfl
theorem q173 : (Jvm.Cond.fieldLink "PennyJudge" (234 : Nat) "PennyJudge$Run" "leaks" "I") ∈ lw_all := lw_g (lw_at lw_m1 116 rfl) rfl
theorem q199 : (Jvm.Cond.fieldLink "PennyJudge" (152 : Nat) "PennyJudge$Run" "of" "LPennyJudge;") ∈ lw_all := lw_g (lw_at lw_m1 142 rfl) rfl
theorem q243 : (Jvm.Cond.classLink "PennyJudge" (145 : Nat) "PennyJudge$Tape") ∈ lw_all := lw_g (lw_at lw_m1 186 rfl) rfl
theorem q246 : (Jvm.Cond.methodLinkNest "PennyJudge" (151 : Nat) ({ cls := "PennyJudge$Tape", name := "<init>", desc := "()V" } : Jvm.MethodName) "PennyJudge") ∈ lw_tbl := lw_at lw_m1 189 rfl
theorem q251 : (Jvm.Cond.fieldLink "PennyJudge" (337 : Nat) "PennyJudge$Tape" "it" "Ljava/lang/Object;") ∈ lw_all := lw_g (lw_at lw_m1 194 rfl) rfl
theorem q255 : (Jvm.Cond.methodLink "PennyJudge" (156 : Nat) ({ cls := "PennyJudge", name := "begin", desc := "()I" } : Jvm.MethodName)) ∈ lw_all := lw_g (lw_at lw_m1 198 rfl) rfl
theorem q256 : (Jvm.Cond.instanceMethod ({ cls := "PennyJudge", name := "begin", desc := "()I" } : Jvm.MethodName)) ∈ lw_all := lw_g (lw_at lw_m1 199 rfl) rfl
theorem q257 : (Jvm.Cond.selects "PennyJudge" ({ cls := "PennyJudge", name := "begin", desc := "()I" } : Jvm.MethodName) ({ cls := "PennyJudge", name := "begin", desc := "()I" } : Jvm.MethodName)) ∈ lw_all := lw_g (lw_at lw_m1 200 rfl) rfl
theorem q258 : (Jvm.Cond.code ({ cls := "PennyJudge", name := "begin", desc := "()I" } : Jvm.MethodName) prog_1_method_10_code (2 : Nat) (Option.some Jvm.ClassFile.FieldType.int)) ∈ lw_all := lw_g (lw_at lw_m1 201 rfl) rfl
theorem q259 : (Jvm.Cond.methodLink "PennyJudge" (173 : Nat) ({ cls := "PennyJudge$Run", name := "begin", desc := "()V" } : Jvm.MethodName)) ∈ lw_all := lw_g (lw_at lw_m1 202 rfl) rfl
theorem q263 : (Jvm.Cond.methodLink "PennyJudge" (175 : Nat) ({ cls := "PennyJudge$Run", name := "bare", desc := "()V" } : Jvm.MethodName)) ∈ lw_all := lw_g (lw_at lw_m1 206 rfl) rfl
theorem q268 : (Jvm.Cond.fieldLink "PennyJudge" (79 : Nat) "PennyJudge" "p" "[I") ∈ lw_all := lw_g (lw_at lw_m1 211 rfl) rfl
theorem q270 : (Jvm.Cond.fieldLink "PennyJudge" (83 : Nat) "PennyJudge" "q" "[I") ∈ lw_all := lw_g (lw_at lw_m1 213 rfl) rfl
theorem q271 : (Jvm.Cond.fieldLink "PennyJudge" (86 : Nat) "PennyJudge" "lines" "[I") ∈ lw_all := lw_g (lw_at lw_m1 214 rfl) rfl
theorem q272 : (Jvm.Cond.fieldLink "PennyJudge" (160 : Nat) "PennyJudge" "lineCount" "I") ∈ lw_all := lw_g (lw_at lw_m1 215 rfl) rfl
theorem q273 : (Jvm.Cond.fieldLink "PennyJudge" (89 : Nat) "PennyJudge" "weights" "[I") ∈ lw_all := lw_g (lw_at lw_m1 216 rfl) rfl
theorem q274 : (Jvm.Cond.fieldLink "PennyJudge" (92 : Nat) "PennyJudge" "weightCount" "[I") ∈ lw_all := lw_g (lw_at lw_m1 217 rfl) rfl
theorem q275 : (Jvm.Cond.fieldLink "PennyJudge" (97 : Nat) "PennyJudge" "programs" "[LPennyJudge$Program;") ∈ lw_all := lw_g (lw_at lw_m1 218 rfl) rfl
theorem q276 : (Jvm.Cond.fieldLink "PennyJudge" (164 : Nat) "PennyJudge" "programCount" "I") ∈ lw_all := lw_g (lw_at lw_m1 219 rfl) rfl
theorem q277 : (Jvm.Cond.fieldLink "PennyJudge" (101 : Nat) "PennyJudge" "accounts" "[J") ∈ lw_all := lw_g (lw_at lw_m1 220 rfl) rfl
theorem q278 : (Jvm.Cond.fieldLink "PennyJudge" (167 : Nat) "PennyJudge" "leaks" "I") ∈ lw_all := lw_g (lw_at lw_m1 221 rfl) rfl
theorem q279 : (Jvm.Cond.fieldLink "PennyJudge" (108 : Nat) "PennyJudge" "last" "LPennyJudge$Run;") ∈ lw_all := lw_g (lw_at lw_m1 222 rfl) rfl
theorem q280 : (Jvm.Cond.fieldLink "PennyJudge" (112 : Nat) "PennyJudge" "one" "LPennyJudge$Run;") ∈ lw_all := lw_g (lw_at lw_m1 223 rfl) rfl
theorem q281 : (Jvm.Cond.fieldLink "PennyJudge" (115 : Nat) "PennyJudge" "two" "LPennyJudge$Run;") ∈ lw_all := lw_g (lw_at lw_m1 224 rfl) rfl
theorem q283 : (Jvm.Cond.fieldLink "PennyJudge" (118 : Nat) "PennyJudge" "pieces" "[J") ∈ lw_all := lw_g (lw_at lw_m1 226 rfl) rfl
theorem q284 : (Jvm.Cond.fieldLink "PennyJudge" (121 : Nat) "PennyJudge" "rests" "[J") ∈ lw_all := lw_g (lw_at lw_m1 227 rfl) rfl
theorem q285 : (Jvm.Cond.fieldLink "PennyJudge" (170 : Nat) "PennyJudge" "failed" "I") ∈ lw_all := lw_g (lw_at lw_m1 228 rfl) rfl
theorem q286 : (Jvm.Cond.fieldLink "PennyJudge" (124 : Nat) "PennyJudge" "order" "[I") ∈ lw_all := lw_g (lw_at lw_m1 229 rfl) rfl
theorem q287 : (Jvm.Cond.fieldLink "PennyJudge" (127 : Nat) "PennyJudge" "turned" "[I") ∈ lw_all := lw_g (lw_at lw_m1 230 rfl) rfl
theorem q288 : (Jvm.Cond.fieldLink "PennyJudge" (130 : Nat) "PennyJudge" "single" "[I") ∈ lw_all := lw_g (lw_at lw_m1 231 rfl) rfl
theorem q289 : (Jvm.Cond.fieldLink "PennyJudge" (133 : Nat) "PennyJudge" "most" "[I") ∈ lw_all := lw_g (lw_at lw_m1 232 rfl) rfl
theorem q290 : (Jvm.Cond.fieldLink "PennyJudge" (136 : Nat) "PennyJudge" "least" "[I") ∈ lw_all := lw_g (lw_at lw_m1 233 rfl) rfl
theorem q291 : (Jvm.Cond.fieldLink "PennyJudge" (139 : Nat) "PennyJudge" "nextMost" "[I") ∈ lw_all := lw_g (lw_at lw_m1 234 rfl) rfl
theorem q292 : (Jvm.Cond.fieldLink "PennyJudge" (142 : Nat) "PennyJudge" "nextLeast" "[I") ∈ lw_all := lw_g (lw_at lw_m1 235 rfl) rfl
theorem q293 : (Jvm.Cond.fieldLink "PennyJudge" (147 : Nat) "PennyJudge" "tapes" "[LPennyJudge$Tape;") ∈ lw_all := lw_g (lw_at lw_m1 236 rfl) rfl
theorem q294 : (Jvm.Cond.fieldLink "PennyJudge" (178 : Nat) "PennyJudge" "host" "I") ∈ lw_all := lw_g (lw_at lw_m1 237 rfl) rfl
theorem q295 : (Jvm.Cond.laysFinal "PennyJudge" "PennyJudge" "p" "[I") ∈ lw_all := lw_g (lw_at lw_m1 238 rfl) rfl
theorem q296 : (Jvm.Cond.soleField "PennyJudge" "p") ∈ lw_all := lw_g (lw_at lw_m1 239 rfl) rfl
theorem q297 : (Jvm.Cond.laysFinal "PennyJudge" "PennyJudge" "q" "[I") ∈ lw_all := lw_g (lw_at lw_m2 0 rfl) rfl
theorem q298 : (Jvm.Cond.soleField "PennyJudge" "q") ∈ lw_all := lw_g (lw_at lw_m2 1 rfl) rfl
theorem q299 : (Jvm.Cond.laysFinal "PennyJudge" "PennyJudge" "lines" "[I") ∈ lw_all := lw_g (lw_at lw_m2 2 rfl) rfl
theorem q300 : (Jvm.Cond.soleField "PennyJudge" "lines") ∈ lw_all := lw_g (lw_at lw_m2 3 rfl) rfl
theorem q301 : (Jvm.Cond.lays "PennyJudge" "PennyJudge" "lineCount" "I") ∈ lw_all := lw_g (lw_at lw_m2 4 rfl) rfl
theorem q302 : (Jvm.Cond.soleField "PennyJudge" "lineCount") ∈ lw_all := lw_g (lw_at lw_m2 5 rfl) rfl
theorem q303 : (Jvm.Cond.laysFinal "PennyJudge" "PennyJudge" "weights" "[I") ∈ lw_all := lw_g (lw_at lw_m2 6 rfl) rfl
theorem q304 : (Jvm.Cond.soleField "PennyJudge" "weights") ∈ lw_all := lw_g (lw_at lw_m2 7 rfl) rfl
theorem q305 : (Jvm.Cond.laysFinal "PennyJudge" "PennyJudge" "weightCount" "[I") ∈ lw_all := lw_g (lw_at lw_m2 8 rfl) rfl
theorem q306 : (Jvm.Cond.soleField "PennyJudge" "weightCount") ∈ lw_all := lw_g (lw_at lw_m2 9 rfl) rfl
theorem q307 : (Jvm.Cond.laysFinal "PennyJudge" "PennyJudge" "programs" "[LPennyJudge$Program;") ∈ lw_all := lw_g (lw_at lw_m2 10 rfl) rfl
theorem q308 : (Jvm.Cond.soleField "PennyJudge" "programs") ∈ lw_all := lw_g (lw_at lw_m2 11 rfl) rfl
theorem q309 : (Jvm.Cond.lays "PennyJudge" "PennyJudge" "programCount" "I") ∈ lw_all := lw_g (lw_at lw_m2 12 rfl) rfl
theorem q310 : (Jvm.Cond.soleField "PennyJudge" "programCount") ∈ lw_all := lw_g (lw_at lw_m2 13 rfl) rfl
theorem q311 : (Jvm.Cond.laysFinal "PennyJudge" "PennyJudge" "accounts" "[J") ∈ lw_all := lw_g (lw_at lw_m2 14 rfl) rfl
theorem q312 : (Jvm.Cond.soleField "PennyJudge" "accounts") ∈ lw_all := lw_g (lw_at lw_m2 15 rfl) rfl
theorem q313 : (Jvm.Cond.lays "PennyJudge" "PennyJudge" "leaks" "I") ∈ lw_all := lw_g (lw_at lw_m2 16 rfl) rfl
theorem q314 : (Jvm.Cond.soleField "PennyJudge" "leaks") ∈ lw_all := lw_g (lw_at lw_m2 17 rfl) rfl
theorem q315 : (Jvm.Cond.laysFinal "PennyJudge" "PennyJudge" "last" "LPennyJudge$Run;") ∈ lw_all := lw_g (lw_at lw_m2 18 rfl) rfl
theorem q316 : (Jvm.Cond.soleField "PennyJudge" "last") ∈ lw_all := lw_g (lw_at lw_m2 19 rfl) rfl
theorem q317 : (Jvm.Cond.laysFinal "PennyJudge" "PennyJudge" "one" "LPennyJudge$Run;") ∈ lw_all := lw_g (lw_at lw_m2 20 rfl) rfl
theorem q318 : (Jvm.Cond.soleField "PennyJudge" "one") ∈ lw_all := lw_g (lw_at lw_m2 21 rfl) rfl
theorem q319 : (Jvm.Cond.laysFinal "PennyJudge" "PennyJudge" "two" "LPennyJudge$Run;") ∈ lw_all := lw_g (lw_at lw_m2 22 rfl) rfl
theorem q320 : (Jvm.Cond.soleField "PennyJudge" "two") ∈ lw_all := lw_g (lw_at lw_m2 23 rfl) rfl
theorem q321 : (Jvm.Cond.laysFinal "PennyJudge" "PennyJudge" "pieces" "[J") ∈ lw_all := lw_g (lw_at lw_m2 24 rfl) rfl
theorem q322 : (Jvm.Cond.soleField "PennyJudge" "pieces") ∈ lw_all := lw_g (lw_at lw_m2 25 rfl) rfl
theorem q323 : (Jvm.Cond.laysFinal "PennyJudge" "PennyJudge" "rests" "[J") ∈ lw_all := lw_g (lw_at lw_m2 26 rfl) rfl
theorem q324 : (Jvm.Cond.soleField "PennyJudge" "rests") ∈ lw_all := lw_g (lw_at lw_m2 27 rfl) rfl
theorem q325 : (Jvm.Cond.lays "PennyJudge" "PennyJudge" "failed" "I") ∈ lw_all := lw_g (lw_at lw_m2 28 rfl) rfl
theorem q326 : (Jvm.Cond.soleField "PennyJudge" "failed") ∈ lw_all := lw_g (lw_at lw_m2 29 rfl) rfl
theorem q327 : (Jvm.Cond.laysFinal "PennyJudge" "PennyJudge" "order" "[I") ∈ lw_all := lw_g (lw_at lw_m2 30 rfl) rfl
theorem q328 : (Jvm.Cond.soleField "PennyJudge" "order") ∈ lw_all := lw_g (lw_at lw_m2 31 rfl) rfl
theorem q329 : (Jvm.Cond.laysFinal "PennyJudge" "PennyJudge" "turned" "[I") ∈ lw_all := lw_g (lw_at lw_m2 32 rfl) rfl
theorem q330 : (Jvm.Cond.soleField "PennyJudge" "turned") ∈ lw_all := lw_g (lw_at lw_m2 33 rfl) rfl
theorem q331 : (Jvm.Cond.laysFinal "PennyJudge" "PennyJudge" "single" "[I") ∈ lw_all := lw_g (lw_at lw_m2 34 rfl) rfl
theorem q332 : (Jvm.Cond.soleField "PennyJudge" "single") ∈ lw_all := lw_g (lw_at lw_m2 35 rfl) rfl
theorem q333 : (Jvm.Cond.laysFinal "PennyJudge" "PennyJudge" "most" "[I") ∈ lw_all := lw_g (lw_at lw_m2 36 rfl) rfl
theorem q334 : (Jvm.Cond.soleField "PennyJudge" "most") ∈ lw_all := lw_g (lw_at lw_m2 37 rfl) rfl
theorem q335 : (Jvm.Cond.laysFinal "PennyJudge" "PennyJudge" "least" "[I") ∈ lw_all := lw_g (lw_at lw_m2 38 rfl) rfl
theorem q336 : (Jvm.Cond.soleField "PennyJudge" "least") ∈ lw_all := lw_g (lw_at lw_m2 39 rfl) rfl
theorem q337 : (Jvm.Cond.laysFinal "PennyJudge" "PennyJudge" "nextMost" "[I") ∈ lw_all := lw_g (lw_at lw_m2 40 rfl) rfl
theorem q338 : (Jvm.Cond.soleField "PennyJudge" "nextMost") ∈ lw_all := lw_g (lw_at lw_m2 41 rfl) rfl
theorem q339 : (Jvm.Cond.laysFinal "PennyJudge" "PennyJudge" "nextLeast" "[I") ∈ lw_all := lw_g (lw_at lw_m2 42 rfl) rfl
theorem q340 : (Jvm.Cond.soleField "PennyJudge" "nextLeast") ∈ lw_all := lw_g (lw_at lw_m2 43 rfl) rfl
theorem q341 : (Jvm.Cond.laysFinal "PennyJudge" "PennyJudge" "tapes" "[LPennyJudge$Tape;") ∈ lw_all := lw_g (lw_at lw_m2 44 rfl) rfl
theorem q342 : (Jvm.Cond.soleField "PennyJudge" "tapes") ∈ lw_all := lw_g (lw_at lw_m2 45 rfl) rfl
theorem q343 : (Jvm.Cond.lays "PennyJudge" "PennyJudge" "host" "I") ∈ lw_all := lw_g (lw_at lw_m2 46 rfl) rfl
theorem q344 : (Jvm.Cond.soleField "PennyJudge" "host") ∈ lw_all := lw_g (lw_at lw_m2 47 rfl) rfl
theorem q345 : (Jvm.Cond.superclass "PennyJudge" "java/lang/Object") ∈ lw_all := lw_g (lw_at lw_m2 48 rfl) rfl
theorem q348 : (Jvm.Cond.instanceMethod ({ cls := "PennyJudge", name := "rate", desc := "(III)I" } : Jvm.MethodName)) ∈ lw_all := lw_g (lw_at lw_m2 51 rfl) rfl
theorem q349 : (Jvm.Cond.selects "PennyJudge" ({ cls := "PennyJudge", name := "rate", desc := "(III)I" } : Jvm.MethodName) ({ cls := "PennyJudge", name := "rate", desc := "(III)I" } : Jvm.MethodName)) ∈ lw_all := lw_g (lw_at lw_m2 52 rfl) rfl
theorem q350 : (Jvm.Cond.code ({ cls := "PennyJudge", name := "rate", desc := "(III)I" } : Jvm.MethodName) prog_1_method_13_code (4 : Nat) (Option.some Jvm.ClassFile.FieldType.int)) ∈ lw_all := lw_g (lw_at lw_m2 53 rfl) rfl
theorem q352 : (Jvm.Cond.instanceMethod ({ cls := "PennyJudge", name := "line", desc := "(I)I" } : Jvm.MethodName)) ∈ lw_all := lw_g (lw_at lw_m2 55 rfl) rfl
theorem q353 : (Jvm.Cond.selects "PennyJudge" ({ cls := "PennyJudge", name := "line", desc := "(I)I" } : Jvm.MethodName) ({ cls := "PennyJudge", name := "line", desc := "(I)I" } : Jvm.MethodName)) ∈ lw_all := lw_g (lw_at lw_m2 56 rfl) rfl
theorem q354 : (Jvm.Cond.code ({ cls := "PennyJudge", name := "line", desc := "(I)I" } : Jvm.MethodName) prog_1_method_14_code (2 : Nat) (Option.some Jvm.ClassFile.FieldType.int)) ∈ lw_all := lw_g (lw_at lw_m2 57 rfl) rfl
theorem q355 : (Jvm.Cond.constant "PennyJudge" (181 : Nat) (-1000000 : Int32)) ∈ lw_all := lw_g (lw_at lw_m2 58 rfl) rfl
theorem q356 : (Jvm.Cond.constant "PennyJudge" (73 : Nat) (1000000 : Int32)) ∈ lw_all := lw_g (lw_at lw_m2 59 rfl) rfl
theorem q358 : (Jvm.Cond.instanceMethod ({ cls := "PennyJudge", name := "bare", desc := "()I" } : Jvm.MethodName)) ∈ lw_all := lw_g (lw_at lw_m2 61 rfl) rfl
theorem q359 : (Jvm.Cond.selects "PennyJudge" ({ cls := "PennyJudge", name := "bare", desc := "()I" } : Jvm.MethodName) ({ cls := "PennyJudge", name := "bare", desc := "()I" } : Jvm.MethodName)) ∈ lw_all := lw_g (lw_at lw_m2 62 rfl) rfl
theorem q360 : (Jvm.Cond.code ({ cls := "PennyJudge", name := "bare", desc := "()I" } : Jvm.MethodName) prog_1_method_15_code (2 : Nat) (Option.some Jvm.ClassFile.FieldType.int)) ∈ lw_all := lw_g (lw_at lw_m2 63 rfl) rfl
theorem q362 : (Jvm.Cond.instanceMethod ({ cls := "PennyJudge", name := "weight", desc := "(II)I" } : Jvm.MethodName)) ∈ lw_all := lw_g (lw_at lw_m2 65 rfl) rfl
theorem q363 : (Jvm.Cond.selects "PennyJudge" ({ cls := "PennyJudge", name := "weight", desc := "(II)I" } : Jvm.MethodName) ({ cls := "PennyJudge", name := "weight", desc := "(II)I" } : Jvm.MethodName)) ∈ lw_all := lw_g (lw_at lw_m2 66 rfl) rfl
theorem q364 : (Jvm.Cond.code ({ cls := "PennyJudge", name := "weight", desc := "(II)I" } : Jvm.MethodName) prog_1_method_16_code (3 : Nat) (Option.some Jvm.ClassFile.FieldType.int)) ∈ lw_all := lw_g (lw_at lw_m2 67 rfl) rfl
theorem q366 : (Jvm.Cond.instanceMethod ({ cls := "PennyJudge", name := "program", desc := "()I" } : Jvm.MethodName)) ∈ lw_all := lw_g (lw_at lw_m2 69 rfl) rfl
theorem q367 : (Jvm.Cond.selects "PennyJudge" ({ cls := "PennyJudge", name := "program", desc := "()I" } : Jvm.MethodName) ({ cls := "PennyJudge", name := "program", desc := "()I" } : Jvm.MethodName)) ∈ lw_all := lw_g (lw_at lw_m2 70 rfl) rfl
theorem q368 : (Jvm.Cond.code ({ cls := "PennyJudge", name := "program", desc := "()I" } : Jvm.MethodName) prog_1_method_17_code (1 : Nat) (Option.some Jvm.ClassFile.FieldType.int)) ∈ lw_all := lw_g (lw_at lw_m2 71 rfl) rfl
theorem q370 : (Jvm.Cond.methodLinkNest "PennyJudge" (182 : Nat) ({ cls := "PennyJudge$Program", name := "<init>", desc := "()V" } : Jvm.MethodName) "PennyJudge") ∈ lw_tbl := lw_at lw_m2 73 rfl
theorem q377 : (Jvm.Cond.fieldLink "PennyJudge" (193 : Nat) "PennyJudge$Program" "acts" "[LPennyJudge$Act;") ∈ lw_all := lw_g (lw_at lw_m2 80 rfl) rfl
theorem q379 : (Jvm.Cond.fieldLink "PennyJudge" (190 : Nat) "PennyJudge$Program" "n" "I") ∈ lw_all := lw_g (lw_at lw_m2 82 rfl) rfl
theorem q380 : (Jvm.Cond.fieldLink "PennyJudge" (235 : Nat) "PennyJudge$Program" "carriedNum" "J") ∈ lw_all := lw_g (lw_at lw_m2 83 rfl) rfl
theorem q382 : (Jvm.Cond.fieldLink "PennyJudge" (240 : Nat) "PennyJudge$Program" "carriedDen" "J") ∈ lw_all := lw_g (lw_at lw_m2 85 rfl) rfl
theorem q393 : (Jvm.Cond.instanceMethod ({ cls := "PennyJudge", name := "act", desc := "(IIIII)I" } : Jvm.MethodName)) ∈ lw_all := lw_g (lw_at lw_m2 96 rfl) rfl
theorem q394 : (Jvm.Cond.selects "PennyJudge" ({ cls := "PennyJudge", name := "act", desc := "(IIIII)I" } : Jvm.MethodName) ({ cls := "PennyJudge", name := "act", desc := "(IIIII)I" } : Jvm.MethodName)) ∈ lw_all := lw_g (lw_at lw_m2 97 rfl) rfl
theorem q395 : (Jvm.Cond.code ({ cls := "PennyJudge", name := "act", desc := "(IIIII)I" } : Jvm.MethodName) prog_1_method_18_code (7 : Nat) (Option.some Jvm.ClassFile.FieldType.int)) ∈ lw_all := lw_g (lw_at lw_m2 98 rfl) rfl
theorem q396 : (Jvm.Cond.methodLink "PennyJudge" (183 : Nat) ({ cls := "PennyJudge", name := "isProgram", desc := "(I)Z" } : Jvm.MethodName)) ∈ lw_all := lw_g (lw_at lw_m2 99 rfl) rfl
theorem q397 : (Jvm.Cond.privateMethod ({ cls := "PennyJudge", name := "isProgram", desc := "(I)Z" } : Jvm.MethodName)) ∈ lw_tbl := lw_at lw_m2 100 rfl
theorem q398 : (Jvm.Cond.instanceMethod ({ cls := "PennyJudge", name := "isProgram", desc := "(I)Z" } : Jvm.MethodName)) ∈ lw_all := lw_g (lw_at lw_m2 101 rfl) rfl
theorem q399 : (Jvm.Cond.code ({ cls := "PennyJudge", name := "isProgram", desc := "(I)Z" } : Jvm.MethodName) prog_1_method_11_code (2 : Nat) (Option.some Jvm.ClassFile.FieldType.boolean)) ∈ lw_all := lw_g (lw_at lw_m2 102 rfl) rfl
theorem q400 : (Jvm.Cond.methodLink "PennyJudge" (187 : Nat) ({ cls := "PennyJudge", name := "fits", desc := "(III)Z" } : Jvm.MethodName)) ∈ lw_all := lw_g (lw_at lw_m2 103 rfl) rfl
theorem q401 : (Jvm.Cond.static ({ cls := "PennyJudge", name := "fits", desc := "(III)Z" } : Jvm.MethodName)) ∈ lw_all := lw_g (lw_at lw_m2 104 rfl) rfl
theorem q402 : (Jvm.Cond.code ({ cls := "PennyJudge", name := "fits", desc := "(III)Z" } : Jvm.MethodName) prog_1_method_8_code (3 : Nat) (Option.some Jvm.ClassFile.FieldType.boolean)) ∈ lw_all := lw_g (lw_at lw_m2 105 rfl) rfl
theorem q403 : (Jvm.Cond.methodLink "PennyJudge" (69 : Nat) ({ cls := "PennyJudge", name := "within", desc := "(III)Z" } : Jvm.MethodName)) ∈ lw_all := lw_g (lw_at lw_m2 106 rfl) rfl
theorem q404 : (Jvm.Cond.static ({ cls := "PennyJudge", name := "within", desc := "(III)Z" } : Jvm.MethodName)) ∈ lw_all := lw_g (lw_at lw_m2 107 rfl) rfl
theorem q405 : (Jvm.Cond.code ({ cls := "PennyJudge", name := "within", desc := "(III)Z" } : Jvm.MethodName) prog_1_method_7_code (3 : Nat) (Option.some Jvm.ClassFile.FieldType.boolean)) ∈ lw_all := lw_g (lw_at lw_m2 108 rfl) rfl
theorem q406 : (Jvm.Cond.methodLink "PennyJudge" (197 : Nat) ({ cls := "PennyJudge", name := "made", desc := "(IIII)LPennyJudge$Act;" } : Jvm.MethodName)) ∈ lw_all := lw_g (lw_at lw_m2 109 rfl) rfl
theorem q407 : (Jvm.Cond.static ({ cls := "PennyJudge", name := "made", desc := "(IIII)LPennyJudge$Act;" } : Jvm.MethodName)) ∈ lw_all := lw_g (lw_at lw_m2 110 rfl) rfl
theorem q408 : (Jvm.Cond.code ({ cls := "PennyJudge", name := "made", desc := "(IIII)LPennyJudge$Act;" } : Jvm.MethodName) prog_1_method_6_code (4 : Nat) (Option.some (Jvm.ClassFile.FieldType.object "PennyJudge$Act"))) ∈ lw_all := lw_g (lw_at lw_m2 111 rfl) rfl
theorem q409 : (Jvm.Cond.classLink "PennyJudge" (27 : Nat) "PennyJudge$Sum") ∈ lw_all := lw_g (lw_at lw_m2 112 rfl) rfl
theorem q411 : (Jvm.Cond.methodLink "PennyJudge" (29 : Nat) ({ cls := "PennyJudge$Sum", name := "<init>", desc := "(IIII)V" } : Jvm.MethodName)) ∈ lw_all := lw_g (lw_at lw_m2 114 rfl) rfl
theorem q419 : (Jvm.Cond.fieldLink "PennyJudge" (201 : Nat) "PennyJudge$Act" "kind" "I") ∈ lw_all := lw_g (lw_at lw_m2 122 rfl) rfl
theorem q447 : (Jvm.Cond.fieldLink "PennyJudge" (212 : Nat) "PennyJudge$Act" "s" "I") ∈ lw_all := lw_g (lw_at lw_m2 150 rfl) rfl
theorem q471 : (Jvm.Cond.fieldLink "PennyJudge" (206 : Nat) "PennyJudge$Act" "t" "I") ∈ lw_all := lw_g (lw_at lw_m2 174 rfl) rfl
theorem q493 : (Jvm.Cond.fieldLink "PennyJudge" (209 : Nat) "PennyJudge$Act" "v" "I") ∈ lw_all := lw_g (lw_at lw_m2 196 rfl) rfl
theorem q503 : (Jvm.Cond.classLink "PennyJudge" (33 : Nat) "PennyJudge$Tax") ∈ lw_all := lw_g (lw_at lw_m2 206 rfl) rfl
theorem q505 : (Jvm.Cond.methodLink "PennyJudge" (35 : Nat) ({ cls := "PennyJudge$Tax", name := "<init>", desc := "(IIII)V" } : Jvm.MethodName)) ∈ lw_all := lw_g (lw_at lw_m2 208 rfl) rfl
theorem q514 : (Jvm.Cond.classLink "PennyJudge" (36 : Nat) "PennyJudge$Flow") ∈ lw_all := lw_g (lw_at lw_m2 217 rfl) rfl
theorem q516 : (Jvm.Cond.methodLink "PennyJudge" (38 : Nat) ({ cls := "PennyJudge$Flow", name := "<init>", desc := "(IIII)V" } : Jvm.MethodName)) ∈ lw_all := lw_g (lw_at lw_m2 219 rfl) rfl
theorem q525 : (Jvm.Cond.classLink "PennyJudge" (39 : Nat) "PennyJudge$Rated") ∈ lw_all := lw_g (lw_at lw_m2 228 rfl) rfl
theorem q527 : (Jvm.Cond.methodLink "PennyJudge" (41 : Nat) ({ cls := "PennyJudge$Rated", name := "<init>", desc := "(IIII)V" } : Jvm.MethodName)) ∈ lw_all := lw_g (lw_at lw_m2 230 rfl) rfl
theorem q536 : (Jvm.Cond.classLink "PennyJudge" (42 : Nat) "PennyJudge$Rounded") ∈ lw_all := lw_g (lw_at lw_m2 239 rfl) rfl
theorem q538 : (Jvm.Cond.methodLink "PennyJudge" (44 : Nat) ({ cls := "PennyJudge$Rounded", name := "<init>", desc := "(IIII)V" } : Jvm.MethodName)) ∈ lw_all := lw_g (lw_at lw_m3 1 rfl) rfl
theorem q547 : (Jvm.Cond.classLink "PennyJudge" (45 : Nat) "PennyJudge$Added") ∈ lw_all := lw_g (lw_at lw_m3 10 rfl) rfl
theorem q549 : (Jvm.Cond.methodLink "PennyJudge" (47 : Nat) ({ cls := "PennyJudge$Added", name := "<init>", desc := "(IIII)V" } : Jvm.MethodName)) ∈ lw_all := lw_g (lw_at lw_m3 12 rfl) rfl
theorem q558 : (Jvm.Cond.classLink "PennyJudge" (48 : Nat) "PennyJudge$Split") ∈ lw_all := lw_g (lw_at lw_m3 21 rfl) rfl
theorem q560 : (Jvm.Cond.methodLink "PennyJudge" (50 : Nat) ({ cls := "PennyJudge$Split", name := "<init>", desc := "(IIII)V" } : Jvm.MethodName)) ∈ lw_all := lw_g (lw_at lw_m3 23 rfl) rfl
theorem q569 : (Jvm.Cond.classLink "PennyJudge" (51 : Nat) "PennyJudge$Part") ∈ lw_all := lw_g (lw_at lw_m3 32 rfl) rfl
theorem q571 : (Jvm.Cond.methodLink "PennyJudge" (53 : Nat) ({ cls := "PennyJudge$Part", name := "<init>", desc := "(IIII)V" } : Jvm.MethodName)) ∈ lw_all := lw_g (lw_at lw_m3 34 rfl) rfl
theorem q580 : (Jvm.Cond.classLink "PennyJudge" (54 : Nat) "PennyJudge$Carry") ∈ lw_all := lw_g (lw_at lw_m3 43 rfl) rfl
theorem q582 : (Jvm.Cond.methodLink "PennyJudge" (56 : Nat) ({ cls := "PennyJudge$Carry", name := "<init>", desc := "(IIII)V" } : Jvm.MethodName)) ∈ lw_all := lw_g (lw_at lw_m3 45 rfl) rfl
theorem q591 : (Jvm.Cond.classLink "PennyJudge" (57 : Nat) "PennyJudge$Cap") ∈ lw_all := lw_g (lw_at lw_m3 54 rfl) rfl
theorem q593 : (Jvm.Cond.methodLink "PennyJudge" (59 : Nat) ({ cls := "PennyJudge$Cap", name := "<init>", desc := "(IIII)V" } : Jvm.MethodName)) ∈ lw_all := lw_g (lw_at lw_m3 56 rfl) rfl
theorem q602 : (Jvm.Cond.classLink "PennyJudge" (60 : Nat) "PennyJudge$Book") ∈ lw_all := lw_g (lw_at lw_m3 65 rfl) rfl
theorem q604 : (Jvm.Cond.methodLink "PennyJudge" (62 : Nat) ({ cls := "PennyJudge$Book", name := "<init>", desc := "(IIII)V" } : Jvm.MethodName)) ∈ lw_all := lw_g (lw_at lw_m3 67 rfl) rfl
theorem q613 : (Jvm.Cond.classLink "PennyJudge" (63 : Nat) "PennyJudge$Show") ∈ lw_all := lw_g (lw_at lw_m3 76 rfl) rfl
theorem q615 : (Jvm.Cond.methodLink "PennyJudge" (65 : Nat) ({ cls := "PennyJudge$Show", name := "<init>", desc := "(IIII)V" } : Jvm.MethodName)) ∈ lw_all := lw_g (lw_at lw_m3 78 rfl) rfl
theorem q624 : (Jvm.Cond.classLink "PennyJudge" (66 : Nat) "PennyJudge$Days") ∈ lw_all := lw_g (lw_at lw_m3 87 rfl) rfl
theorem q626 : (Jvm.Cond.methodLink "PennyJudge" (68 : Nat) ({ cls := "PennyJudge$Days", name := "<init>", desc := "(IIII)V" } : Jvm.MethodName)) ∈ lw_all := lw_g (lw_at lw_m3 89 rfl) rfl
theorem q636 : (Jvm.Cond.instanceMethod ({ cls := "PennyJudge", name := "set", desc := "(IIII)I" } : Jvm.MethodName)) ∈ lw_all := lw_g (lw_at lw_m3 99 rfl) rfl
theorem q637 : (Jvm.Cond.selects "PennyJudge" ({ cls := "PennyJudge", name := "set", desc := "(IIII)I" } : Jvm.MethodName) ({ cls := "PennyJudge", name := "set", desc := "(IIII)I" } : Jvm.MethodName)) ∈ lw_all := lw_g (lw_at lw_m3 100 rfl) rfl
theorem q638 : (Jvm.Cond.code ({ cls := "PennyJudge", name := "set", desc := "(IIII)I" } : Jvm.MethodName) prog_1_method_19_code (6 : Nat) (Option.some Jvm.ClassFile.FieldType.int)) ∈ lw_all := lw_g (lw_at lw_m3 101 rfl) rfl
theorem q640 : (Jvm.Cond.instanceMethod ({ cls := "PennyJudge", name := "told", desc := "(III)I" } : Jvm.MethodName)) ∈ lw_all := lw_g (lw_at lw_m3 103 rfl) rfl
theorem q641 : (Jvm.Cond.selects "PennyJudge" ({ cls := "PennyJudge", name := "told", desc := "(III)I" } : Jvm.MethodName) ({ cls := "PennyJudge", name := "told", desc := "(III)I" } : Jvm.MethodName)) ∈ lw_all := lw_g (lw_at lw_m3 104 rfl) rfl
theorem q642 : (Jvm.Cond.code ({ cls := "PennyJudge", name := "told", desc := "(III)I" } : Jvm.MethodName) prog_1_method_20_code (5 : Nat) (Option.some Jvm.ClassFile.FieldType.int)) ∈ lw_all := lw_g (lw_at lw_m3 105 rfl) rfl
theorem q644 : (Jvm.Cond.instanceMethod ({ cls := "PennyJudge", name := "run", desc := "(I)I" } : Jvm.MethodName)) ∈ lw_all := lw_g (lw_at lw_m3 107 rfl) rfl
theorem q645 : (Jvm.Cond.selects "PennyJudge" ({ cls := "PennyJudge", name := "run", desc := "(I)I" } : Jvm.MethodName) ({ cls := "PennyJudge", name := "run", desc := "(I)I" } : Jvm.MethodName)) ∈ lw_all := lw_g (lw_at lw_m3 108 rfl) rfl
theorem q646 : (Jvm.Cond.code ({ cls := "PennyJudge", name := "run", desc := "(I)I" } : Jvm.MethodName) prog_1_method_24_code (5 : Nat) (Option.some Jvm.ClassFile.FieldType.int)) ∈ lw_all := lw_g (lw_at lw_m3 109 rfl) rfl
theorem q647 : (Jvm.Cond.methodLink "PennyJudge" (229 : Nat) ({ cls := "PennyJudge$Run", name := "bill", desc := "([II)V" } : Jvm.MethodName)) ∈ lw_all := lw_g (lw_at lw_m3 110 rfl) rfl
theorem q662 : (Jvm.Cond.static ({ cls := "PennyJudge", name := "common", desc := "(JJ)J" } : Jvm.MethodName)) ∈ lw_all := lw_g (lw_at lw_m3 125 rfl) rfl
theorem q663 : (Jvm.Cond.code ({ cls := "PennyJudge", name := "common", desc := "(JJ)J" } : Jvm.MethodName) prog_1_method_5_code (10 : Nat) (Option.some Jvm.ClassFile.FieldType.long)) ∈ lw_all := lw_g (lw_at lw_m3 126 rfl) rfl
theorem q689 : (Jvm.Cond.static ({ cls := "PennyJudge", name := "floorOf", desc := "(JJ)J" } : Jvm.MethodName)) ∈ lw_all := lw_g (lw_at lw_m3 152 rfl) rfl
theorem q690 : (Jvm.Cond.code ({ cls := "PennyJudge", name := "floorOf", desc := "(JJ)J" } : Jvm.MethodName) prog_1_method_1_code (6 : Nat) (Option.some Jvm.ClassFile.FieldType.long)) ∈ lw_all := lw_g (lw_at lw_m3 153 rfl) rfl
theorem q703 : (Jvm.Cond.static ({ cls := "PennyJudge", name := "whole", desc := "(JJI)J" } : Jvm.MethodName)) ∈ lw_all := lw_g (lw_at lw_m3 166 rfl) rfl
theorem q704 : (Jvm.Cond.code ({ cls := "PennyJudge", name := "whole", desc := "(JJI)J" } : Jvm.MethodName) prog_1_method_2_code (9 : Nat) (Option.some Jvm.ClassFile.FieldType.long)) ∈ lw_all := lw_g (lw_at lw_m3 167 rfl) rfl
theorem q705 : (Jvm.Cond.methodLink "PennyJudge" (1 : Nat) ({ cls := "PennyJudge", name := "floorOf", desc := "(JJ)J" } : Jvm.MethodName)) ∈ lw_all := lw_g (lw_at lw_m3 168 rfl) rfl
theorem q706 : (Jvm.Cond.constantLong "PennyJudge" (7 : Nat) (2 : Int64)) ∈ lw_all := lw_g (lw_at lw_m3 169 rfl) rfl
theorem q752 : (Jvm.Cond.privateMethod ({ cls := "PennyJudge", name := "share", desc := "(JII[J)V" } : Jvm.MethodName)) ∈ lw_tbl := lw_at lw_m3 215 rfl
theorem q753 : (Jvm.Cond.instanceMethod ({ cls := "PennyJudge", name := "share", desc := "(JII[J)V" } : Jvm.MethodName)) ∈ lw_all := lw_g (lw_at lw_m3 216 rfl) rfl
theorem q754 : (Jvm.Cond.code ({ cls := "PennyJudge", name := "share", desc := "(JII[J)V" } : Jvm.MethodName) prog_1_method_23_code (15 : Nat) (Option.none : Option Jvm.ClassFile.FieldType)) ∈ lw_all := lw_g (lw_at lw_m3 217 rfl) rfl
theorem q755 : (Jvm.Cond.methodLink "PennyJudge" (215 : Nat) ({ cls := "PennyJudge", name := "wholeWeight", desc := "(I)I" } : Jvm.MethodName)) ∈ lw_all := lw_g (lw_at lw_m3 218 rfl) rfl
theorem q756 : (Jvm.Cond.privateMethod ({ cls := "PennyJudge", name := "wholeWeight", desc := "(I)I" } : Jvm.MethodName)) ∈ lw_tbl := lw_at lw_m3 219 rfl
theorem q757 : (Jvm.Cond.instanceMethod ({ cls := "PennyJudge", name := "wholeWeight", desc := "(I)I" } : Jvm.MethodName)) ∈ lw_all := lw_g (lw_at lw_m3 220 rfl) rfl
theorem q758 : (Jvm.Cond.code ({ cls := "PennyJudge", name := "wholeWeight", desc := "(I)I" } : Jvm.MethodName) prog_1_method_21_code (4 : Nat) (Option.some Jvm.ClassFile.FieldType.int)) ∈ lw_all := lw_g (lw_at lw_m3 221 rfl) rfl
theorem q759 : (Jvm.Cond.methodLink "PennyJudge" (219 : Nat) ({ cls := "PennyJudge", name := "weightOf", desc := "(III)I" } : Jvm.MethodName)) ∈ lw_all := lw_g (lw_at lw_m3 222 rfl) rfl
theorem q760 : (Jvm.Cond.privateMethod ({ cls := "PennyJudge", name := "weightOf", desc := "(III)I" } : Jvm.MethodName)) ∈ lw_tbl := lw_at lw_m3 223 rfl
theorem q761 : (Jvm.Cond.instanceMethod ({ cls := "PennyJudge", name := "weightOf", desc := "(III)I" } : Jvm.MethodName)) ∈ lw_all := lw_g (lw_at lw_m3 224 rfl) rfl
theorem q762 : (Jvm.Cond.code ({ cls := "PennyJudge", name := "weightOf", desc := "(III)I" } : Jvm.MethodName) prog_1_method_22_code (4 : Nat) (Option.some Jvm.ClassFile.FieldType.int)) ∈ lw_all := lw_g (lw_at lw_m3 225 rfl) rfl
theorem q763 : (Jvm.Cond.methodLink "PennyJudge" (223 : Nat) ({ cls := "PennyJudge", name := "whole", desc := "(JJI)J" } : Jvm.MethodName)) ∈ lw_all := lw_g (lw_at lw_m3 226 rfl) rfl
theorem q764 : (Jvm.Cond.constantLong "PennyJudge" (227 : Nat) (-1 : Int64)) ∈ lw_all := lw_g (lw_at lw_m3 227 rfl) rfl
theorem q786 : (Jvm.Cond.instanceMethod ({ cls := "PennyJudge", name := "years", desc := "(II)I" } : Jvm.MethodName)) ∈ lw_all := lw_g (lw_at lw_m4 9 rfl) rfl
theorem q787 : (Jvm.Cond.selects "PennyJudge" ({ cls := "PennyJudge", name := "years", desc := "(II)I" } : Jvm.MethodName) ({ cls := "PennyJudge", name := "years", desc := "(II)I" } : Jvm.MethodName)) ∈ lw_all := lw_g (lw_at lw_m4 10 rfl) rfl
theorem q788 : (Jvm.Cond.code ({ cls := "PennyJudge", name := "years", desc := "(II)I" } : Jvm.MethodName) prog_1_method_25_code (4 : Nat) (Option.some Jvm.ClassFile.FieldType.int)) ∈ lw_all := lw_g (lw_at lw_m4 11 rfl) rfl
theorem q789 : (Jvm.Cond.methodLink "PennyJudge" (248 : Nat) ({ cls := "PennyJudge", name := "run", desc := "(I)I" } : Jvm.MethodName)) ∈ lw_all := lw_g (lw_at lw_m4 12 rfl) rfl
theorem q791 : (Jvm.Cond.instanceMethod ({ cls := "PennyJudge", name := "failed", desc := "()I" } : Jvm.MethodName)) ∈ lw_all := lw_g (lw_at lw_m4 14 rfl) rfl
theorem q792 : (Jvm.Cond.selects "PennyJudge" ({ cls := "PennyJudge", name := "failed", desc := "()I" } : Jvm.MethodName) ({ cls := "PennyJudge", name := "failed", desc := "()I" } : Jvm.MethodName)) ∈ lw_all := lw_g (lw_at lw_m4 15 rfl) rfl
theorem q793 : (Jvm.Cond.code ({ cls := "PennyJudge", name := "failed", desc := "()I" } : Jvm.MethodName) prog_1_method_26_code (1 : Nat) (Option.some Jvm.ClassFile.FieldType.int)) ∈ lw_all := lw_g (lw_at lw_m4 16 rfl) rfl
theorem q795 : (Jvm.Cond.instanceMethod ({ cls := "PennyJudge", name := "least", desc := "(IIIII)I" } : Jvm.MethodName)) ∈ lw_all := lw_g (lw_at lw_m4 18 rfl) rfl
theorem q796 : (Jvm.Cond.selects "PennyJudge" ({ cls := "PennyJudge", name := "least", desc := "(IIIII)I" } : Jvm.MethodName) ({ cls := "PennyJudge", name := "least", desc := "(IIIII)I" } : Jvm.MethodName)) ∈ lw_all := lw_g (lw_at lw_m4 19 rfl) rfl
theorem q797 : (Jvm.Cond.code ({ cls := "PennyJudge", name := "least", desc := "(IIIII)I" } : Jvm.MethodName) prog_1_method_38_code (6 : Nat) (Option.some Jvm.ClassFile.FieldType.int)) ∈ lw_all := lw_g (lw_at lw_m4 20 rfl) rfl
theorem q798 : (Jvm.Cond.methodLink "PennyJudge" (298 : Nat) ({ cls := "PennyJudge", name := "span", desc := "(III)Z" } : Jvm.MethodName)) ∈ lw_all := lw_g (lw_at lw_m4 21 rfl) rfl
theorem q799 : (Jvm.Cond.static ({ cls := "PennyJudge", name := "span", desc := "(III)Z" } : Jvm.MethodName)) ∈ lw_all := lw_g (lw_at lw_m4 22 rfl) rfl
theorem q800 : (Jvm.Cond.code ({ cls := "PennyJudge", name := "span", desc := "(III)Z" } : Jvm.MethodName) prog_1_method_36_code (3 : Nat) (Option.some Jvm.ClassFile.FieldType.boolean)) ∈ lw_all := lw_g (lw_at lw_m4 23 rfl) rfl
theorem q801 : (Jvm.Cond.methodLink "PennyJudge" (301 : Nat) ({ cls := "PennyJudge", name := "firstBreak", desc := "(LPennyJudge$Program;ILPennyJudge$Program;II)I" } : Jvm.MethodName)) ∈ lw_all := lw_g (lw_at lw_m4 24 rfl) rfl
theorem q802 : (Jvm.Cond.privateMethod ({ cls := "PennyJudge", name := "firstBreak", desc := "(LPennyJudge$Program;ILPennyJudge$Program;II)I" } : Jvm.MethodName)) ∈ lw_tbl := lw_at lw_m4 25 rfl
theorem q803 : (Jvm.Cond.instanceMethod ({ cls := "PennyJudge", name := "firstBreak", desc := "(LPennyJudge$Program;ILPennyJudge$Program;II)I" } : Jvm.MethodName)) ∈ lw_all := lw_g (lw_at lw_m4 26 rfl) rfl
theorem q804 : (Jvm.Cond.code ({ cls := "PennyJudge", name := "firstBreak", desc := "(LPennyJudge$Program;ILPennyJudge$Program;II)I" } : Jvm.MethodName) prog_1_method_37_code (7 : Nat) (Option.some Jvm.ClassFile.FieldType.int)) ∈ lw_all := lw_g (lw_at lw_m4 27 rfl) rfl
theorem q805 : (Jvm.Cond.methodLink "PennyJudge" (293 : Nat) ({ cls := "PennyJudge", name := "breaksLaw", desc := "(LPennyJudge$Program;ILPennyJudge$Program;I)Z" } : Jvm.MethodName)) ∈ lw_all := lw_g (lw_at lw_m4 28 rfl) rfl
theorem q806 : (Jvm.Cond.privateMethod ({ cls := "PennyJudge", name := "breaksLaw", desc := "(LPennyJudge$Program;ILPennyJudge$Program;I)Z" } : Jvm.MethodName)) ∈ lw_tbl := lw_at lw_m4 29 rfl
theorem q807 : (Jvm.Cond.instanceMethod ({ cls := "PennyJudge", name := "breaksLaw", desc := "(LPennyJudge$Program;ILPennyJudge$Program;I)Z" } : Jvm.MethodName)) ∈ lw_all := lw_g (lw_at lw_m4 30 rfl) rfl
theorem q808 : (Jvm.Cond.code ({ cls := "PennyJudge", name := "breaksLaw", desc := "(LPennyJudge$Program;ILPennyJudge$Program;I)Z" } : Jvm.MethodName) prog_1_method_35_code (10 : Nat) (Option.some Jvm.ClassFile.FieldType.boolean)) ∈ lw_all := lw_g (lw_at lw_m4 31 rfl) rfl
theorem q809 : (Jvm.Cond.methodLink "PennyJudge" (278 : Nat) ({ cls := "PennyJudge", name := "runs", desc := "(LPennyJudge$Program;LPennyJudge$Run;I)Z" } : Jvm.MethodName)) ∈ lw_all := lw_g (lw_at lw_m4 32 rfl) rfl
theorem q810 : (Jvm.Cond.privateMethod ({ cls := "PennyJudge", name := "runs", desc := "(LPennyJudge$Program;LPennyJudge$Run;I)Z" } : Jvm.MethodName)) ∈ lw_tbl := lw_at lw_m4 33 rfl
theorem q811 : (Jvm.Cond.instanceMethod ({ cls := "PennyJudge", name := "runs", desc := "(LPennyJudge$Program;LPennyJudge$Run;I)Z" } : Jvm.MethodName)) ∈ lw_all := lw_g (lw_at lw_m4 34 rfl) rfl
theorem q812 : (Jvm.Cond.code ({ cls := "PennyJudge", name := "runs", desc := "(LPennyJudge$Program;LPennyJudge$Run;I)Z" } : Jvm.MethodName) prog_1_method_32_code (4 : Nat) (Option.some Jvm.ClassFile.FieldType.boolean)) ∈ lw_all := lw_g (lw_at lw_m4 35 rfl) rfl
theorem q813 : (Jvm.Cond.methodLink "PennyJudge" (270 : Nat) ({ cls := "PennyJudge$Program", name := "run", desc := "(LPennyJudge$Run;)I" } : Jvm.MethodName)) ∈ lw_all := lw_g (lw_at lw_m4 36 rfl) rfl
theorem q818 : (Jvm.Cond.methodLink "PennyJudge" (282 : Nat) ({ cls := "PennyJudge", name := "alike", desc := "(I)Z" } : Jvm.MethodName)) ∈ lw_all := lw_g (lw_at lw_m4 41 rfl) rfl
theorem q819 : (Jvm.Cond.privateMethod ({ cls := "PennyJudge", name := "alike", desc := "(I)Z" } : Jvm.MethodName)) ∈ lw_tbl := lw_at lw_m4 42 rfl
theorem q820 : (Jvm.Cond.instanceMethod ({ cls := "PennyJudge", name := "alike", desc := "(I)Z" } : Jvm.MethodName)) ∈ lw_all := lw_g (lw_at lw_m4 43 rfl) rfl
theorem q821 : (Jvm.Cond.code ({ cls := "PennyJudge", name := "alike", desc := "(I)Z" } : Jvm.MethodName) prog_1_method_33_code (3 : Nat) (Option.some Jvm.ClassFile.FieldType.boolean)) ∈ lw_all := lw_g (lw_at lw_m4 44 rfl) rfl
theorem q822 : (Jvm.Cond.methodLink "PennyJudge" (285 : Nat) ({ cls := "PennyJudge", name := "farShare", desc := "()Z" } : Jvm.MethodName)) ∈ lw_all := lw_g (lw_at lw_m4 45 rfl) rfl
theorem q823 : (Jvm.Cond.privateMethod ({ cls := "PennyJudge", name := "farShare", desc := "()Z" } : Jvm.MethodName)) ∈ lw_tbl := lw_at lw_m4 46 rfl
theorem q824 : (Jvm.Cond.instanceMethod ({ cls := "PennyJudge", name := "farShare", desc := "()Z" } : Jvm.MethodName)) ∈ lw_all := lw_g (lw_at lw_m4 47 rfl) rfl
theorem q825 : (Jvm.Cond.code ({ cls := "PennyJudge", name := "farShare", desc := "()Z" } : Jvm.MethodName) prog_1_method_34_code (8 : Nat) (Option.some Jvm.ClassFile.FieldType.boolean)) ∈ lw_all := lw_g (lw_at lw_m4 48 rfl) rfl
theorem q826 : (Jvm.Cond.methodLink "PennyJudge" (289 : Nat) ({ cls := "PennyJudge$Program", name := "loosely", desc := "(LPennyJudge$Run;)V" } : Jvm.MethodName)) ∈ lw_all := lw_g (lw_at lw_m4 49 rfl) rfl
theorem q873 : (Jvm.Cond.static ({ cls := "PennyJudge", name := "loose", desc := "(DII)D" } : Jvm.MethodName)) ∈ lw_all := lw_g (lw_at lw_m4 96 rfl) rfl
theorem q874 : (Jvm.Cond.code ({ cls := "PennyJudge", name := "loose", desc := "(DII)D" } : Jvm.MethodName) prog_1_method_4_code (8 : Nat) (Option.some Jvm.ClassFile.FieldType.double)) ∈ lw_all := lw_g (lw_at lw_m4 97 rfl) rfl
theorem q875 : (Jvm.Cond.constantDouble "PennyJudge" (13 : Nat) (4602678819172646912 : UInt64)) ∈ lw_all := lw_g (lw_at lw_m4 98 rfl) rfl
theorem q876 : (Jvm.Cond.methodLink "PennyJudge" (15 : Nat) ({ cls := "java/lang/Math", name := "ceil", desc := "(D)D" } : Jvm.MethodName)) ∈ lw_all := lw_g (lw_at lw_m4 99 rfl) rfl
theorem q883 : (Jvm.Cond.methodLink "PennyJudge" (21 : Nat) ({ cls := "java/lang/Math", name := "floor", desc := "(D)D" } : Jvm.MethodName)) ∈ lw_all := lw_g (lw_at lw_m4 106 rfl) rfl
theorem q884 : (Jvm.Cond.methodLink "PennyJudge" (24 : Nat) ({ cls := "java/lang/Math", name := "rint", desc := "(D)D" } : Jvm.MethodName)) ∈ lw_all := lw_g (lw_at lw_m4 107 rfl) rfl
theorem q901 : (Jvm.Cond.static ({ cls := "PennyJudge", name := "kept", desc := "(D)D" } : Jvm.MethodName)) ∈ lw_all := lw_g (lw_at lw_m4 124 rfl) rfl
theorem q902 : (Jvm.Cond.code ({ cls := "PennyJudge", name := "kept", desc := "(D)D" } : Jvm.MethodName) prog_1_method_3_code (2 : Nat) (Option.some Jvm.ClassFile.FieldType.double)) ∈ lw_all := lw_g (lw_at lw_m4 125 rfl) rfl
theorem q903 : (Jvm.Cond.constantDouble "PennyJudge" (9 : Nat) (4832362400168542208 : UInt64)) ∈ lw_all := lw_g (lw_at lw_m4 126 rfl) rfl
theorem q904 : (Jvm.Cond.constantDouble "PennyJudge" (11 : Nat) (14055734437023318016 : UInt64)) ∈ lw_all := lw_g (lw_at lw_m4 127 rfl) rfl
theorem q936 : (Jvm.Cond.constant "PennyJudge" (297 : Nat) (9999999 : Int32)) ∈ lw_all := lw_g (lw_at lw_m4 159 rfl) rfl
theorem q938 : (Jvm.Cond.instanceMethod ({ cls := "PennyJudge", name := "order", desc := "(I)I" } : Jvm.MethodName)) ∈ lw_all := lw_g (lw_at lw_m4 161 rfl) rfl
theorem q939 : (Jvm.Cond.selects "PennyJudge" ({ cls := "PennyJudge", name := "order", desc := "(I)I" } : Jvm.MethodName) ({ cls := "PennyJudge", name := "order", desc := "(I)I" } : Jvm.MethodName)) ∈ lw_all := lw_g (lw_at lw_m4 162 rfl) rfl
theorem q940 : (Jvm.Cond.code ({ cls := "PennyJudge", name := "order", desc := "(I)I" } : Jvm.MethodName) prog_1_method_41_code (7 : Nat) (Option.some Jvm.ClassFile.FieldType.int)) ∈ lw_all := lw_g (lw_at lw_m4 163 rfl) rfl
theorem q941 : (Jvm.Cond.methodLink "PennyJudge" (309 : Nat) ({ cls := "PennyJudge", name := "turn", desc := "(I)Z" } : Jvm.MethodName)) ∈ lw_all := lw_g (lw_at lw_m4 164 rfl) rfl
theorem q942 : (Jvm.Cond.privateMethod ({ cls := "PennyJudge", name := "turn", desc := "(I)Z" } : Jvm.MethodName)) ∈ lw_tbl := lw_at lw_m4 165 rfl
theorem q943 : (Jvm.Cond.instanceMethod ({ cls := "PennyJudge", name := "turn", desc := "(I)Z" } : Jvm.MethodName)) ∈ lw_all := lw_g (lw_at lw_m4 166 rfl) rfl
theorem q944 : (Jvm.Cond.code ({ cls := "PennyJudge", name := "turn", desc := "(I)Z" } : Jvm.MethodName) prog_1_method_39_code (6 : Nat) (Option.some Jvm.ClassFile.FieldType.boolean)) ∈ lw_all := lw_g (lw_at lw_m4 167 rfl) rfl
theorem q945 : (Jvm.Cond.methodLink "PennyJudge" (305 : Nat) ({ cls := "PennyJudge", name := "swap", desc := "(II)V" } : Jvm.MethodName)) ∈ lw_all := lw_g (lw_at lw_m4 168 rfl) rfl
theorem q946 : (Jvm.Cond.privateMethod ({ cls := "PennyJudge", name := "swap", desc := "(II)V" } : Jvm.MethodName)) ∈ lw_tbl := lw_at lw_m4 169 rfl
theorem q947 : (Jvm.Cond.instanceMethod ({ cls := "PennyJudge", name := "swap", desc := "(II)V" } : Jvm.MethodName)) ∈ lw_all := lw_g (lw_at lw_m4 170 rfl) rfl
theorem q948 : (Jvm.Cond.code ({ cls := "PennyJudge", name := "swap", desc := "(II)V" } : Jvm.MethodName) prog_1_method_40_code (4 : Nat) (Option.none : Option Jvm.ClassFile.FieldType)) ∈ lw_all := lw_g (lw_at lw_m4 171 rfl) rfl
theorem q950 : (Jvm.Cond.instanceMethod ({ cls := "PennyJudge", name := "mend", desc := "(IIII)I" } : Jvm.MethodName)) ∈ lw_all := lw_g (lw_at lw_m4 173 rfl) rfl
theorem q951 : (Jvm.Cond.selects "PennyJudge" ({ cls := "PennyJudge", name := "mend", desc := "(IIII)I" } : Jvm.MethodName) ({ cls := "PennyJudge", name := "mend", desc := "(IIII)I" } : Jvm.MethodName)) ∈ lw_all := lw_g (lw_at lw_m4 174 rfl) rfl
theorem q952 : (Jvm.Cond.code ({ cls := "PennyJudge", name := "mend", desc := "(IIII)I" } : Jvm.MethodName) prog_1_method_45_code (11 : Nat) (Option.some Jvm.ClassFile.FieldType.int)) ∈ lw_all := lw_g (lw_at lw_m4 175 rfl) rfl
theorem q953 : (Jvm.Cond.methodLink "PennyJudge" (320 : Nat) ({ cls := "PennyJudge$Act", name := "choice", desc := "()I" } : Jvm.MethodName)) ∈ lw_all := lw_g (lw_at lw_m4 176 rfl) rfl
theorem q978 : (Jvm.Cond.methodLink "PennyJudge" (323 : Nat) ({ cls := "PennyJudge$Act", name := "choices", desc := "()I" } : Jvm.MethodName)) ∈ lw_all := lw_g (lw_at lw_m4 201 rfl) rfl
theorem q998 : (Jvm.Cond.methodLink "PennyJudge" (326 : Nat) ({ cls := "PennyJudge$Act", name := "choose", desc := "(I)V" } : Jvm.MethodName)) ∈ lw_all := lw_g (lw_at lw_m4 221 rfl) rfl
theorem q1024 : (Jvm.Cond.instanceMethod ({ cls := "PennyJudge", name := "same", desc := "(II)I" } : Jvm.MethodName)) ∈ lw_all := lw_g (lw_at lw_m5 7 rfl) rfl
theorem q1025 : (Jvm.Cond.selects "PennyJudge" ({ cls := "PennyJudge", name := "same", desc := "(II)I" } : Jvm.MethodName) ({ cls := "PennyJudge", name := "same", desc := "(II)I" } : Jvm.MethodName)) ∈ lw_all := lw_g (lw_at lw_m5 8 rfl) rfl
theorem q1026 : (Jvm.Cond.code ({ cls := "PennyJudge", name := "same", desc := "(II)I" } : Jvm.MethodName) prog_1_method_46_code (8 : Nat) (Option.some Jvm.ClassFile.FieldType.int)) ∈ lw_all := lw_g (lw_at lw_m5 9 rfl) rfl
theorem q1028 : (Jvm.Cond.instanceMethod ({ cls := "PennyJudge", name := "tape", desc := "(III)I" } : Jvm.MethodName)) ∈ lw_all := lw_g (lw_at lw_m5 11 rfl) rfl
theorem q1029 : (Jvm.Cond.selects "PennyJudge" ({ cls := "PennyJudge", name := "tape", desc := "(III)I" } : Jvm.MethodName) ({ cls := "PennyJudge", name := "tape", desc := "(III)I" } : Jvm.MethodName)) ∈ lw_all := lw_g (lw_at lw_m5 12 rfl) rfl
theorem q1030 : (Jvm.Cond.codeWith ({ cls := "PennyJudge", name := "tape", desc := "(III)I" } : Jvm.MethodName) prog_1_method_49_code (5 : Nat) (Option.some Jvm.ClassFile.FieldType.int) [((26 : Nat), (98 : Nat), (101 : Nat), (341 : Nat))]) ∈ lw_all := lw_g (lw_at lw_m5 13 rfl) rfl
theorem q1031 : (Jvm.Cond.classLink "PennyJudge" (341 : Nat) "java/lang/NegativeArraySizeException") ∈ lw_all := lw_g (lw_at lw_m5 14 rfl) rfl
theorem q1119 : (Jvm.Cond.methodLink "PennyJudge" (334 : Nat) ({ cls := "PennyJudge", name := "isTape", desc := "(I)Z" } : Jvm.MethodName)) ∈ lw_all := lw_g (lw_at lw_m5 102 rfl) rfl
theorem q1120 : (Jvm.Cond.privateMethod ({ cls := "PennyJudge", name := "isTape", desc := "(I)Z" } : Jvm.MethodName)) ∈ lw_tbl := lw_at lw_m5 103 rfl
theorem q1121 : (Jvm.Cond.instanceMethod ({ cls := "PennyJudge", name := "isTape", desc := "(I)Z" } : Jvm.MethodName)) ∈ lw_all := lw_g (lw_at lw_m5 104 rfl) rfl
theorem q1122 : (Jvm.Cond.code ({ cls := "PennyJudge", name := "isTape", desc := "(I)Z" } : Jvm.MethodName) prog_1_method_48_code (2 : Nat) (Option.some Jvm.ClassFile.FieldType.boolean)) ∈ lw_all := lw_g (lw_at lw_m5 105 rfl) rfl
theorem q1123 : (Jvm.Cond.methodLink "PennyJudge" (343 : Nat) ({ cls := "PennyJudge", name := "snag", desc := "(I)I" } : Jvm.MethodName)) ∈ lw_all := lw_g (lw_at lw_m5 106 rfl) rfl
theorem q1124 : (Jvm.Cond.privateMethod ({ cls := "PennyJudge", name := "snag", desc := "(I)I" } : Jvm.MethodName)) ∈ lw_tbl := lw_at lw_m5 107 rfl
theorem q1125 : (Jvm.Cond.instanceMethod ({ cls := "PennyJudge", name := "snag", desc := "(I)I" } : Jvm.MethodName)) ∈ lw_all := lw_g (lw_at lw_m5 108 rfl) rfl
theorem q1126 : (Jvm.Cond.code ({ cls := "PennyJudge", name := "snag", desc := "(I)I" } : Jvm.MethodName) prog_1_method_12_code (2 : Nat) (Option.some Jvm.ClassFile.FieldType.int)) ∈ lw_all := lw_g (lw_at lw_m5 109 rfl) rfl
theorem q1129 : (Jvm.Cond.instanceMethod ({ cls := "PennyJudge", name := "image", desc := "(I)I" } : Jvm.MethodName)) ∈ lw_all := lw_g (lw_at lw_m5 112 rfl) rfl
theorem q1130 : (Jvm.Cond.selects "PennyJudge" ({ cls := "PennyJudge", name := "image", desc := "(I)I" } : Jvm.MethodName) ({ cls := "PennyJudge", name := "image", desc := "(I)I" } : Jvm.MethodName)) ∈ lw_all := lw_g (lw_at lw_m5 113 rfl) rfl
theorem q1131 : (Jvm.Cond.code ({ cls := "PennyJudge", name := "image", desc := "(I)I" } : Jvm.MethodName) prog_1_method_50_code (4 : Nat) (Option.some Jvm.ClassFile.FieldType.int)) ∈ lw_all := lw_g (lw_at lw_m5 114 rfl) rfl
theorem q1132 : (Jvm.Cond.classLink "PennyJudge" (346 : Nat) "PennyJudge$Image") ∈ lw_all := lw_g (lw_at lw_m5 115 rfl) rfl
theorem q1134 : (Jvm.Cond.methodLinkNest "PennyJudge" (348 : Nat) ({ cls := "PennyJudge$Image", name := "<init>", desc := "()V" } : Jvm.MethodName) "PennyJudge") ∈ lw_tbl := lw_at lw_m5 117 rfl
theorem q1139 : (Jvm.Cond.fieldLink "PennyJudge" (349 : Nat) "PennyJudge$Image" "accounts" "[J") ∈ lw_all := lw_g (lw_at lw_m5 122 rfl) rfl
theorem q1141 : (Jvm.Cond.fieldLink "PennyJudge" (350 : Nat) "PennyJudge$Image" "num" "[J") ∈ lw_all := lw_g (lw_at lw_m5 124 rfl) rfl
theorem q1143 : (Jvm.Cond.fieldLink "PennyJudge" (351 : Nat) "PennyJudge$Image" "den" "[J") ∈ lw_all := lw_g (lw_at lw_m5 126 rfl) rfl
theorem q1145 : (Jvm.Cond.fieldLink "PennyJudge" (352 : Nat) "PennyJudge$Image" "leaks" "I") ∈ lw_all := lw_g (lw_at lw_m5 128 rfl) rfl
theorem q1146 : (Jvm.Cond.fieldLink "PennyJudge" (353 : Nat) "PennyJudge$Image" "programs" "I") ∈ lw_all := lw_g (lw_at lw_m5 129 rfl) rfl
theorem q1159 : (Jvm.Cond.instanceMethod ({ cls := "PennyJudge", name := "back", desc := "(I)I" } : Jvm.MethodName)) ∈ lw_all := lw_g (lw_at lw_m5 142 rfl) rfl
theorem q1160 : (Jvm.Cond.selects "PennyJudge" ({ cls := "PennyJudge", name := "back", desc := "(I)I" } : Jvm.MethodName) ({ cls := "PennyJudge", name := "back", desc := "(I)I" } : Jvm.MethodName)) ∈ lw_all := lw_g (lw_at lw_m5 143 rfl) rfl
theorem q1161 : (Jvm.Cond.codeWith ({ cls := "PennyJudge", name := "back", desc := "(I)I" } : Jvm.MethodName) prog_1_method_51_code (4 : Nat) (Option.some Jvm.ClassFile.FieldType.int) [((10 : Nat), (36 : Nat), (40 : Nat), (355 : Nat)), ((10 : Nat), (36 : Nat), (48 : Nat), (357 : Nat))]) ∈ lw_all := lw_g (lw_at lw_m5 144 rfl) rfl
theorem q1162 : (Jvm.Cond.classLink "PennyJudge" (355 : Nat) "java/lang/NullPointerException") ∈ lw_all := lw_g (lw_at lw_m5 145 rfl) rfl
theorem q1187 : (Jvm.Cond.classLink "PennyJudge" (357 : Nat) "java/lang/ClassCastException") ∈ lw_all := lw_g (lw_at lw_m5 170 rfl) rfl
theorem q1202 : (Jvm.Cond.instanceMethod ({ cls := "PennyJudge", name := "toss", desc := "(I)I" } : Jvm.MethodName)) ∈ lw_all := lw_g (lw_at lw_m5 185 rfl) rfl
theorem q1203 : (Jvm.Cond.selects "PennyJudge" ({ cls := "PennyJudge", name := "toss", desc := "(I)I" } : Jvm.MethodName) ({ cls := "PennyJudge", name := "toss", desc := "(I)I" } : Jvm.MethodName)) ∈ lw_all := lw_g (lw_at lw_m5 186 rfl) rfl
theorem q1204 : (Jvm.Cond.codeWith ({ cls := "PennyJudge", name := "toss", desc := "(I)I" } : Jvm.MethodName) prog_1_method_52_code (4 : Nat) (Option.some Jvm.ClassFile.FieldType.int) [((10 : Nat), (28 : Nat), (31 : Nat), (355 : Nat)), ((10 : Nat), (28 : Nat), (39 : Nat), (357 : Nat)), ((47 : Nat), (49 : Nat), (49 : Nat), (363 : Nat)), ((47 : Nat), (49 : Nat), (55 : Nat), (355 : Nat))]) ∈ lw_all := lw_g (lw_at lw_m5 187 rfl) rfl
theorem q1205 : (Jvm.Cond.classLink "PennyJudge" (363 : Nat) "PennyJudge$Leak") ∈ lw_all := lw_g (lw_at lw_m5 188 rfl) rfl
theorem q1206 : (Jvm.Cond.methodLink "PennyJudge" (359 : Nat) ({ cls := "PennyJudge$Image", name := "failure", desc := "()LPennyJudge$Leak;" } : Jvm.MethodName)) ∈ lw_all := lw_g (lw_at lw_m5 189 rfl) rfl
theorem q1224 : (Jvm.Cond.fieldLink "PennyJudge" (365 : Nat) "PennyJudge$Leak" "leaks" "I") ∈ lw_all := lw_g (lw_at lw_m5 207 rfl) rfl
theorem q1230 : (Jvm.Cond.instanceMethod ({ cls := "PennyJudge", name := "load", desc := "(III)I" } : Jvm.MethodName)) ∈ lw_all := lw_g (lw_at lw_m5 213 rfl) rfl
theorem q1231 : (Jvm.Cond.selects "PennyJudge" ({ cls := "PennyJudge", name := "load", desc := "(III)I" } : Jvm.MethodName) ({ cls := "PennyJudge", name := "load", desc := "(III)I" } : Jvm.MethodName)) ∈ lw_all := lw_g (lw_at lw_m5 214 rfl) rfl
theorem q1232 : (Jvm.Cond.codeWith ({ cls := "PennyJudge", name := "load", desc := "(III)I" } : Jvm.MethodName) prog_1_method_55_code (10 : Nat) (Option.some Jvm.ClassFile.FieldType.int) [((34 : Nat), (61 : Nat), (125 : Nat), (355 : Nat)), ((62 : Nat), (122 : Nat), (125 : Nat), (355 : Nat)), ((34 : Nat), (61 : Nat), (134 : Nat), (357 : Nat)), ((62 : Nat), (122 : Nat), (134 : Nat), (357 : Nat)), ((34 : Nat), (61 : Nat), (143 : Nat), (382 : Nat)), ((62 : Nat), (122 : Nat), (143 : Nat), (382 : Nat))]) ∈ lw_all := lw_g (lw_at lw_m5 215 rfl) rfl
theorem q1233 : (Jvm.Cond.classLink "PennyJudge" (382 : Nat) "java/lang/ArrayIndexOutOfBoundsException") ∈ lw_all := lw_g (lw_at lw_m5 216 rfl) rfl
theorem q1252 : (Jvm.Cond.methodLink "PennyJudge" (370 : Nat) ({ cls := "PennyJudge", name := "lengthOf", desc := "(Ljava/lang/Object;)I" } : Jvm.MethodName)) ∈ lw_all := lw_g (lw_at lw_m5 235 rfl) rfl
theorem q1253 : (Jvm.Cond.static ({ cls := "PennyJudge", name := "lengthOf", desc := "(Ljava/lang/Object;)I" } : Jvm.MethodName)) ∈ lw_all := lw_g (lw_at lw_m5 236 rfl) rfl
theorem q1254 : (Jvm.Cond.code ({ cls := "PennyJudge", name := "lengthOf", desc := "(Ljava/lang/Object;)I" } : Jvm.MethodName) prog_1_method_54_code (1 : Nat) (Option.some Jvm.ClassFile.FieldType.int)) ∈ lw_all := lw_g (lw_at lw_m5 237 rfl) rfl
theorem q1255 : (Jvm.Cond.classLink "PennyJudge" (366 : Nat) "[S") ∈ lw_all := lw_g (lw_at lw_m5 238 rfl) rfl
theorem q1256 : (Jvm.Cond.classLink "PennyJudge" (368 : Nat) "[I") ∈ lw_all := lw_g (lw_at lw_m5 239 rfl) rfl
theorem q1257 : (Jvm.Cond.classLink "PennyJudge" (369 : Nat) "[J") ∈ lw_all := lw_g (lw_at lw_m6 0 rfl) rfl
theorem q1258 : (Jvm.Cond.methodLink "PennyJudge" (374 : Nat) ({ cls := "PennyJudge", name := "wide", desc := "(Ljava/lang/Object;I)J" } : Jvm.MethodName)) ∈ lw_all := lw_g (lw_at lw_m6 1 rfl) rfl
theorem q1259 : (Jvm.Cond.static ({ cls := "PennyJudge", name := "wide", desc := "(Ljava/lang/Object;I)J" } : Jvm.MethodName)) ∈ lw_all := lw_g (lw_at lw_m6 2 rfl) rfl
theorem q1260 : (Jvm.Cond.code ({ cls := "PennyJudge", name := "wide", desc := "(Ljava/lang/Object;I)J" } : Jvm.MethodName) prog_1_method_53_code (2 : Nat) (Option.some Jvm.ClassFile.FieldType.long)) ∈ lw_all := lw_g (lw_at lw_m6 3 rfl) rfl
theorem q1261 : (Jvm.Cond.constantLong "PennyJudge" (378 : Nat) (-1000000 : Int64)) ∈ lw_all := lw_g (lw_at lw_m6 4 rfl) rfl
theorem q1262 : (Jvm.Cond.constantLong "PennyJudge" (380 : Nat) (1000000 : Int64)) ∈ lw_all := lw_g (lw_at lw_m6 5 rfl) rfl
theorem q1264 : (Jvm.Cond.instanceMethod ({ cls := "PennyJudge", name := "clear", desc := "(I)I" } : Jvm.MethodName)) ∈ lw_all := lw_g (lw_at lw_m6 7 rfl) rfl
theorem q1265 : (Jvm.Cond.selects "PennyJudge" ({ cls := "PennyJudge", name := "clear", desc := "(I)I" } : Jvm.MethodName) ({ cls := "PennyJudge", name := "clear", desc := "(I)I" } : Jvm.MethodName)) ∈ lw_all := lw_g (lw_at lw_m6 8 rfl) rfl
theorem q1266 : (Jvm.Cond.code ({ cls := "PennyJudge", name := "clear", desc := "(I)I" } : Jvm.MethodName) prog_1_method_56_code (3 : Nat) (Option.some Jvm.ClassFile.FieldType.int)) ∈ lw_all := lw_g (lw_at lw_m6 9 rfl) rfl
theorem q1267 : (Jvm.Cond.methodLink "PennyJudge" (384 : Nat) ({ cls := "PennyJudge$Tape", name := "sort", desc := "()I" } : Jvm.MethodName)) ∈ lw_all := lw_g (lw_at lw_m6 10 rfl) rfl
theorem q1276 : (Jvm.Cond.instanceMethod ({ cls := "PennyJudge", name := "put", desc := "(IIJ)I" } : Jvm.MethodName)) ∈ lw_all := lw_g (lw_at lw_m6 19 rfl) rfl
theorem q1277 : (Jvm.Cond.selects "PennyJudge" ({ cls := "PennyJudge", name := "put", desc := "(IIJ)I" } : Jvm.MethodName) ({ cls := "PennyJudge", name := "put", desc := "(IIJ)I" } : Jvm.MethodName)) ∈ lw_all := lw_g (lw_at lw_m6 20 rfl) rfl
theorem q1278 : (Jvm.Cond.codeWith ({ cls := "PennyJudge", name := "put", desc := "(IIJ)I" } : Jvm.MethodName) prog_1_method_57_code (7 : Nat) (Option.some Jvm.ClassFile.FieldType.int) [((21 : Nat), (91 : Nat), (94 : Nat), (355 : Nat)), ((21 : Nat), (91 : Nat), (103 : Nat), (357 : Nat)), ((21 : Nat), (91 : Nat), (112 : Nat), (382 : Nat))]) ∈ lw_all := lw_g (lw_at lw_m6 21 rfl) rfl
theorem q1279 : (Jvm.Cond.classLink "PennyJudge" (387 : Nat) "[B") ∈ lw_all := lw_g (lw_at lw_m6 22 rfl) rfl
theorem q1281 : (Jvm.Cond.instanceMethod ({ cls := "PennyJudge", name := "copy", desc := "(IIIII)I" } : Jvm.MethodName)) ∈ lw_all := lw_g (lw_at lw_m6 24 rfl) rfl
theorem q1282 : (Jvm.Cond.selects "PennyJudge" ({ cls := "PennyJudge", name := "copy", desc := "(IIIII)I" } : Jvm.MethodName) ({ cls := "PennyJudge", name := "copy", desc := "(IIIII)I" } : Jvm.MethodName)) ∈ lw_all := lw_g (lw_at lw_m6 25 rfl) rfl
theorem q1283 : (Jvm.Cond.codeWith ({ cls := "PennyJudge", name := "copy", desc := "(IIIII)I" } : Jvm.MethodName) prog_1_method_61_code (9 : Nat) (Option.some Jvm.ClassFile.FieldType.int) [((50 : Nat), (80 : Nat), (83 : Nat), (355 : Nat)), ((92 : Nat), (109 : Nat), (112 : Nat), (357 : Nat)), ((121 : Nat), (133 : Nat), (136 : Nat), (408 : Nat))]) ∈ lw_all := lw_g (lw_at lw_m6 26 rfl) rfl
theorem q1284 : (Jvm.Cond.classLink "PennyJudge" (408 : Nat) "java/lang/IndexOutOfBoundsException") ∈ lw_all := lw_g (lw_at lw_m6 27 rfl) rfl
theorem q1285 : (Jvm.Cond.fieldLink "PennyJudge" (395 : Nat) "PennyJudge" "SPARES" "[B") ∈ lw_all := lw_g (lw_at lw_m6 28 rfl) rfl
theorem q1286 : (Jvm.Cond.laysStatic "PennyJudge" "SPARES" "[B") ∈ lw_tbl := lw_at lw_m6 29 rfl
theorem q1287 : (Jvm.Cond.methodLink "PennyJudge" (398 : Nat) ({ cls := "java/lang/System", name := "arraycopy", desc := "(Ljava/lang/Object;ILjava/lang/Object;II)V" } : Jvm.MethodName)) ∈ lw_all := lw_g (lw_at lw_m6 30 rfl) rfl
theorem q1290 : (Jvm.Cond.methodLink "PennyJudge" (404 : Nat) ({ cls := "PennyJudge", name := "mate", desc := "(ILjava/lang/Object;Ljava/lang/Object;)I" } : Jvm.MethodName)) ∈ lw_all := lw_g (lw_at lw_m6 33 rfl) rfl
theorem q1291 : (Jvm.Cond.static ({ cls := "PennyJudge", name := "mate", desc := "(ILjava/lang/Object;Ljava/lang/Object;)I" } : Jvm.MethodName)) ∈ lw_all := lw_g (lw_at lw_m6 34 rfl) rfl
theorem q1292 : (Jvm.Cond.code ({ cls := "PennyJudge", name := "mate", desc := "(ILjava/lang/Object;Ljava/lang/Object;)I" } : Jvm.MethodName) prog_1_method_60_code (3 : Nat) (Option.some Jvm.ClassFile.FieldType.int)) ∈ lw_all := lw_g (lw_at lw_m6 35 rfl) rfl
theorem q1294 : (Jvm.Cond.instanceMethod ({ cls := "PennyJudge", name := "count", desc := "(I)I" } : Jvm.MethodName)) ∈ lw_all := lw_g (lw_at lw_m6 37 rfl) rfl
theorem q1295 : (Jvm.Cond.selects "PennyJudge" ({ cls := "PennyJudge", name := "count", desc := "(I)I" } : Jvm.MethodName) ({ cls := "PennyJudge", name := "count", desc := "(I)I" } : Jvm.MethodName)) ∈ lw_all := lw_g (lw_at lw_m6 38 rfl) rfl
theorem q1296 : (Jvm.Cond.code ({ cls := "PennyJudge", name := "count", desc := "(I)I" } : Jvm.MethodName) prog_1_method_62_code (2 : Nat) (Option.some Jvm.ClassFile.FieldType.int)) ∈ lw_all := lw_g (lw_at lw_m6 39 rfl) rfl
theorem q1302 : (Jvm.Cond.instanceMethod ({ cls := "PennyJudge", name := "account", desc := "(I)J" } : Jvm.MethodName)) ∈ lw_all := lw_g (lw_at lw_m6 45 rfl) rfl
theorem q1303 : (Jvm.Cond.selects "PennyJudge" ({ cls := "PennyJudge", name := "account", desc := "(I)J" } : Jvm.MethodName) ({ cls := "PennyJudge", name := "account", desc := "(I)J" } : Jvm.MethodName)) ∈ lw_all := lw_g (lw_at lw_m6 46 rfl) rfl
theorem q1304 : (Jvm.Cond.code ({ cls := "PennyJudge", name := "account", desc := "(I)J" } : Jvm.MethodName) prog_1_method_27_code (2 : Nat) (Option.some Jvm.ClassFile.FieldType.long)) ∈ lw_all := lw_g (lw_at lw_m6 47 rfl) rfl
theorem q1305 : (Jvm.Cond.classLink "PennyJudge" (251 : Nat) "java/lang/IllegalArgumentException") ∈ lw_all := lw_g (lw_at lw_m6 48 rfl) rfl
theorem q1314 : (Jvm.Cond.methodLink "PennyJudge" (253 : Nat) ({ cls := "java/lang/IllegalArgumentException", name := "<init>", desc := "()V" } : Jvm.MethodName)) ∈ lw_all := lw_g (lw_at lw_m6 57 rfl) rfl
theorem q1324 : (Jvm.Cond.instanceMethod ({ cls := "PennyJudge", name := "slot", desc := "(II)J" } : Jvm.MethodName)) ∈ lw_all := lw_g (lw_at lw_m6 67 rfl) rfl
theorem q1325 : (Jvm.Cond.selects "PennyJudge" ({ cls := "PennyJudge", name := "slot", desc := "(II)J" } : Jvm.MethodName) ({ cls := "PennyJudge", name := "slot", desc := "(II)J" } : Jvm.MethodName)) ∈ lw_all := lw_g (lw_at lw_m6 68 rfl) rfl
theorem q1326 : (Jvm.Cond.code ({ cls := "PennyJudge", name := "slot", desc := "(II)J" } : Jvm.MethodName) prog_1_method_28_code (3 : Nat) (Option.some Jvm.ClassFile.FieldType.long)) ∈ lw_all := lw_g (lw_at lw_m6 69 rfl) rfl
theorem q1331 : (Jvm.Cond.instanceMethod ({ cls := "PennyJudge", name := "part", desc := "(I)J" } : Jvm.MethodName)) ∈ lw_all := lw_g (lw_at lw_m6 74 rfl) rfl
theorem q1332 : (Jvm.Cond.selects "PennyJudge" ({ cls := "PennyJudge", name := "part", desc := "(I)J" } : Jvm.MethodName) ({ cls := "PennyJudge", name := "part", desc := "(I)J" } : Jvm.MethodName)) ∈ lw_all := lw_g (lw_at lw_m6 75 rfl) rfl
theorem q1333 : (Jvm.Cond.code ({ cls := "PennyJudge", name := "part", desc := "(I)J" } : Jvm.MethodName) prog_1_method_29_code (2 : Nat) (Option.some Jvm.ClassFile.FieldType.long)) ∈ lw_all := lw_g (lw_at lw_m6 76 rfl) rfl
theorem q1338 : (Jvm.Cond.instanceMethod ({ cls := "PennyJudge", name := "got", desc := "(I)J" } : Jvm.MethodName)) ∈ lw_all := lw_g (lw_at lw_m6 81 rfl) rfl
theorem q1339 : (Jvm.Cond.selects "PennyJudge" ({ cls := "PennyJudge", name := "got", desc := "(I)J" } : Jvm.MethodName) ({ cls := "PennyJudge", name := "got", desc := "(I)J" } : Jvm.MethodName)) ∈ lw_all := lw_g (lw_at lw_m6 82 rfl) rfl
theorem q1340 : (Jvm.Cond.code ({ cls := "PennyJudge", name := "got", desc := "(I)J" } : Jvm.MethodName) prog_1_method_30_code (2 : Nat) (Option.some Jvm.ClassFile.FieldType.long)) ∈ lw_all := lw_g (lw_at lw_m6 83 rfl) rfl
theorem q1345 : (Jvm.Cond.instanceMethod ({ cls := "PennyJudge", name := "carried", desc := "(II)J" } : Jvm.MethodName)) ∈ lw_all := lw_g (lw_at lw_m6 88 rfl) rfl
theorem q1346 : (Jvm.Cond.selects "PennyJudge" ({ cls := "PennyJudge", name := "carried", desc := "(II)J" } : Jvm.MethodName) ({ cls := "PennyJudge", name := "carried", desc := "(II)J" } : Jvm.MethodName)) ∈ lw_all := lw_g (lw_at lw_m6 89 rfl) rfl
theorem q1347 : (Jvm.Cond.code ({ cls := "PennyJudge", name := "carried", desc := "(II)J" } : Jvm.MethodName) prog_1_method_31_code (3 : Nat) (Option.some Jvm.ClassFile.FieldType.long)) ∈ lw_all := lw_g (lw_at lw_m6 90 rfl) rfl
theorem q1352 : (Jvm.Cond.instanceMethod ({ cls := "PennyJudge", name := "drift", desc := "(IIIII)I" } : Jvm.MethodName)) ∈ lw_all := lw_g (lw_at lw_m6 95 rfl) rfl
theorem q1353 : (Jvm.Cond.selects "PennyJudge" ({ cls := "PennyJudge", name := "drift", desc := "(IIIII)I" } : Jvm.MethodName) ({ cls := "PennyJudge", name := "drift", desc := "(IIIII)I" } : Jvm.MethodName)) ∈ lw_all := lw_g (lw_at lw_m6 96 rfl) rfl
theorem q1354 : (Jvm.Cond.code ({ cls := "PennyJudge", name := "drift", desc := "(IIIII)I" } : Jvm.MethodName) prog_1_method_43_code (13 : Nat) (Option.some Jvm.ClassFile.FieldType.int)) ∈ lw_all := lw_g (lw_at lw_m6 97 rfl) rfl
theorem q1355 : (Jvm.Cond.methodLink "PennyJudge" (312 : Nat) ({ cls := "PennyJudge", name := "spread", desc := "(IIIII)V" } : Jvm.MethodName)) ∈ lw_all := lw_g (lw_at lw_m6 98 rfl) rfl
theorem q1356 : (Jvm.Cond.privateMethod ({ cls := "PennyJudge", name := "spread", desc := "(IIIII)V" } : Jvm.MethodName)) ∈ lw_tbl := lw_at lw_m6 99 rfl
theorem q1357 : (Jvm.Cond.instanceMethod ({ cls := "PennyJudge", name := "spread", desc := "(IIIII)V" } : Jvm.MethodName)) ∈ lw_all := lw_g (lw_at lw_m6 100 rfl) rfl
theorem q1358 : (Jvm.Cond.code ({ cls := "PennyJudge", name := "spread", desc := "(IIIII)V" } : Jvm.MethodName) prog_1_method_44_code (15 : Nat) (Option.none : Option Jvm.ClassFile.FieldType)) ∈ lw_all := lw_g (lw_at lw_m6 101 rfl) rfl
theorem q1359 : (Jvm.Cond.methodLink "PennyJudge" (316 : Nat) ({ cls := "PennyJudge", name := "up", desc := "(IIII)I" } : Jvm.MethodName)) ∈ lw_all := lw_g (lw_at lw_m6 102 rfl) rfl
theorem q1360 : (Jvm.Cond.static ({ cls := "PennyJudge", name := "up", desc := "(IIII)I" } : Jvm.MethodName)) ∈ lw_all := lw_g (lw_at lw_m6 103 rfl) rfl
theorem q1361 : (Jvm.Cond.code ({ cls := "PennyJudge", name := "up", desc := "(IIII)I" } : Jvm.MethodName) prog_1_method_42_code (4 : Nat) (Option.some Jvm.ClassFile.FieldType.int)) ∈ lw_all := lw_g (lw_at lw_m6 104 rfl) rfl
theorem q1366 : (Jvm.Cond.instanceMethod ({ cls := "PennyJudge", name := "rounded", desc := "(JIII)J" } : Jvm.MethodName)) ∈ lw_all := lw_g (lw_at lw_m6 109 rfl) rfl
theorem q1367 : (Jvm.Cond.selects "PennyJudge" ({ cls := "PennyJudge", name := "rounded", desc := "(JIII)J" } : Jvm.MethodName) ({ cls := "PennyJudge", name := "rounded", desc := "(JIII)J" } : Jvm.MethodName)) ∈ lw_all := lw_g (lw_at lw_m6 110 rfl) rfl
theorem q1368 : (Jvm.Cond.code ({ cls := "PennyJudge", name := "rounded", desc := "(JIII)J" } : Jvm.MethodName) prog_1_method_47_code (6 : Nat) (Option.some Jvm.ClassFile.FieldType.long)) ∈ lw_all := lw_g (lw_at lw_m6 111 rfl) rfl
theorem q1369 : (Jvm.Cond.constantLong "PennyJudge" (330 : Nat) (1000000000000 : Int64)) ∈ lw_all := lw_g (lw_at lw_m6 112 rfl) rfl
theorem q1370 : (Jvm.Cond.constantLong "PennyJudge" (332 : Nat) (-1000000000000 : Int64)) ∈ lw_all := lw_g (lw_at lw_m6 113 rfl) rfl
theorem q1376 : (Jvm.Cond.instanceMethod ({ cls := "PennyJudge", name := "at", desc := "(II)J" } : Jvm.MethodName)) ∈ lw_all := lw_g (lw_at lw_m6 119 rfl) rfl
theorem q1377 : (Jvm.Cond.selects "PennyJudge" ({ cls := "PennyJudge", name := "at", desc := "(II)J" } : Jvm.MethodName) ({ cls := "PennyJudge", name := "at", desc := "(II)J" } : Jvm.MethodName)) ∈ lw_all := lw_g (lw_at lw_m6 120 rfl) rfl
theorem q1378 : (Jvm.Cond.codeWith ({ cls := "PennyJudge", name := "at", desc := "(II)J" } : Jvm.MethodName) prog_1_method_59_code (6 : Nat) (Option.some Jvm.ClassFile.FieldType.long) [((16 : Nat), (30 : Nat), (33 : Nat), (355 : Nat)), ((16 : Nat), (30 : Nat), (43 : Nat), (357 : Nat)), ((16 : Nat), (30 : Nat), (53 : Nat), (382 : Nat))]) ∈ lw_all := lw_g (lw_at lw_m6 121 rfl) rfl
theorem q1379 : (Jvm.Cond.methodLink "PennyJudge" (389 : Nat) ({ cls := "PennyJudge", name := "element", desc := "(Ljava/lang/Object;I)J" } : Jvm.MethodName)) ∈ lw_all := lw_g (lw_at lw_m6 122 rfl) rfl
theorem q1380 : (Jvm.Cond.static ({ cls := "PennyJudge", name := "element", desc := "(Ljava/lang/Object;I)J" } : Jvm.MethodName)) ∈ lw_all := lw_g (lw_at lw_m6 123 rfl) rfl
theorem q1381 : (Jvm.Cond.code ({ cls := "PennyJudge", name := "element", desc := "(Ljava/lang/Object;I)J" } : Jvm.MethodName) prog_1_method_58_code (2 : Nat) (Option.some Jvm.ClassFile.FieldType.long)) ∈ lw_all := lw_g (lw_at lw_m6 124 rfl) rfl
theorem q1382 : (Jvm.Cond.classLink "PennyJudge" (392 : Nat) "java/lang/IllegalStateException") ∈ lw_all := lw_g (lw_at lw_m6 125 rfl) rfl
theorem q1391 : (Jvm.Cond.methodLink "PennyJudge" (394 : Nat) ({ cls := "java/lang/IllegalStateException", name := "<init>", desc := "()V" } : Jvm.MethodName)) ∈ lw_all := lw_g (lw_at lw_m6 134 rfl) rfl
theorem in_X1 : ∀ w ∈ wsX10, w ∈ lw_all := lw_in wsX10 [295, 297, 299, 301, 303, 305, 307, 309, 311, 313, 315, 317, 319, 321, 323, 325, 327, 329, 331, 333, 335, 337, 339, 341, 343] (by decide +kernel) (by decide +kernel)
