/-! LimbMakerModel -/
set_option maxRecDepth 100000
def RX1 : String := "LimbMakerModel"
def TX1 : u_T := fun k => match k with
  | 0 => ("LimbMakerModel", "finding", "I", false)
  | 1 => ("LimbMakerModel", "findings", "[I", true)
  | 2 => ("LimbMakerModel", "asked", "I", false)
  | 3 => ("LimbMakerModel", "isScan", "[Z", true)
  | 4 => ("LimbMakerModel", "radii", "[I", true)
  | 5 => ("LimbMakerModel", "moving", "[I", true)
  | 6 => ("LimbMakerModel", "rules", "I", false)
  | 7 => ("LimbMakerModel", "ruleFrom", "[I", true)
  | 8 => ("LimbMakerModel", "ruleTo", "[I", true)
  | 9 => ("LimbMakerModel", "rulePlaces", "[I", true)
  | 10 => ("LimbMakerModel", "ruleBy", "[I", true)
  | 11 => ("LimbMakerModel", "ends", "I", false)
  | 12 => ("LimbMakerModel", "endRow", "[I", true)
  | 13 => ("LimbMakerModel", "parts", "I", false)
  | 14 => ("LimbMakerModel", "kinds", "[I", true)
  | 15 => ("LimbMakerModel", "heights", "[I", true)
  | 16 => ("LimbMakerModel", "bears", "[I", true)
  | 17 => ("LimbMakerModel", "prices", "[I", true)
  | 18 => ("LimbMakerModel", "uppers", "[I", true)
  | 19 => ("LimbMakerModel", "lowers", "[I", true)
  | 20 => ("LimbMakerModel", "cutOf", "[I", true)
  | 21 => ("LimbMakerModel", "isRecalled", "[Z", true)
  | 22 => ("LimbMakerModel", "row", "[I", true)
  | 23 => ("LimbMakerModel", "bestRow", "[I", true)
  | 24 => ("LimbMakerModel", "bestMany", "I", false)
  | 25 => ("LimbMakerModel", "bestCuts", "I", false)
  | 26 => ("LimbMakerModel", "tries", "I", false)
  | 27 => ("LimbMakerModel", "moves", "I", false)
  | 28 => ("LimbMakerModel", "isTurn", "[Z", true)
  | 29 => ("LimbMakerModel", "moveRows", "[I", true)
  | 30 => ("LimbMakerModel", "point", "[I", true)
  | 31 => ("LimbMakerModel", "sizes", "[I", true)
  | _ => ("LimbMakerModel", "loads", "[I", true)
def tyX1 : Nat → FieldType := fun k => match k with
  | 0 => .int
  | 1 => .array .int
  | 2 => .int
  | 3 => .array .boolean
  | 4 => .array .int
  | 5 => .array .int
  | 6 => .int
  | 7 => .array .int
  | 8 => .array .int
  | 9 => .array .int
  | 10 => .array .int
  | 11 => .int
  | 12 => .array .int
  | 13 => .int
  | 14 => .array .int
  | 15 => .array .int
  | 16 => .array .int
  | 17 => .array .int
  | 18 => .array .int
  | 19 => .array .int
  | 20 => .array .int
  | 21 => .array .boolean
  | 22 => .array .int
  | 23 => .array .int
  | 24 => .int
  | 25 => .int
  | 26 => .int
  | 27 => .int
  | 28 => .array .boolean
  | 29 => .array .int
  | 30 => .array .int
  | 31 => .array .int
  | _ => .array .int
abbrev wsX10 : List Cond := u_ws RX1 TX1 33
set_option maxRecDepth 100000 in
theorem nmX1 : ∀ a, a < 33 → ∀ b, b < 33 → a ≠ b → (TX1 a).2.1 ≠ (TX1 b).2.1 := by decide +kernel
set_option maxRecDepth 100000 in
theorem tyX1_ok : ∀ k, k < 33 → parseFieldDescriptor (TX1 k).2.2.1 = some (tyX1 k) := by decide +kernel
abbrev cX1_init : ByteArray := prog_12_method_1_code
def yX1_init : MethodName := ⟨RX1, "<init>", "()V"⟩
def dkwX1_init_8 : List UInt8 := [181, 0, 81, 42, 16, 80, 188, 10, 181, 0, 84, 177]
abbrev dktX1_init_8 : List UInt8 := dkwX1_init_8 ++ []
def dkwX1_init_7 : List UInt8 := [181, 0, 72, 42, 16, 60, 188, 10, 181, 0, 75, 42, 6, 188, 10, 181, 0, 78, 42, 5, 188, 10]
abbrev dktX1_init_7 : List UInt8 := dkwX1_init_7 ++ dktX1_init_8
def dkwX1_init_6 : List UInt8 := [188, 10, 181, 0, 62, 42, 16, 17, 188, 10, 181, 0, 65, 42, 16, 247, 181, 0, 68, 42, 16, 20, 188, 4]
abbrev dktX1_init_6 : List UInt8 := dkwX1_init_6 ++ dktX1_init_7
def dkwX1_init_5 : List UInt8 := [188, 10, 181, 0, 53, 42, 16, 16, 188, 10, 181, 0, 56, 42, 16, 16, 188, 4, 181, 0, 59, 42, 16, 17]
abbrev dktX1_init_5 : List UInt8 := dkwX1_init_5 ++ dktX1_init_6
def dkwX1_init_4 : List UInt8 := [188, 10, 181, 0, 44, 42, 16, 16, 188, 10, 181, 0, 47, 42, 16, 16, 188, 10, 181, 0, 50, 42, 16, 16]
abbrev dktX1_init_4 : List UInt8 := dkwX1_init_4 ++ dktX1_init_5
def dkwX1_init_3 : List UInt8 := [188, 10, 181, 0, 35, 42, 16, 16, 188, 10, 181, 0, 38, 42, 16, 16, 188, 10, 181, 0, 41, 42, 16, 16]
abbrev dktX1_init_3 : List UInt8 := dkwX1_init_3 ++ dktX1_init_4
def dkwX1_init_2 : List UInt8 := [188, 10, 181, 0, 26, 42, 16, 12, 188, 10, 181, 0, 29, 42, 16, 12, 188, 10, 181, 0, 32, 42, 16, 8]
abbrev dktX1_init_2 : List UInt8 := dkwX1_init_2 ++ dktX1_init_3
def dkwX1_init_1 : List UInt8 := [188, 10, 181, 0, 17, 42, 16, 96, 188, 10, 181, 0, 20, 42, 16, 12, 188, 10, 181, 0, 23, 42, 16, 12]
abbrev dktX1_init_1 : List UInt8 := dkwX1_init_1 ++ dktX1_init_2
def dkwX1_init_0 : List UInt8 := [42, 183, 0, 1, 42, 16, 6, 188, 10, 181, 0, 7, 42, 7, 188, 4, 181, 0, 13, 42, 17, 1, 128]
abbrev dktX1_init_0 : List UInt8 := dkwX1_init_0 ++ dktX1_init_1
theorem dksX1_init_0 : cX1_init.data.toList.drop 0 = dktX1_init_0 := by decide +kernel
theorem dksX1_init_1 : cX1_init.data.toList.drop 23 = dktX1_init_1 := dk_seg dksX1_init_0 23 rfl rfl
theorem dksX1_init_2 : cX1_init.data.toList.drop 47 = dktX1_init_2 := dk_seg dksX1_init_1 24 rfl rfl
theorem dksX1_init_3 : cX1_init.data.toList.drop 71 = dktX1_init_3 := dk_seg dksX1_init_2 24 rfl rfl
theorem dksX1_init_4 : cX1_init.data.toList.drop 95 = dktX1_init_4 := dk_seg dksX1_init_3 24 rfl rfl
theorem dksX1_init_5 : cX1_init.data.toList.drop 119 = dktX1_init_5 := dk_seg dksX1_init_4 24 rfl rfl
theorem dksX1_init_6 : cX1_init.data.toList.drop 143 = dktX1_init_6 := dk_seg dksX1_init_5 24 rfl rfl
theorem dksX1_init_7 : cX1_init.data.toList.drop 167 = dktX1_init_7 := dk_seg dksX1_init_6 24 rfl rfl
theorem dksX1_init_8 : cX1_init.data.toList.drop 189 = dktX1_init_8 := dk_seg dksX1_init_7 22 rfl rfl
theorem dX1_init_0 : decode cX1_init 0 = .ok (.aload_n 0, 1) := dk_42 (dk_at dksX1_init_0 0 rfl rfl)
theorem dX1_init_1 : decode cX1_init 1 = .ok (.invokespecial 1, 3) := dk_183 0 1 (dk_at dksX1_init_0 1 rfl rfl)
theorem dX1_init_4 : decode cX1_init 4 = .ok (.aload_n 0, 1) := dk_42 (dk_at dksX1_init_0 4 rfl rfl)
theorem dX1_init_5 : decode cX1_init 5 = .ok (.bipush 6, 2) := dk_16 6 (dk_at dksX1_init_0 5 rfl rfl)
theorem dX1_init_7 : decode cX1_init 7 = .ok (.newarray .int, 2) := dk_188_10 (dk_at dksX1_init_0 7 rfl rfl)
theorem dX1_init_9 : decode cX1_init 9 = .ok (.putfield 7, 3) := dk_181 0 7 (dk_at dksX1_init_0 9 rfl rfl)
theorem dX1_init_12 : decode cX1_init 12 = .ok (.aload_n 0, 1) := dk_42 (dk_at dksX1_init_0 12 rfl rfl)
theorem dX1_init_13 : decode cX1_init 13 = .ok (.iconst 4, 1) := dk_7 (dk_at dksX1_init_0 13 rfl rfl)
theorem dX1_init_14 : decode cX1_init 14 = .ok (.newarray .boolean, 2) := dk_188_4 (dk_at dksX1_init_0 14 rfl rfl)
theorem dX1_init_16 : decode cX1_init 16 = .ok (.putfield 13, 3) := dk_181 0 13 (dk_at dksX1_init_0 16 rfl rfl)
theorem dX1_init_19 : decode cX1_init 19 = .ok (.aload_n 0, 1) := dk_42 (dk_at dksX1_init_0 19 rfl rfl)
theorem dX1_init_20 : decode cX1_init 20 = .ok (.sipush 384, 3) := dk_17 1 128 (dk_at dksX1_init_0 20 rfl rfl)
theorem dX1_init_23 : decode cX1_init 23 = .ok (.newarray .int, 2) := dk_188_10 (dk_at dksX1_init_1 0 rfl rfl)
theorem dX1_init_25 : decode cX1_init 25 = .ok (.putfield 17, 3) := dk_181 0 17 (dk_at dksX1_init_1 2 rfl rfl)
theorem dX1_init_28 : decode cX1_init 28 = .ok (.aload_n 0, 1) := dk_42 (dk_at dksX1_init_1 5 rfl rfl)
theorem dX1_init_29 : decode cX1_init 29 = .ok (.bipush 96, 2) := dk_16 96 (dk_at dksX1_init_1 6 rfl rfl)
theorem dX1_init_31 : decode cX1_init 31 = .ok (.newarray .int, 2) := dk_188_10 (dk_at dksX1_init_1 8 rfl rfl)
theorem dX1_init_33 : decode cX1_init 33 = .ok (.putfield 20, 3) := dk_181 0 20 (dk_at dksX1_init_1 10 rfl rfl)
theorem dX1_init_36 : decode cX1_init 36 = .ok (.aload_n 0, 1) := dk_42 (dk_at dksX1_init_1 13 rfl rfl)
theorem dX1_init_37 : decode cX1_init 37 = .ok (.bipush 12, 2) := dk_16 12 (dk_at dksX1_init_1 14 rfl rfl)
theorem dX1_init_39 : decode cX1_init 39 = .ok (.newarray .int, 2) := dk_188_10 (dk_at dksX1_init_1 16 rfl rfl)
theorem dX1_init_41 : decode cX1_init 41 = .ok (.putfield 23, 3) := dk_181 0 23 (dk_at dksX1_init_1 18 rfl rfl)
theorem dX1_init_44 : decode cX1_init 44 = .ok (.aload_n 0, 1) := dk_42 (dk_at dksX1_init_1 21 rfl rfl)
theorem dX1_init_45 : decode cX1_init 45 = .ok (.bipush 12, 2) := dk_16 12 (dk_at dksX1_init_1 22 rfl rfl)
theorem dX1_init_47 : decode cX1_init 47 = .ok (.newarray .int, 2) := dk_188_10 (dk_at dksX1_init_2 0 rfl rfl)
theorem dX1_init_49 : decode cX1_init 49 = .ok (.putfield 26, 3) := dk_181 0 26 (dk_at dksX1_init_2 2 rfl rfl)
theorem dX1_init_52 : decode cX1_init 52 = .ok (.aload_n 0, 1) := dk_42 (dk_at dksX1_init_2 5 rfl rfl)
theorem dX1_init_53 : decode cX1_init 53 = .ok (.bipush 12, 2) := dk_16 12 (dk_at dksX1_init_2 6 rfl rfl)
theorem dX1_init_55 : decode cX1_init 55 = .ok (.newarray .int, 2) := dk_188_10 (dk_at dksX1_init_2 8 rfl rfl)
theorem dX1_init_57 : decode cX1_init 57 = .ok (.putfield 29, 3) := dk_181 0 29 (dk_at dksX1_init_2 10 rfl rfl)
theorem dX1_init_60 : decode cX1_init 60 = .ok (.aload_n 0, 1) := dk_42 (dk_at dksX1_init_2 13 rfl rfl)
theorem dX1_init_61 : decode cX1_init 61 = .ok (.bipush 12, 2) := dk_16 12 (dk_at dksX1_init_2 14 rfl rfl)
theorem dX1_init_63 : decode cX1_init 63 = .ok (.newarray .int, 2) := dk_188_10 (dk_at dksX1_init_2 16 rfl rfl)
theorem dX1_init_65 : decode cX1_init 65 = .ok (.putfield 32, 3) := dk_181 0 32 (dk_at dksX1_init_2 18 rfl rfl)
theorem dX1_init_68 : decode cX1_init 68 = .ok (.aload_n 0, 1) := dk_42 (dk_at dksX1_init_2 21 rfl rfl)
theorem dX1_init_69 : decode cX1_init 69 = .ok (.bipush 8, 2) := dk_16 8 (dk_at dksX1_init_2 22 rfl rfl)
theorem dX1_init_71 : decode cX1_init 71 = .ok (.newarray .int, 2) := dk_188_10 (dk_at dksX1_init_3 0 rfl rfl)
theorem dX1_init_73 : decode cX1_init 73 = .ok (.putfield 35, 3) := dk_181 0 35 (dk_at dksX1_init_3 2 rfl rfl)
theorem dX1_init_76 : decode cX1_init 76 = .ok (.aload_n 0, 1) := dk_42 (dk_at dksX1_init_3 5 rfl rfl)
theorem dX1_init_77 : decode cX1_init 77 = .ok (.bipush 16, 2) := dk_16 16 (dk_at dksX1_init_3 6 rfl rfl)
theorem dX1_init_79 : decode cX1_init 79 = .ok (.newarray .int, 2) := dk_188_10 (dk_at dksX1_init_3 8 rfl rfl)
theorem dX1_init_81 : decode cX1_init 81 = .ok (.putfield 38, 3) := dk_181 0 38 (dk_at dksX1_init_3 10 rfl rfl)
theorem dX1_init_84 : decode cX1_init 84 = .ok (.aload_n 0, 1) := dk_42 (dk_at dksX1_init_3 13 rfl rfl)
theorem dX1_init_85 : decode cX1_init 85 = .ok (.bipush 16, 2) := dk_16 16 (dk_at dksX1_init_3 14 rfl rfl)
theorem dX1_init_87 : decode cX1_init 87 = .ok (.newarray .int, 2) := dk_188_10 (dk_at dksX1_init_3 16 rfl rfl)
theorem dX1_init_89 : decode cX1_init 89 = .ok (.putfield 41, 3) := dk_181 0 41 (dk_at dksX1_init_3 18 rfl rfl)
theorem dX1_init_92 : decode cX1_init 92 = .ok (.aload_n 0, 1) := dk_42 (dk_at dksX1_init_3 21 rfl rfl)
theorem dX1_init_93 : decode cX1_init 93 = .ok (.bipush 16, 2) := dk_16 16 (dk_at dksX1_init_3 22 rfl rfl)
theorem dX1_init_95 : decode cX1_init 95 = .ok (.newarray .int, 2) := dk_188_10 (dk_at dksX1_init_4 0 rfl rfl)
theorem dX1_init_97 : decode cX1_init 97 = .ok (.putfield 44, 3) := dk_181 0 44 (dk_at dksX1_init_4 2 rfl rfl)
theorem dX1_init_100 : decode cX1_init 100 = .ok (.aload_n 0, 1) := dk_42 (dk_at dksX1_init_4 5 rfl rfl)
theorem dX1_init_101 : decode cX1_init 101 = .ok (.bipush 16, 2) := dk_16 16 (dk_at dksX1_init_4 6 rfl rfl)
theorem dX1_init_103 : decode cX1_init 103 = .ok (.newarray .int, 2) := dk_188_10 (dk_at dksX1_init_4 8 rfl rfl)
theorem dX1_init_105 : decode cX1_init 105 = .ok (.putfield 47, 3) := dk_181 0 47 (dk_at dksX1_init_4 10 rfl rfl)
theorem dX1_init_108 : decode cX1_init 108 = .ok (.aload_n 0, 1) := dk_42 (dk_at dksX1_init_4 13 rfl rfl)
theorem dX1_init_109 : decode cX1_init 109 = .ok (.bipush 16, 2) := dk_16 16 (dk_at dksX1_init_4 14 rfl rfl)
theorem dX1_init_111 : decode cX1_init 111 = .ok (.newarray .int, 2) := dk_188_10 (dk_at dksX1_init_4 16 rfl rfl)
theorem dX1_init_113 : decode cX1_init 113 = .ok (.putfield 50, 3) := dk_181 0 50 (dk_at dksX1_init_4 18 rfl rfl)
theorem dX1_init_116 : decode cX1_init 116 = .ok (.aload_n 0, 1) := dk_42 (dk_at dksX1_init_4 21 rfl rfl)
theorem dX1_init_117 : decode cX1_init 117 = .ok (.bipush 16, 2) := dk_16 16 (dk_at dksX1_init_4 22 rfl rfl)
theorem dX1_init_119 : decode cX1_init 119 = .ok (.newarray .int, 2) := dk_188_10 (dk_at dksX1_init_5 0 rfl rfl)
theorem dX1_init_121 : decode cX1_init 121 = .ok (.putfield 53, 3) := dk_181 0 53 (dk_at dksX1_init_5 2 rfl rfl)
theorem dX1_init_124 : decode cX1_init 124 = .ok (.aload_n 0, 1) := dk_42 (dk_at dksX1_init_5 5 rfl rfl)
theorem dX1_init_125 : decode cX1_init 125 = .ok (.bipush 16, 2) := dk_16 16 (dk_at dksX1_init_5 6 rfl rfl)
theorem dX1_init_127 : decode cX1_init 127 = .ok (.newarray .int, 2) := dk_188_10 (dk_at dksX1_init_5 8 rfl rfl)
theorem dX1_init_129 : decode cX1_init 129 = .ok (.putfield 56, 3) := dk_181 0 56 (dk_at dksX1_init_5 10 rfl rfl)
theorem dX1_init_132 : decode cX1_init 132 = .ok (.aload_n 0, 1) := dk_42 (dk_at dksX1_init_5 13 rfl rfl)
theorem dX1_init_133 : decode cX1_init 133 = .ok (.bipush 16, 2) := dk_16 16 (dk_at dksX1_init_5 14 rfl rfl)
theorem dX1_init_135 : decode cX1_init 135 = .ok (.newarray .boolean, 2) := dk_188_4 (dk_at dksX1_init_5 16 rfl rfl)
theorem dX1_init_137 : decode cX1_init 137 = .ok (.putfield 59, 3) := dk_181 0 59 (dk_at dksX1_init_5 18 rfl rfl)
theorem dX1_init_140 : decode cX1_init 140 = .ok (.aload_n 0, 1) := dk_42 (dk_at dksX1_init_5 21 rfl rfl)
theorem dX1_init_141 : decode cX1_init 141 = .ok (.bipush 17, 2) := dk_16 17 (dk_at dksX1_init_5 22 rfl rfl)
theorem dX1_init_143 : decode cX1_init 143 = .ok (.newarray .int, 2) := dk_188_10 (dk_at dksX1_init_6 0 rfl rfl)
theorem dX1_init_145 : decode cX1_init 145 = .ok (.putfield 62, 3) := dk_181 0 62 (dk_at dksX1_init_6 2 rfl rfl)
theorem dX1_init_148 : decode cX1_init 148 = .ok (.aload_n 0, 1) := dk_42 (dk_at dksX1_init_6 5 rfl rfl)
theorem dX1_init_149 : decode cX1_init 149 = .ok (.bipush 17, 2) := dk_16 17 (dk_at dksX1_init_6 6 rfl rfl)
theorem dX1_init_151 : decode cX1_init 151 = .ok (.newarray .int, 2) := dk_188_10 (dk_at dksX1_init_6 8 rfl rfl)
theorem dX1_init_153 : decode cX1_init 153 = .ok (.putfield 65, 3) := dk_181 0 65 (dk_at dksX1_init_6 10 rfl rfl)
theorem dX1_init_156 : decode cX1_init 156 = .ok (.aload_n 0, 1) := dk_42 (dk_at dksX1_init_6 13 rfl rfl)
theorem dX1_init_157 : decode cX1_init 157 = .ok (.bipush (-9), 2) := dk_16 247 (dk_at dksX1_init_6 14 rfl rfl)
theorem dX1_init_159 : decode cX1_init 159 = .ok (.putfield 68, 3) := dk_181 0 68 (dk_at dksX1_init_6 16 rfl rfl)
theorem dX1_init_162 : decode cX1_init 162 = .ok (.aload_n 0, 1) := dk_42 (dk_at dksX1_init_6 19 rfl rfl)
theorem dX1_init_163 : decode cX1_init 163 = .ok (.bipush 20, 2) := dk_16 20 (dk_at dksX1_init_6 20 rfl rfl)
theorem dX1_init_165 : decode cX1_init 165 = .ok (.newarray .boolean, 2) := dk_188_4 (dk_at dksX1_init_6 22 rfl rfl)
theorem dX1_init_167 : decode cX1_init 167 = .ok (.putfield 72, 3) := dk_181 0 72 (dk_at dksX1_init_7 0 rfl rfl)
theorem dX1_init_170 : decode cX1_init 170 = .ok (.aload_n 0, 1) := dk_42 (dk_at dksX1_init_7 3 rfl rfl)
theorem dX1_init_171 : decode cX1_init 171 = .ok (.bipush 60, 2) := dk_16 60 (dk_at dksX1_init_7 4 rfl rfl)
theorem dX1_init_173 : decode cX1_init 173 = .ok (.newarray .int, 2) := dk_188_10 (dk_at dksX1_init_7 6 rfl rfl)
theorem dX1_init_175 : decode cX1_init 175 = .ok (.putfield 75, 3) := dk_181 0 75 (dk_at dksX1_init_7 8 rfl rfl)
theorem dX1_init_178 : decode cX1_init 178 = .ok (.aload_n 0, 1) := dk_42 (dk_at dksX1_init_7 11 rfl rfl)
theorem dX1_init_179 : decode cX1_init 179 = .ok (.iconst 3, 1) := dk_6 (dk_at dksX1_init_7 12 rfl rfl)
theorem dX1_init_180 : decode cX1_init 180 = .ok (.newarray .int, 2) := dk_188_10 (dk_at dksX1_init_7 13 rfl rfl)
theorem dX1_init_182 : decode cX1_init 182 = .ok (.putfield 78, 3) := dk_181 0 78 (dk_at dksX1_init_7 15 rfl rfl)
theorem dX1_init_185 : decode cX1_init 185 = .ok (.aload_n 0, 1) := dk_42 (dk_at dksX1_init_7 18 rfl rfl)
theorem dX1_init_186 : decode cX1_init 186 = .ok (.iconst 2, 1) := dk_5 (dk_at dksX1_init_7 19 rfl rfl)
theorem dX1_init_187 : decode cX1_init 187 = .ok (.newarray .int, 2) := dk_188_10 (dk_at dksX1_init_7 20 rfl rfl)
theorem dX1_init_189 : decode cX1_init 189 = .ok (.putfield 81, 3) := dk_181 0 81 (dk_at dksX1_init_8 0 rfl rfl)
theorem dX1_init_192 : decode cX1_init 192 = .ok (.aload_n 0, 1) := dk_42 (dk_at dksX1_init_8 3 rfl rfl)
theorem dX1_init_193 : decode cX1_init 193 = .ok (.bipush 80, 2) := dk_16 80 (dk_at dksX1_init_8 4 rfl rfl)
theorem dX1_init_195 : decode cX1_init 195 = .ok (.newarray .int, 2) := dk_188_10 (dk_at dksX1_init_8 6 rfl rfl)
theorem dX1_init_197 : decode cX1_init 197 = .ok (.putfield 84, 3) := dk_181 0 84 (dk_at dksX1_init_8 8 rfl rfl)
theorem dX1_init_200 : decode cX1_init 200 = .ok (.return_, 1) := dk_177 (dk_at dksX1_init_8 11 rfl rfl)
abbrev cX1_scan : ByteArray := prog_12_method_10_code
def yX1_scan : MethodName := ⟨RX1, "scan", "(I)I"⟩
def dkwX1_scan_2 : List UInt8 := [96, 16, 247, 79, 132, 3, 1, 167, 255, 234, 28, 172]
abbrev dktX1_scan_2 : List UInt8 := dkwX1_scan_2 ++ []
def dkwX1_scan_1 : List UInt8 := [42, 180, 0, 13, 27, 4, 84, 3, 62, 29, 16, 96, 162, 0, 22, 42, 180, 0, 17, 16, 96, 27, 104, 29]
abbrev dktX1_scan_1 : List UInt8 := dkwX1_scan_1 ++ dktX1_scan_2
def dkwX1_scan_0 : List UInt8 := [27, 184, 0, 97, 154, 0, 5, 2, 172, 42, 180, 0, 13, 27, 51, 153, 0, 7, 4, 167, 0, 4, 3, 61]
abbrev dktX1_scan_0 : List UInt8 := dkwX1_scan_0 ++ dktX1_scan_1
theorem dksX1_scan_0 : cX1_scan.data.toList.drop 0 = dktX1_scan_0 := by decide +kernel
theorem dksX1_scan_1 : cX1_scan.data.toList.drop 24 = dktX1_scan_1 := dk_seg dksX1_scan_0 24 rfl rfl
theorem dksX1_scan_2 : cX1_scan.data.toList.drop 48 = dktX1_scan_2 := dk_seg dksX1_scan_1 24 rfl rfl
theorem dX1_scan_0 : decode cX1_scan 0 = .ok (.iload_n 1, 1) := dk_27 (dk_at dksX1_scan_0 0 rfl rfl)
theorem dX1_scan_1 : decode cX1_scan 1 = .ok (.invokestatic 97, 3) := dk_184 0 97 (dk_at dksX1_scan_0 1 rfl rfl)
theorem dX1_scan_4 : decode cX1_scan 4 = .ok (.ifCond .ne 5, 3) := dk_154 0 5 (dk_at dksX1_scan_0 4 rfl rfl)
theorem dX1_scan_7 : decode cX1_scan 7 = .ok (.iconst (-1), 1) := dk_2 (dk_at dksX1_scan_0 7 rfl rfl)
theorem dX1_scan_8 : decode cX1_scan 8 = .ok (.ireturn, 1) := dk_172 (dk_at dksX1_scan_0 8 rfl rfl)
theorem dX1_scan_9 : decode cX1_scan 9 = .ok (.aload_n 0, 1) := dk_42 (dk_at dksX1_scan_0 9 rfl rfl)
theorem dX1_scan_10 : decode cX1_scan 10 = .ok (.getfield 13, 3) := dk_180 0 13 (dk_at dksX1_scan_0 10 rfl rfl)
theorem dX1_scan_13 : decode cX1_scan 13 = .ok (.iload_n 1, 1) := dk_27 (dk_at dksX1_scan_0 13 rfl rfl)
theorem dX1_scan_14 : decode cX1_scan 14 = .ok (.baload, 1) := dk_51 (dk_at dksX1_scan_0 14 rfl rfl)
theorem dX1_scan_15 : decode cX1_scan 15 = .ok (.ifCond .eq 7, 3) := dk_153 0 7 (dk_at dksX1_scan_0 15 rfl rfl)
theorem dX1_scan_18 : decode cX1_scan 18 = .ok (.iconst 1, 1) := dk_4 (dk_at dksX1_scan_0 18 rfl rfl)
theorem dX1_scan_19 : decode cX1_scan 19 = .ok (.goto 4, 3) := dk_167 0 4 (dk_at dksX1_scan_0 19 rfl rfl)
theorem dX1_scan_22 : decode cX1_scan 22 = .ok (.iconst 0, 1) := dk_3 (dk_at dksX1_scan_0 22 rfl rfl)
theorem dX1_scan_23 : decode cX1_scan 23 = .ok (.istore_n 2, 1) := dk_61 (dk_at dksX1_scan_0 23 rfl rfl)
theorem dX1_scan_24 : decode cX1_scan 24 = .ok (.aload_n 0, 1) := dk_42 (dk_at dksX1_scan_1 0 rfl rfl)
theorem dX1_scan_25 : decode cX1_scan 25 = .ok (.getfield 13, 3) := dk_180 0 13 (dk_at dksX1_scan_1 1 rfl rfl)
theorem dX1_scan_28 : decode cX1_scan 28 = .ok (.iload_n 1, 1) := dk_27 (dk_at dksX1_scan_1 4 rfl rfl)
theorem dX1_scan_29 : decode cX1_scan 29 = .ok (.iconst 1, 1) := dk_4 (dk_at dksX1_scan_1 5 rfl rfl)
theorem dX1_scan_30 : decode cX1_scan 30 = .ok (.bastore, 1) := dk_84 (dk_at dksX1_scan_1 6 rfl rfl)
theorem dX1_scan_31 : decode cX1_scan 31 = .ok (.iconst 0, 1) := dk_3 (dk_at dksX1_scan_1 7 rfl rfl)
theorem dX1_scan_32 : decode cX1_scan 32 = .ok (.istore_n 3, 1) := dk_62 (dk_at dksX1_scan_1 8 rfl rfl)
theorem dX1_scan_33 : decode cX1_scan 33 = .ok (.iload_n 3, 1) := dk_29 (dk_at dksX1_scan_1 9 rfl rfl)
theorem dX1_scan_34 : decode cX1_scan 34 = .ok (.bipush 96, 2) := dk_16 96 (dk_at dksX1_scan_1 10 rfl rfl)
theorem dX1_scan_36 : decode cX1_scan 36 = .ok (.if_icmp .ge 22, 3) := dk_162 0 22 (dk_at dksX1_scan_1 12 rfl rfl)
theorem dX1_scan_39 : decode cX1_scan 39 = .ok (.aload_n 0, 1) := dk_42 (dk_at dksX1_scan_1 15 rfl rfl)
theorem dX1_scan_40 : decode cX1_scan 40 = .ok (.getfield 17, 3) := dk_180 0 17 (dk_at dksX1_scan_1 16 rfl rfl)
theorem dX1_scan_43 : decode cX1_scan 43 = .ok (.bipush 96, 2) := dk_16 96 (dk_at dksX1_scan_1 19 rfl rfl)
theorem dX1_scan_45 : decode cX1_scan 45 = .ok (.iload_n 1, 1) := dk_27 (dk_at dksX1_scan_1 21 rfl rfl)
theorem dX1_scan_46 : decode cX1_scan 46 = .ok (.imul, 1) := dk_104 (dk_at dksX1_scan_1 22 rfl rfl)
theorem dX1_scan_47 : decode cX1_scan 47 = .ok (.iload_n 3, 1) := dk_29 (dk_at dksX1_scan_1 23 rfl rfl)
theorem dX1_scan_48 : decode cX1_scan 48 = .ok (.iadd, 1) := dk_96 (dk_at dksX1_scan_2 0 rfl rfl)
theorem dX1_scan_49 : decode cX1_scan 49 = .ok (.bipush (-9), 2) := dk_16 247 (dk_at dksX1_scan_2 1 rfl rfl)
theorem dX1_scan_51 : decode cX1_scan 51 = .ok (.iastore, 1) := dk_79 (dk_at dksX1_scan_2 3 rfl rfl)
theorem dX1_scan_52 : decode cX1_scan 52 = .ok (.iinc 3 1, 3) := dk_132 3 1 (dk_at dksX1_scan_2 4 rfl rfl)
theorem dX1_scan_55 : decode cX1_scan 55 = .ok (.goto (-22), 3) := dk_167 255 234 (dk_at dksX1_scan_2 7 rfl rfl)
theorem dX1_scan_58 : decode cX1_scan 58 = .ok (.iload_n 2, 1) := dk_28 (dk_at dksX1_scan_2 10 rfl rfl)
theorem dX1_scan_59 : decode cX1_scan 59 = .ok (.ireturn, 1) := dk_172 (dk_at dksX1_scan_2 11 rfl rfl)
abbrev cX1_isNumber : ByteArray := prog_12_method_6_code
def yX1_isNumber : MethodName := ⟨RX1, "isNumber", "(I)Z"⟩
def dkwX1_isNumber_0 : List UInt8 := [26, 3, 6, 184, 0, 93, 172]
abbrev dktX1_isNumber_0 : List UInt8 := dkwX1_isNumber_0 ++ []
theorem dksX1_isNumber_0 : cX1_isNumber.data.toList.drop 0 = dktX1_isNumber_0 := by decide +kernel
theorem dX1_isNumber_0 : decode cX1_isNumber 0 = .ok (.iload_n 0, 1) := dk_26 (dk_at dksX1_isNumber_0 0 rfl rfl)
theorem dX1_isNumber_1 : decode cX1_isNumber 1 = .ok (.iconst 0, 1) := dk_3 (dk_at dksX1_isNumber_0 1 rfl rfl)
theorem dX1_isNumber_2 : decode cX1_isNumber 2 = .ok (.iconst 3, 1) := dk_6 (dk_at dksX1_isNumber_0 2 rfl rfl)
theorem dX1_isNumber_3 : decode cX1_isNumber 3 = .ok (.invokestatic 93, 3) := dk_184 0 93 (dk_at dksX1_isNumber_0 3 rfl rfl)
theorem dX1_isNumber_6 : decode cX1_isNumber 6 = .ok (.ireturn, 1) := dk_172 (dk_at dksX1_isNumber_0 6 rfl rfl)
abbrev cX1_in : ByteArray := prog_12_method_3_code
def yX1_in : MethodName := ⟨RX1, "in", "(III)Z"⟩
def dkwX1_in_0 : List UInt8 := [26, 27, 161, 0, 12, 26, 28, 163, 0, 7, 4, 167, 0, 4, 3, 172]
abbrev dktX1_in_0 : List UInt8 := dkwX1_in_0 ++ []
theorem dksX1_in_0 : cX1_in.data.toList.drop 0 = dktX1_in_0 := by decide +kernel
theorem dX1_in_0 : decode cX1_in 0 = .ok (.iload_n 0, 1) := dk_26 (dk_at dksX1_in_0 0 rfl rfl)
theorem dX1_in_1 : decode cX1_in 1 = .ok (.iload_n 1, 1) := dk_27 (dk_at dksX1_in_0 1 rfl rfl)
theorem dX1_in_2 : decode cX1_in 2 = .ok (.if_icmp .lt 12, 3) := dk_161 0 12 (dk_at dksX1_in_0 2 rfl rfl)
theorem dX1_in_5 : decode cX1_in 5 = .ok (.iload_n 0, 1) := dk_26 (dk_at dksX1_in_0 5 rfl rfl)
theorem dX1_in_6 : decode cX1_in 6 = .ok (.iload_n 2, 1) := dk_28 (dk_at dksX1_in_0 6 rfl rfl)
theorem dX1_in_7 : decode cX1_in 7 = .ok (.if_icmp .gt 7, 3) := dk_163 0 7 (dk_at dksX1_in_0 7 rfl rfl)
theorem dX1_in_10 : decode cX1_in 10 = .ok (.iconst 1, 1) := dk_4 (dk_at dksX1_in_0 10 rfl rfl)
theorem dX1_in_11 : decode cX1_in 11 = .ok (.goto 4, 3) := dk_167 0 4 (dk_at dksX1_in_0 11 rfl rfl)
theorem dX1_in_14 : decode cX1_in 14 = .ok (.iconst 0, 1) := dk_3 (dk_at dksX1_in_0 14 rfl rfl)
theorem dX1_in_15 : decode cX1_in 15 = .ok (.ireturn, 1) := dk_172 (dk_at dksX1_in_0 15 rfl rfl)
abbrev cX1_lay : ByteArray := prog_12_method_11_code
def yX1_lay : MethodName := ⟨RX1, "lay", "(IIII)I"⟩
def dkwX1_lay_3 : List UInt8 := [54, 7, 42, 180, 0, 17, 21, 6, 21, 4, 79, 21, 7, 172]
abbrev dktX1_lay_3 : List UInt8 := dkwX1_lay_3 ++ []
def dkwX1_lay_2 : List UInt8 := [182, 0, 101, 172, 16, 96, 27, 104, 16, 8, 28, 104, 96, 29, 96, 54, 6, 42, 180, 0, 17, 21, 6, 46]
abbrev dktX1_lay_2 : List UInt8 := dkwX1_lay_2 ++ dktX1_lay_3
def dkwX1_lay_1 : List UInt8 := [182, 0, 108, 54, 5, 21, 5, 156, 0, 6, 21, 5, 172, 28, 29, 184, 0, 111, 154, 0, 9, 42, 5]
abbrev dktX1_lay_1 : List UInt8 := dkwX1_lay_1 ++ dktX1_lay_2
def dkwX1_lay_0 : List UInt8 := [21, 4, 16, 247, 159, 0, 17, 21, 4, 3, 17, 1, 244, 184, 0, 93, 154, 0, 5, 2, 172, 42, 27]
abbrev dktX1_lay_0 : List UInt8 := dkwX1_lay_0 ++ dktX1_lay_1
theorem dksX1_lay_0 : cX1_lay.data.toList.drop 0 = dktX1_lay_0 := by decide +kernel
theorem dksX1_lay_1 : cX1_lay.data.toList.drop 23 = dktX1_lay_1 := dk_seg dksX1_lay_0 23 rfl rfl
theorem dksX1_lay_2 : cX1_lay.data.toList.drop 46 = dktX1_lay_2 := dk_seg dksX1_lay_1 23 rfl rfl
theorem dksX1_lay_3 : cX1_lay.data.toList.drop 70 = dktX1_lay_3 := dk_seg dksX1_lay_2 24 rfl rfl
theorem dX1_lay_0 : decode cX1_lay 0 = .ok (.iload 4, 2) := dk_21 4 (dk_at dksX1_lay_0 0 rfl rfl)
theorem dX1_lay_2 : decode cX1_lay 2 = .ok (.bipush (-9), 2) := dk_16 247 (dk_at dksX1_lay_0 2 rfl rfl)
theorem dX1_lay_4 : decode cX1_lay 4 = .ok (.if_icmp .eq 17, 3) := dk_159 0 17 (dk_at dksX1_lay_0 4 rfl rfl)
theorem dX1_lay_7 : decode cX1_lay 7 = .ok (.iload 4, 2) := dk_21 4 (dk_at dksX1_lay_0 7 rfl rfl)
theorem dX1_lay_9 : decode cX1_lay 9 = .ok (.iconst 0, 1) := dk_3 (dk_at dksX1_lay_0 9 rfl rfl)
theorem dX1_lay_10 : decode cX1_lay 10 = .ok (.sipush 500, 3) := dk_17 1 244 (dk_at dksX1_lay_0 10 rfl rfl)
theorem dX1_lay_13 : decode cX1_lay 13 = .ok (.invokestatic 93, 3) := dk_184 0 93 (dk_at dksX1_lay_0 13 rfl rfl)
theorem dX1_lay_16 : decode cX1_lay 16 = .ok (.ifCond .ne 5, 3) := dk_154 0 5 (dk_at dksX1_lay_0 16 rfl rfl)
theorem dX1_lay_19 : decode cX1_lay 19 = .ok (.iconst (-1), 1) := dk_2 (dk_at dksX1_lay_0 19 rfl rfl)
theorem dX1_lay_20 : decode cX1_lay 20 = .ok (.ireturn, 1) := dk_172 (dk_at dksX1_lay_0 20 rfl rfl)
theorem dX1_lay_21 : decode cX1_lay 21 = .ok (.aload_n 0, 1) := dk_42 (dk_at dksX1_lay_0 21 rfl rfl)
theorem dX1_lay_22 : decode cX1_lay 22 = .ok (.iload_n 1, 1) := dk_27 (dk_at dksX1_lay_0 22 rfl rfl)
theorem dX1_lay_23 : decode cX1_lay 23 = .ok (.invokevirtual 108, 3) := dk_182 0 108 (dk_at dksX1_lay_1 0 rfl rfl)
theorem dX1_lay_26 : decode cX1_lay 26 = .ok (.istore 5, 2) := dk_54 5 (dk_at dksX1_lay_1 3 rfl rfl)
theorem dX1_lay_28 : decode cX1_lay 28 = .ok (.iload 5, 2) := dk_21 5 (dk_at dksX1_lay_1 5 rfl rfl)
theorem dX1_lay_30 : decode cX1_lay 30 = .ok (.ifCond .ge 6, 3) := dk_156 0 6 (dk_at dksX1_lay_1 7 rfl rfl)
theorem dX1_lay_33 : decode cX1_lay 33 = .ok (.iload 5, 2) := dk_21 5 (dk_at dksX1_lay_1 10 rfl rfl)
theorem dX1_lay_35 : decode cX1_lay 35 = .ok (.ireturn, 1) := dk_172 (dk_at dksX1_lay_1 12 rfl rfl)
theorem dX1_lay_36 : decode cX1_lay 36 = .ok (.iload_n 2, 1) := dk_28 (dk_at dksX1_lay_1 13 rfl rfl)
theorem dX1_lay_37 : decode cX1_lay 37 = .ok (.iload_n 3, 1) := dk_29 (dk_at dksX1_lay_1 14 rfl rfl)
theorem dX1_lay_38 : decode cX1_lay 38 = .ok (.invokestatic 111, 3) := dk_184 0 111 (dk_at dksX1_lay_1 15 rfl rfl)
theorem dX1_lay_41 : decode cX1_lay 41 = .ok (.ifCond .ne 9, 3) := dk_154 0 9 (dk_at dksX1_lay_1 18 rfl rfl)
theorem dX1_lay_44 : decode cX1_lay 44 = .ok (.aload_n 0, 1) := dk_42 (dk_at dksX1_lay_1 21 rfl rfl)
theorem dX1_lay_45 : decode cX1_lay 45 = .ok (.iconst 2, 1) := dk_5 (dk_at dksX1_lay_1 22 rfl rfl)
theorem dX1_lay_46 : decode cX1_lay 46 = .ok (.invokevirtual 101, 3) := dk_182 0 101 (dk_at dksX1_lay_2 0 rfl rfl)
theorem dX1_lay_49 : decode cX1_lay 49 = .ok (.ireturn, 1) := dk_172 (dk_at dksX1_lay_2 3 rfl rfl)
theorem dX1_lay_50 : decode cX1_lay 50 = .ok (.bipush 96, 2) := dk_16 96 (dk_at dksX1_lay_2 4 rfl rfl)
theorem dX1_lay_52 : decode cX1_lay 52 = .ok (.iload_n 1, 1) := dk_27 (dk_at dksX1_lay_2 6 rfl rfl)
theorem dX1_lay_53 : decode cX1_lay 53 = .ok (.imul, 1) := dk_104 (dk_at dksX1_lay_2 7 rfl rfl)
theorem dX1_lay_54 : decode cX1_lay 54 = .ok (.bipush 8, 2) := dk_16 8 (dk_at dksX1_lay_2 8 rfl rfl)
theorem dX1_lay_56 : decode cX1_lay 56 = .ok (.iload_n 2, 1) := dk_28 (dk_at dksX1_lay_2 10 rfl rfl)
theorem dX1_lay_57 : decode cX1_lay 57 = .ok (.imul, 1) := dk_104 (dk_at dksX1_lay_2 11 rfl rfl)
theorem dX1_lay_58 : decode cX1_lay 58 = .ok (.iadd, 1) := dk_96 (dk_at dksX1_lay_2 12 rfl rfl)
theorem dX1_lay_59 : decode cX1_lay 59 = .ok (.iload_n 3, 1) := dk_29 (dk_at dksX1_lay_2 13 rfl rfl)
theorem dX1_lay_60 : decode cX1_lay 60 = .ok (.iadd, 1) := dk_96 (dk_at dksX1_lay_2 14 rfl rfl)
theorem dX1_lay_61 : decode cX1_lay 61 = .ok (.istore 6, 2) := dk_54 6 (dk_at dksX1_lay_2 15 rfl rfl)
theorem dX1_lay_63 : decode cX1_lay 63 = .ok (.aload_n 0, 1) := dk_42 (dk_at dksX1_lay_2 17 rfl rfl)
theorem dX1_lay_64 : decode cX1_lay 64 = .ok (.getfield 17, 3) := dk_180 0 17 (dk_at dksX1_lay_2 18 rfl rfl)
theorem dX1_lay_67 : decode cX1_lay 67 = .ok (.iload 6, 2) := dk_21 6 (dk_at dksX1_lay_2 21 rfl rfl)
theorem dX1_lay_69 : decode cX1_lay 69 = .ok (.iaload, 1) := dk_46 (dk_at dksX1_lay_2 23 rfl rfl)
theorem dX1_lay_70 : decode cX1_lay 70 = .ok (.istore 7, 2) := dk_54 7 (dk_at dksX1_lay_3 0 rfl rfl)
theorem dX1_lay_72 : decode cX1_lay 72 = .ok (.aload_n 0, 1) := dk_42 (dk_at dksX1_lay_3 2 rfl rfl)
theorem dX1_lay_73 : decode cX1_lay 73 = .ok (.getfield 17, 3) := dk_180 0 17 (dk_at dksX1_lay_3 3 rfl rfl)
theorem dX1_lay_76 : decode cX1_lay 76 = .ok (.iload 6, 2) := dk_21 6 (dk_at dksX1_lay_3 6 rfl rfl)
theorem dX1_lay_78 : decode cX1_lay 78 = .ok (.iload 4, 2) := dk_21 4 (dk_at dksX1_lay_3 8 rfl rfl)
theorem dX1_lay_80 : decode cX1_lay 80 = .ok (.iastore, 1) := dk_79 (dk_at dksX1_lay_3 10 rfl rfl)
theorem dX1_lay_81 : decode cX1_lay 81 = .ok (.iload 7, 2) := dk_21 7 (dk_at dksX1_lay_3 11 rfl rfl)
theorem dX1_lay_83 : decode cX1_lay 83 = .ok (.ireturn, 1) := dk_172 (dk_at dksX1_lay_3 13 rfl rfl)
abbrev cX1_looked : ByteArray := prog_12_method_7_code
def yX1_looked : MethodName := ⟨RX1, "looked", "(I)I"⟩
def dkwX1_looked_1 : List UInt8 := [42, 4, 182, 0, 101, 172]
abbrev dktX1_looked_1 : List UInt8 := dkwX1_looked_1 ++ []
def dkwX1_looked_0 : List UInt8 := [27, 184, 0, 97, 154, 0, 7, 2, 167, 0, 21, 42, 180, 0, 13, 27, 51, 153, 0, 7, 3, 167, 0, 8]
abbrev dktX1_looked_0 : List UInt8 := dkwX1_looked_0 ++ dktX1_looked_1
theorem dksX1_looked_0 : cX1_looked.data.toList.drop 0 = dktX1_looked_0 := by decide +kernel
theorem dksX1_looked_1 : cX1_looked.data.toList.drop 24 = dktX1_looked_1 := dk_seg dksX1_looked_0 24 rfl rfl
theorem dX1_looked_0 : decode cX1_looked 0 = .ok (.iload_n 1, 1) := dk_27 (dk_at dksX1_looked_0 0 rfl rfl)
theorem dX1_looked_1 : decode cX1_looked 1 = .ok (.invokestatic 97, 3) := dk_184 0 97 (dk_at dksX1_looked_0 1 rfl rfl)
theorem dX1_looked_4 : decode cX1_looked 4 = .ok (.ifCond .ne 7, 3) := dk_154 0 7 (dk_at dksX1_looked_0 4 rfl rfl)
theorem dX1_looked_7 : decode cX1_looked 7 = .ok (.iconst (-1), 1) := dk_2 (dk_at dksX1_looked_0 7 rfl rfl)
theorem dX1_looked_8 : decode cX1_looked 8 = .ok (.goto 21, 3) := dk_167 0 21 (dk_at dksX1_looked_0 8 rfl rfl)
theorem dX1_looked_11 : decode cX1_looked 11 = .ok (.aload_n 0, 1) := dk_42 (dk_at dksX1_looked_0 11 rfl rfl)
theorem dX1_looked_12 : decode cX1_looked 12 = .ok (.getfield 13, 3) := dk_180 0 13 (dk_at dksX1_looked_0 12 rfl rfl)
theorem dX1_looked_15 : decode cX1_looked 15 = .ok (.iload_n 1, 1) := dk_27 (dk_at dksX1_looked_0 15 rfl rfl)
theorem dX1_looked_16 : decode cX1_looked 16 = .ok (.baload, 1) := dk_51 (dk_at dksX1_looked_0 16 rfl rfl)
theorem dX1_looked_17 : decode cX1_looked 17 = .ok (.ifCond .eq 7, 3) := dk_153 0 7 (dk_at dksX1_looked_0 17 rfl rfl)
theorem dX1_looked_20 : decode cX1_looked 20 = .ok (.iconst 0, 1) := dk_3 (dk_at dksX1_looked_0 20 rfl rfl)
theorem dX1_looked_21 : decode cX1_looked 21 = .ok (.goto 8, 3) := dk_167 0 8 (dk_at dksX1_looked_0 21 rfl rfl)
theorem dX1_looked_24 : decode cX1_looked 24 = .ok (.aload_n 0, 1) := dk_42 (dk_at dksX1_looked_1 0 rfl rfl)
theorem dX1_looked_25 : decode cX1_looked 25 = .ok (.iconst 1, 1) := dk_4 (dk_at dksX1_looked_1 1 rfl rfl)
theorem dX1_looked_26 : decode cX1_looked 26 = .ok (.invokevirtual 101, 3) := dk_182 0 101 (dk_at dksX1_looked_1 2 rfl rfl)
theorem dX1_looked_29 : decode cX1_looked 29 = .ok (.ireturn, 1) := dk_172 (dk_at dksX1_looked_1 5 rfl rfl)
abbrev cX1_meets : ByteArray := prog_12_method_4_code
def yX1_meets : MethodName := ⟨RX1, "meets", "(I)I"⟩
def dkwX1_meets_0 : List UInt8 := [42, 27, 181, 0, 87, 42, 180, 0, 7, 27, 92, 46, 4, 96, 79, 16, 253, 172]
abbrev dktX1_meets_0 : List UInt8 := dkwX1_meets_0 ++ []
theorem dksX1_meets_0 : cX1_meets.data.toList.drop 0 = dktX1_meets_0 := by decide +kernel
theorem dX1_meets_0 : decode cX1_meets 0 = .ok (.aload_n 0, 1) := dk_42 (dk_at dksX1_meets_0 0 rfl rfl)
theorem dX1_meets_1 : decode cX1_meets 1 = .ok (.iload_n 1, 1) := dk_27 (dk_at dksX1_meets_0 1 rfl rfl)
theorem dX1_meets_2 : decode cX1_meets 2 = .ok (.putfield 87, 3) := dk_181 0 87 (dk_at dksX1_meets_0 2 rfl rfl)
theorem dX1_meets_5 : decode cX1_meets 5 = .ok (.aload_n 0, 1) := dk_42 (dk_at dksX1_meets_0 5 rfl rfl)
theorem dX1_meets_6 : decode cX1_meets 6 = .ok (.getfield 7, 3) := dk_180 0 7 (dk_at dksX1_meets_0 6 rfl rfl)
theorem dX1_meets_9 : decode cX1_meets 9 = .ok (.iload_n 1, 1) := dk_27 (dk_at dksX1_meets_0 9 rfl rfl)
theorem dX1_meets_10 : decode cX1_meets 10 = .ok (.dup2, 1) := dk_92 (dk_at dksX1_meets_0 10 rfl rfl)
theorem dX1_meets_11 : decode cX1_meets 11 = .ok (.iaload, 1) := dk_46 (dk_at dksX1_meets_0 11 rfl rfl)
theorem dX1_meets_12 : decode cX1_meets 12 = .ok (.iconst 1, 1) := dk_4 (dk_at dksX1_meets_0 12 rfl rfl)
theorem dX1_meets_13 : decode cX1_meets 13 = .ok (.iadd, 1) := dk_96 (dk_at dksX1_meets_0 13 rfl rfl)
theorem dX1_meets_14 : decode cX1_meets 14 = .ok (.iastore, 1) := dk_79 (dk_at dksX1_meets_0 14 rfl rfl)
theorem dX1_meets_15 : decode cX1_meets 15 = .ok (.bipush (-3), 2) := dk_16 253 (dk_at dksX1_meets_0 15 rfl rfl)
theorem dX1_meets_17 : decode cX1_meets 17 = .ok (.ireturn, 1) := dk_172 (dk_at dksX1_meets_0 17 rfl rfl)
abbrev cX1_isPlace : ByteArray := prog_12_method_9_code
def yX1_isPlace : MethodName := ⟨RX1, "isPlace", "(II)Z"⟩
def dkwX1_isPlace_0 : List UInt8 := [26, 184, 0, 105, 153, 0, 17, 27, 3, 16, 7, 184, 0, 93, 153, 0, 7, 4, 167, 0, 4, 3, 172]
abbrev dktX1_isPlace_0 : List UInt8 := dkwX1_isPlace_0 ++ []
theorem dksX1_isPlace_0 : cX1_isPlace.data.toList.drop 0 = dktX1_isPlace_0 := by decide +kernel
theorem dX1_isPlace_0 : decode cX1_isPlace 0 = .ok (.iload_n 0, 1) := dk_26 (dk_at dksX1_isPlace_0 0 rfl rfl)
theorem dX1_isPlace_1 : decode cX1_isPlace 1 = .ok (.invokestatic 105, 3) := dk_184 0 105 (dk_at dksX1_isPlace_0 1 rfl rfl)
theorem dX1_isPlace_4 : decode cX1_isPlace 4 = .ok (.ifCond .eq 17, 3) := dk_153 0 17 (dk_at dksX1_isPlace_0 4 rfl rfl)
theorem dX1_isPlace_7 : decode cX1_isPlace 7 = .ok (.iload_n 1, 1) := dk_27 (dk_at dksX1_isPlace_0 7 rfl rfl)
theorem dX1_isPlace_8 : decode cX1_isPlace 8 = .ok (.iconst 0, 1) := dk_3 (dk_at dksX1_isPlace_0 8 rfl rfl)
theorem dX1_isPlace_9 : decode cX1_isPlace 9 = .ok (.bipush 7, 2) := dk_16 7 (dk_at dksX1_isPlace_0 9 rfl rfl)
theorem dX1_isPlace_11 : decode cX1_isPlace 11 = .ok (.invokestatic 93, 3) := dk_184 0 93 (dk_at dksX1_isPlace_0 11 rfl rfl)
theorem dX1_isPlace_14 : decode cX1_isPlace 14 = .ok (.ifCond .eq 7, 3) := dk_153 0 7 (dk_at dksX1_isPlace_0 14 rfl rfl)
theorem dX1_isPlace_17 : decode cX1_isPlace 17 = .ok (.iconst 1, 1) := dk_4 (dk_at dksX1_isPlace_0 17 rfl rfl)
theorem dX1_isPlace_18 : decode cX1_isPlace 18 = .ok (.goto 4, 3) := dk_167 0 4 (dk_at dksX1_isPlace_0 18 rfl rfl)
theorem dX1_isPlace_21 : decode cX1_isPlace 21 = .ok (.iconst 0, 1) := dk_3 (dk_at dksX1_isPlace_0 21 rfl rfl)
theorem dX1_isPlace_22 : decode cX1_isPlace 22 = .ok (.ireturn, 1) := dk_172 (dk_at dksX1_isPlace_0 22 rfl rfl)
abbrev cX1_isRing : ByteArray := prog_12_method_8_code
def yX1_isRing : MethodName := ⟨RX1, "isRing", "(I)Z"⟩
def dkwX1_isRing_0 : List UInt8 := [26, 3, 16, 11, 184, 0, 93, 172]
abbrev dktX1_isRing_0 : List UInt8 := dkwX1_isRing_0 ++ []
theorem dksX1_isRing_0 : cX1_isRing.data.toList.drop 0 = dktX1_isRing_0 := by decide +kernel
theorem dX1_isRing_0 : decode cX1_isRing 0 = .ok (.iload_n 0, 1) := dk_26 (dk_at dksX1_isRing_0 0 rfl rfl)
theorem dX1_isRing_1 : decode cX1_isRing 1 = .ok (.iconst 0, 1) := dk_3 (dk_at dksX1_isRing_0 1 rfl rfl)
theorem dX1_isRing_2 : decode cX1_isRing 2 = .ok (.bipush 11, 2) := dk_16 11 (dk_at dksX1_isRing_0 2 rfl rfl)
theorem dX1_isRing_4 : decode cX1_isRing 4 = .ok (.invokestatic 93, 3) := dk_184 0 93 (dk_at dksX1_isRing_0 4 rfl rfl)
theorem dX1_isRing_7 : decode cX1_isRing 7 = .ok (.ireturn, 1) := dk_172 (dk_at dksX1_isRing_0 7 rfl rfl)
abbrev cX1_at : ByteArray := prog_12_method_15_code
def yX1_at : MethodName := ⟨RX1, "at", "(IIIZZ)I"⟩
def dkwX1_at_2 : List UInt8 := [153, 0, 13, 42, 27, 28, 29, 182, 0, 119, 167, 0, 10, 42, 27, 28, 29, 182, 0, 115, 172]
abbrev dktX1_at_2 : List UInt8 := dkwX1_at_2 ++ []
def dkwX1_at_1 : List UInt8 := [5, 182, 0, 101, 172, 21, 5, 153, 0, 13, 42, 27, 28, 29, 182, 0, 125, 167, 0, 25, 21, 4]
abbrev dktX1_at_1 : List UInt8 := dkwX1_at_1 ++ dktX1_at_2
def dkwX1_at_0 : List UInt8 := [42, 27, 182, 0, 108, 54, 6, 21, 6, 156, 0, 6, 21, 6, 172, 28, 29, 184, 0, 111, 154, 0, 9, 42]
abbrev dktX1_at_0 : List UInt8 := dkwX1_at_0 ++ dktX1_at_1
theorem dksX1_at_0 : cX1_at.data.toList.drop 0 = dktX1_at_0 := by decide +kernel
theorem dksX1_at_1 : cX1_at.data.toList.drop 24 = dktX1_at_1 := dk_seg dksX1_at_0 24 rfl rfl
theorem dksX1_at_2 : cX1_at.data.toList.drop 46 = dktX1_at_2 := dk_seg dksX1_at_1 22 rfl rfl
theorem dX1_at_0 : decode cX1_at 0 = .ok (.aload_n 0, 1) := dk_42 (dk_at dksX1_at_0 0 rfl rfl)
theorem dX1_at_1 : decode cX1_at 1 = .ok (.iload_n 1, 1) := dk_27 (dk_at dksX1_at_0 1 rfl rfl)
theorem dX1_at_2 : decode cX1_at 2 = .ok (.invokevirtual 108, 3) := dk_182 0 108 (dk_at dksX1_at_0 2 rfl rfl)
theorem dX1_at_5 : decode cX1_at 5 = .ok (.istore 6, 2) := dk_54 6 (dk_at dksX1_at_0 5 rfl rfl)
theorem dX1_at_7 : decode cX1_at 7 = .ok (.iload 6, 2) := dk_21 6 (dk_at dksX1_at_0 7 rfl rfl)
theorem dX1_at_9 : decode cX1_at 9 = .ok (.ifCond .ge 6, 3) := dk_156 0 6 (dk_at dksX1_at_0 9 rfl rfl)
theorem dX1_at_12 : decode cX1_at 12 = .ok (.iload 6, 2) := dk_21 6 (dk_at dksX1_at_0 12 rfl rfl)
theorem dX1_at_14 : decode cX1_at 14 = .ok (.ireturn, 1) := dk_172 (dk_at dksX1_at_0 14 rfl rfl)
theorem dX1_at_15 : decode cX1_at 15 = .ok (.iload_n 2, 1) := dk_28 (dk_at dksX1_at_0 15 rfl rfl)
theorem dX1_at_16 : decode cX1_at 16 = .ok (.iload_n 3, 1) := dk_29 (dk_at dksX1_at_0 16 rfl rfl)
theorem dX1_at_17 : decode cX1_at 17 = .ok (.invokestatic 111, 3) := dk_184 0 111 (dk_at dksX1_at_0 17 rfl rfl)
theorem dX1_at_20 : decode cX1_at 20 = .ok (.ifCond .ne 9, 3) := dk_154 0 9 (dk_at dksX1_at_0 20 rfl rfl)
theorem dX1_at_23 : decode cX1_at 23 = .ok (.aload_n 0, 1) := dk_42 (dk_at dksX1_at_0 23 rfl rfl)
theorem dX1_at_24 : decode cX1_at 24 = .ok (.iconst 2, 1) := dk_5 (dk_at dksX1_at_1 0 rfl rfl)
theorem dX1_at_25 : decode cX1_at 25 = .ok (.invokevirtual 101, 3) := dk_182 0 101 (dk_at dksX1_at_1 1 rfl rfl)
theorem dX1_at_28 : decode cX1_at 28 = .ok (.ireturn, 1) := dk_172 (dk_at dksX1_at_1 4 rfl rfl)
theorem dX1_at_29 : decode cX1_at 29 = .ok (.iload 5, 2) := dk_21 5 (dk_at dksX1_at_1 5 rfl rfl)
theorem dX1_at_31 : decode cX1_at 31 = .ok (.ifCond .eq 13, 3) := dk_153 0 13 (dk_at dksX1_at_1 7 rfl rfl)
theorem dX1_at_34 : decode cX1_at 34 = .ok (.aload_n 0, 1) := dk_42 (dk_at dksX1_at_1 10 rfl rfl)
theorem dX1_at_35 : decode cX1_at 35 = .ok (.iload_n 1, 1) := dk_27 (dk_at dksX1_at_1 11 rfl rfl)
theorem dX1_at_36 : decode cX1_at 36 = .ok (.iload_n 2, 1) := dk_28 (dk_at dksX1_at_1 12 rfl rfl)
theorem dX1_at_37 : decode cX1_at 37 = .ok (.iload_n 3, 1) := dk_29 (dk_at dksX1_at_1 13 rfl rfl)
theorem dX1_at_38 : decode cX1_at 38 = .ok (.invokevirtual 125, 3) := dk_182 0 125 (dk_at dksX1_at_1 14 rfl rfl)
theorem dX1_at_41 : decode cX1_at 41 = .ok (.goto 25, 3) := dk_167 0 25 (dk_at dksX1_at_1 17 rfl rfl)
theorem dX1_at_44 : decode cX1_at 44 = .ok (.iload 4, 2) := dk_21 4 (dk_at dksX1_at_1 20 rfl rfl)
theorem dX1_at_46 : decode cX1_at 46 = .ok (.ifCond .eq 13, 3) := dk_153 0 13 (dk_at dksX1_at_2 0 rfl rfl)
theorem dX1_at_49 : decode cX1_at 49 = .ok (.aload_n 0, 1) := dk_42 (dk_at dksX1_at_2 3 rfl rfl)
theorem dX1_at_50 : decode cX1_at 50 = .ok (.iload_n 1, 1) := dk_27 (dk_at dksX1_at_2 4 rfl rfl)
theorem dX1_at_51 : decode cX1_at 51 = .ok (.iload_n 2, 1) := dk_28 (dk_at dksX1_at_2 5 rfl rfl)
theorem dX1_at_52 : decode cX1_at 52 = .ok (.iload_n 3, 1) := dk_29 (dk_at dksX1_at_2 6 rfl rfl)
theorem dX1_at_53 : decode cX1_at 53 = .ok (.invokevirtual 119, 3) := dk_182 0 119 (dk_at dksX1_at_2 7 rfl rfl)
theorem dX1_at_56 : decode cX1_at 56 = .ok (.goto 10, 3) := dk_167 0 10 (dk_at dksX1_at_2 10 rfl rfl)
theorem dX1_at_59 : decode cX1_at 59 = .ok (.aload_n 0, 1) := dk_42 (dk_at dksX1_at_2 13 rfl rfl)
theorem dX1_at_60 : decode cX1_at 60 = .ok (.iload_n 1, 1) := dk_27 (dk_at dksX1_at_2 14 rfl rfl)
theorem dX1_at_61 : decode cX1_at 61 = .ok (.iload_n 2, 1) := dk_28 (dk_at dksX1_at_2 15 rfl rfl)
theorem dX1_at_62 : decode cX1_at 62 = .ok (.iload_n 3, 1) := dk_29 (dk_at dksX1_at_2 16 rfl rfl)
theorem dX1_at_63 : decode cX1_at 63 = .ok (.invokevirtual 115, 3) := dk_182 0 115 (dk_at dksX1_at_2 17 rfl rfl)
theorem dX1_at_66 : decode cX1_at 66 = .ok (.ireturn, 1) := dk_172 (dk_at dksX1_at_2 20 rfl rfl)
abbrev cX1_shapedAt : ByteArray := prog_12_method_14_code
def yX1_shapedAt : MethodName := ⟨RX1, "shapedAt", "(III)I"⟩
def dkwX1_shapedAt_4 : List UInt8 := [3, 167, 0, 5, 21, 4, 172]
abbrev dktX1_shapedAt_4 : List UInt8 := dkwX1_shapedAt_4 ++ []
def dkwX1_shapedAt_3 : List UInt8 := [180, 0, 32, 21, 5, 46, 167, 0, 4, 3, 96, 54, 4, 132, 5, 1, 167, 255, 192, 21, 4, 156, 0, 7]
abbrev dktX1_shapedAt_3 : List UInt8 := dkwX1_shapedAt_3 ++ dktX1_shapedAt_4
def dkwX1_shapedAt_2 : List UInt8 := [184, 0, 93, 153, 0, 28, 42, 180, 0, 29, 21, 5, 46, 29, 122, 4, 126, 4, 160, 0, 13, 42]
abbrev dktX1_shapedAt_2 : List UInt8 := dkwX1_shapedAt_2 ++ dktX1_shapedAt_3
def dkwX1_shapedAt_1 : List UInt8 := [42, 180, 0, 122, 162, 0, 61, 21, 4, 28, 42, 180, 0, 23, 21, 5, 46, 42, 180, 0, 26, 21, 5, 46]
abbrev dktX1_shapedAt_1 : List UInt8 := dkwX1_shapedAt_1 ++ dktX1_shapedAt_2
def dkwX1_shapedAt_0 : List UInt8 := [42, 27, 28, 29, 182, 0, 119, 54, 4, 21, 4, 16, 247, 160, 0, 6, 16, 247, 172, 3, 54, 5, 21, 5]
abbrev dktX1_shapedAt_0 : List UInt8 := dkwX1_shapedAt_0 ++ dktX1_shapedAt_1
theorem dksX1_shapedAt_0 : cX1_shapedAt.data.toList.drop 0 = dktX1_shapedAt_0 := by decide +kernel
theorem dksX1_shapedAt_1 : cX1_shapedAt.data.toList.drop 24 = dktX1_shapedAt_1 := dk_seg dksX1_shapedAt_0 24 rfl rfl
theorem dksX1_shapedAt_2 : cX1_shapedAt.data.toList.drop 48 = dktX1_shapedAt_2 := dk_seg dksX1_shapedAt_1 24 rfl rfl
theorem dksX1_shapedAt_3 : cX1_shapedAt.data.toList.drop 70 = dktX1_shapedAt_3 := dk_seg dksX1_shapedAt_2 22 rfl rfl
theorem dksX1_shapedAt_4 : cX1_shapedAt.data.toList.drop 94 = dktX1_shapedAt_4 := dk_seg dksX1_shapedAt_3 24 rfl rfl
theorem dX1_shapedAt_0 : decode cX1_shapedAt 0 = .ok (.aload_n 0, 1) := dk_42 (dk_at dksX1_shapedAt_0 0 rfl rfl)
theorem dX1_shapedAt_1 : decode cX1_shapedAt 1 = .ok (.iload_n 1, 1) := dk_27 (dk_at dksX1_shapedAt_0 1 rfl rfl)
theorem dX1_shapedAt_2 : decode cX1_shapedAt 2 = .ok (.iload_n 2, 1) := dk_28 (dk_at dksX1_shapedAt_0 2 rfl rfl)
theorem dX1_shapedAt_3 : decode cX1_shapedAt 3 = .ok (.iload_n 3, 1) := dk_29 (dk_at dksX1_shapedAt_0 3 rfl rfl)
theorem dX1_shapedAt_4 : decode cX1_shapedAt 4 = .ok (.invokevirtual 119, 3) := dk_182 0 119 (dk_at dksX1_shapedAt_0 4 rfl rfl)
theorem dX1_shapedAt_7 : decode cX1_shapedAt 7 = .ok (.istore 4, 2) := dk_54 4 (dk_at dksX1_shapedAt_0 7 rfl rfl)
theorem dX1_shapedAt_9 : decode cX1_shapedAt 9 = .ok (.iload 4, 2) := dk_21 4 (dk_at dksX1_shapedAt_0 9 rfl rfl)
theorem dX1_shapedAt_11 : decode cX1_shapedAt 11 = .ok (.bipush (-9), 2) := dk_16 247 (dk_at dksX1_shapedAt_0 11 rfl rfl)
theorem dX1_shapedAt_13 : decode cX1_shapedAt 13 = .ok (.if_icmp .ne 6, 3) := dk_160 0 6 (dk_at dksX1_shapedAt_0 13 rfl rfl)
theorem dX1_shapedAt_16 : decode cX1_shapedAt 16 = .ok (.bipush (-9), 2) := dk_16 247 (dk_at dksX1_shapedAt_0 16 rfl rfl)
theorem dX1_shapedAt_18 : decode cX1_shapedAt 18 = .ok (.ireturn, 1) := dk_172 (dk_at dksX1_shapedAt_0 18 rfl rfl)
theorem dX1_shapedAt_19 : decode cX1_shapedAt 19 = .ok (.iconst 0, 1) := dk_3 (dk_at dksX1_shapedAt_0 19 rfl rfl)
theorem dX1_shapedAt_20 : decode cX1_shapedAt 20 = .ok (.istore 5, 2) := dk_54 5 (dk_at dksX1_shapedAt_0 20 rfl rfl)
theorem dX1_shapedAt_22 : decode cX1_shapedAt 22 = .ok (.iload 5, 2) := dk_21 5 (dk_at dksX1_shapedAt_0 22 rfl rfl)
theorem dX1_shapedAt_24 : decode cX1_shapedAt 24 = .ok (.aload_n 0, 1) := dk_42 (dk_at dksX1_shapedAt_1 0 rfl rfl)
theorem dX1_shapedAt_25 : decode cX1_shapedAt 25 = .ok (.getfield 122, 3) := dk_180 0 122 (dk_at dksX1_shapedAt_1 1 rfl rfl)
theorem dX1_shapedAt_28 : decode cX1_shapedAt 28 = .ok (.if_icmp .ge 61, 3) := dk_162 0 61 (dk_at dksX1_shapedAt_1 4 rfl rfl)
theorem dX1_shapedAt_31 : decode cX1_shapedAt 31 = .ok (.iload 4, 2) := dk_21 4 (dk_at dksX1_shapedAt_1 7 rfl rfl)
theorem dX1_shapedAt_33 : decode cX1_shapedAt 33 = .ok (.iload_n 2, 1) := dk_28 (dk_at dksX1_shapedAt_1 9 rfl rfl)
theorem dX1_shapedAt_34 : decode cX1_shapedAt 34 = .ok (.aload_n 0, 1) := dk_42 (dk_at dksX1_shapedAt_1 10 rfl rfl)
theorem dX1_shapedAt_35 : decode cX1_shapedAt 35 = .ok (.getfield 23, 3) := dk_180 0 23 (dk_at dksX1_shapedAt_1 11 rfl rfl)
theorem dX1_shapedAt_38 : decode cX1_shapedAt 38 = .ok (.iload 5, 2) := dk_21 5 (dk_at dksX1_shapedAt_1 14 rfl rfl)
theorem dX1_shapedAt_40 : decode cX1_shapedAt 40 = .ok (.iaload, 1) := dk_46 (dk_at dksX1_shapedAt_1 16 rfl rfl)
theorem dX1_shapedAt_41 : decode cX1_shapedAt 41 = .ok (.aload_n 0, 1) := dk_42 (dk_at dksX1_shapedAt_1 17 rfl rfl)
theorem dX1_shapedAt_42 : decode cX1_shapedAt 42 = .ok (.getfield 26, 3) := dk_180 0 26 (dk_at dksX1_shapedAt_1 18 rfl rfl)
theorem dX1_shapedAt_45 : decode cX1_shapedAt 45 = .ok (.iload 5, 2) := dk_21 5 (dk_at dksX1_shapedAt_1 21 rfl rfl)
theorem dX1_shapedAt_47 : decode cX1_shapedAt 47 = .ok (.iaload, 1) := dk_46 (dk_at dksX1_shapedAt_1 23 rfl rfl)
theorem dX1_shapedAt_48 : decode cX1_shapedAt 48 = .ok (.invokestatic 93, 3) := dk_184 0 93 (dk_at dksX1_shapedAt_2 0 rfl rfl)
theorem dX1_shapedAt_51 : decode cX1_shapedAt 51 = .ok (.ifCond .eq 28, 3) := dk_153 0 28 (dk_at dksX1_shapedAt_2 3 rfl rfl)
theorem dX1_shapedAt_54 : decode cX1_shapedAt 54 = .ok (.aload_n 0, 1) := dk_42 (dk_at dksX1_shapedAt_2 6 rfl rfl)
theorem dX1_shapedAt_55 : decode cX1_shapedAt 55 = .ok (.getfield 29, 3) := dk_180 0 29 (dk_at dksX1_shapedAt_2 7 rfl rfl)
theorem dX1_shapedAt_58 : decode cX1_shapedAt 58 = .ok (.iload 5, 2) := dk_21 5 (dk_at dksX1_shapedAt_2 10 rfl rfl)
theorem dX1_shapedAt_60 : decode cX1_shapedAt 60 = .ok (.iaload, 1) := dk_46 (dk_at dksX1_shapedAt_2 12 rfl rfl)
theorem dX1_shapedAt_61 : decode cX1_shapedAt 61 = .ok (.iload_n 3, 1) := dk_29 (dk_at dksX1_shapedAt_2 13 rfl rfl)
theorem dX1_shapedAt_62 : decode cX1_shapedAt 62 = .ok (.ishr, 1) := dk_122 (dk_at dksX1_shapedAt_2 14 rfl rfl)
theorem dX1_shapedAt_63 : decode cX1_shapedAt 63 = .ok (.iconst 1, 1) := dk_4 (dk_at dksX1_shapedAt_2 15 rfl rfl)
theorem dX1_shapedAt_64 : decode cX1_shapedAt 64 = .ok (.iand, 1) := dk_126 (dk_at dksX1_shapedAt_2 16 rfl rfl)
theorem dX1_shapedAt_65 : decode cX1_shapedAt 65 = .ok (.iconst 1, 1) := dk_4 (dk_at dksX1_shapedAt_2 17 rfl rfl)
theorem dX1_shapedAt_66 : decode cX1_shapedAt 66 = .ok (.if_icmp .ne 13, 3) := dk_160 0 13 (dk_at dksX1_shapedAt_2 18 rfl rfl)
theorem dX1_shapedAt_69 : decode cX1_shapedAt 69 = .ok (.aload_n 0, 1) := dk_42 (dk_at dksX1_shapedAt_2 21 rfl rfl)
theorem dX1_shapedAt_70 : decode cX1_shapedAt 70 = .ok (.getfield 32, 3) := dk_180 0 32 (dk_at dksX1_shapedAt_3 0 rfl rfl)
theorem dX1_shapedAt_73 : decode cX1_shapedAt 73 = .ok (.iload 5, 2) := dk_21 5 (dk_at dksX1_shapedAt_3 3 rfl rfl)
theorem dX1_shapedAt_75 : decode cX1_shapedAt 75 = .ok (.iaload, 1) := dk_46 (dk_at dksX1_shapedAt_3 5 rfl rfl)
theorem dX1_shapedAt_76 : decode cX1_shapedAt 76 = .ok (.goto 4, 3) := dk_167 0 4 (dk_at dksX1_shapedAt_3 6 rfl rfl)
theorem dX1_shapedAt_79 : decode cX1_shapedAt 79 = .ok (.iconst 0, 1) := dk_3 (dk_at dksX1_shapedAt_3 9 rfl rfl)
theorem dX1_shapedAt_80 : decode cX1_shapedAt 80 = .ok (.iadd, 1) := dk_96 (dk_at dksX1_shapedAt_3 10 rfl rfl)
theorem dX1_shapedAt_81 : decode cX1_shapedAt 81 = .ok (.istore 4, 2) := dk_54 4 (dk_at dksX1_shapedAt_3 11 rfl rfl)
theorem dX1_shapedAt_83 : decode cX1_shapedAt 83 = .ok (.iinc 5 1, 3) := dk_132 5 1 (dk_at dksX1_shapedAt_3 13 rfl rfl)
theorem dX1_shapedAt_86 : decode cX1_shapedAt 86 = .ok (.goto (-64), 3) := dk_167 255 192 (dk_at dksX1_shapedAt_3 16 rfl rfl)
theorem dX1_shapedAt_89 : decode cX1_shapedAt 89 = .ok (.iload 4, 2) := dk_21 4 (dk_at dksX1_shapedAt_3 19 rfl rfl)
theorem dX1_shapedAt_91 : decode cX1_shapedAt 91 = .ok (.ifCond .ge 7, 3) := dk_156 0 7 (dk_at dksX1_shapedAt_3 21 rfl rfl)
theorem dX1_shapedAt_94 : decode cX1_shapedAt 94 = .ok (.iconst 0, 1) := dk_3 (dk_at dksX1_shapedAt_4 0 rfl rfl)
theorem dX1_shapedAt_95 : decode cX1_shapedAt 95 = .ok (.goto 5, 3) := dk_167 0 5 (dk_at dksX1_shapedAt_4 1 rfl rfl)
theorem dX1_shapedAt_98 : decode cX1_shapedAt 98 = .ok (.iload 4, 2) := dk_21 4 (dk_at dksX1_shapedAt_4 4 rfl rfl)
theorem dX1_shapedAt_100 : decode cX1_shapedAt 100 = .ok (.ireturn, 1) := dk_172 (dk_at dksX1_shapedAt_4 6 rfl rfl)
abbrev cX1_filledAt : ByteArray := prog_12_method_13_code
def yX1_filledAt : MethodName := ⟨RX1, "filledAt", "(III)I"⟩
def dkwX1_filledAt_5 : List UInt8 := [21, 4, 21, 5, 96, 108, 172]
abbrev dktX1_filledAt_5 : List UInt8 := dkwX1_filledAt_5 ++ []
def dkwX1_filledAt_4 : List UInt8 := [96, 21, 4, 100, 182, 0, 115, 21, 5, 104, 42, 27, 28, 29, 21, 5, 96, 182, 0, 115, 21, 4, 104, 96]
abbrev dktX1_filledAt_4 : List UInt8 := dkwX1_filledAt_4 ++ dktX1_filledAt_5
def dkwX1_filledAt_3 : List UInt8 := [29, 21, 5, 96, 182, 0, 115, 16, 247, 160, 0, 9, 132, 5, 1, 167, 255, 238, 42, 27, 28, 29, 16, 8]
abbrev dktX1_filledAt_3 : List UInt8 := dkwX1_filledAt_3 ++ dktX1_filledAt_4
def dkwX1_filledAt_2 : List UInt8 := [21, 4, 154, 0, 13, 42, 27, 28, 29, 182, 0, 115, 167, 0, 5, 16, 247, 172, 4, 54, 5, 42, 27, 28]
abbrev dktX1_filledAt_2 : List UInt8 := dkwX1_filledAt_2 ++ dktX1_filledAt_3
def dkwX1_filledAt_1 : List UInt8 := [16, 247, 160, 0, 9, 132, 4, 1, 167, 255, 228, 21, 4, 153, 0, 10, 21, 4, 16, 8, 160, 0, 21]
abbrev dktX1_filledAt_1 : List UInt8 := dkwX1_filledAt_1 ++ dktX1_filledAt_2
def dkwX1_filledAt_0 : List UInt8 := [3, 54, 4, 21, 4, 16, 8, 162, 0, 27, 42, 27, 28, 29, 16, 8, 96, 21, 4, 100, 182, 0, 115]
abbrev dktX1_filledAt_0 : List UInt8 := dkwX1_filledAt_0 ++ dktX1_filledAt_1
theorem dksX1_filledAt_0 : cX1_filledAt.data.toList.drop 0 = dktX1_filledAt_0 := by decide +kernel
theorem dksX1_filledAt_1 : cX1_filledAt.data.toList.drop 23 = dktX1_filledAt_1 := dk_seg dksX1_filledAt_0 23 rfl rfl
theorem dksX1_filledAt_2 : cX1_filledAt.data.toList.drop 46 = dktX1_filledAt_2 := dk_seg dksX1_filledAt_1 23 rfl rfl
theorem dksX1_filledAt_3 : cX1_filledAt.data.toList.drop 70 = dktX1_filledAt_3 := dk_seg dksX1_filledAt_2 24 rfl rfl
theorem dksX1_filledAt_4 : cX1_filledAt.data.toList.drop 94 = dktX1_filledAt_4 := dk_seg dksX1_filledAt_3 24 rfl rfl
theorem dksX1_filledAt_5 : cX1_filledAt.data.toList.drop 118 = dktX1_filledAt_5 := dk_seg dksX1_filledAt_4 24 rfl rfl
theorem dX1_filledAt_0 : decode cX1_filledAt 0 = .ok (.iconst 0, 1) := dk_3 (dk_at dksX1_filledAt_0 0 rfl rfl)
theorem dX1_filledAt_1 : decode cX1_filledAt 1 = .ok (.istore 4, 2) := dk_54 4 (dk_at dksX1_filledAt_0 1 rfl rfl)
theorem dX1_filledAt_3 : decode cX1_filledAt 3 = .ok (.iload 4, 2) := dk_21 4 (dk_at dksX1_filledAt_0 3 rfl rfl)
theorem dX1_filledAt_5 : decode cX1_filledAt 5 = .ok (.bipush 8, 2) := dk_16 8 (dk_at dksX1_filledAt_0 5 rfl rfl)
theorem dX1_filledAt_7 : decode cX1_filledAt 7 = .ok (.if_icmp .ge 27, 3) := dk_162 0 27 (dk_at dksX1_filledAt_0 7 rfl rfl)
theorem dX1_filledAt_10 : decode cX1_filledAt 10 = .ok (.aload_n 0, 1) := dk_42 (dk_at dksX1_filledAt_0 10 rfl rfl)
theorem dX1_filledAt_11 : decode cX1_filledAt 11 = .ok (.iload_n 1, 1) := dk_27 (dk_at dksX1_filledAt_0 11 rfl rfl)
theorem dX1_filledAt_12 : decode cX1_filledAt 12 = .ok (.iload_n 2, 1) := dk_28 (dk_at dksX1_filledAt_0 12 rfl rfl)
theorem dX1_filledAt_13 : decode cX1_filledAt 13 = .ok (.iload_n 3, 1) := dk_29 (dk_at dksX1_filledAt_0 13 rfl rfl)
theorem dX1_filledAt_14 : decode cX1_filledAt 14 = .ok (.bipush 8, 2) := dk_16 8 (dk_at dksX1_filledAt_0 14 rfl rfl)
theorem dX1_filledAt_16 : decode cX1_filledAt 16 = .ok (.iadd, 1) := dk_96 (dk_at dksX1_filledAt_0 16 rfl rfl)
theorem dX1_filledAt_17 : decode cX1_filledAt 17 = .ok (.iload 4, 2) := dk_21 4 (dk_at dksX1_filledAt_0 17 rfl rfl)
theorem dX1_filledAt_19 : decode cX1_filledAt 19 = .ok (.isub, 1) := dk_100 (dk_at dksX1_filledAt_0 19 rfl rfl)
theorem dX1_filledAt_20 : decode cX1_filledAt 20 = .ok (.invokevirtual 115, 3) := dk_182 0 115 (dk_at dksX1_filledAt_0 20 rfl rfl)
theorem dX1_filledAt_23 : decode cX1_filledAt 23 = .ok (.bipush (-9), 2) := dk_16 247 (dk_at dksX1_filledAt_1 0 rfl rfl)
theorem dX1_filledAt_25 : decode cX1_filledAt 25 = .ok (.if_icmp .ne 9, 3) := dk_160 0 9 (dk_at dksX1_filledAt_1 2 rfl rfl)
theorem dX1_filledAt_28 : decode cX1_filledAt 28 = .ok (.iinc 4 1, 3) := dk_132 4 1 (dk_at dksX1_filledAt_1 5 rfl rfl)
theorem dX1_filledAt_31 : decode cX1_filledAt 31 = .ok (.goto (-28), 3) := dk_167 255 228 (dk_at dksX1_filledAt_1 8 rfl rfl)
theorem dX1_filledAt_34 : decode cX1_filledAt 34 = .ok (.iload 4, 2) := dk_21 4 (dk_at dksX1_filledAt_1 11 rfl rfl)
theorem dX1_filledAt_36 : decode cX1_filledAt 36 = .ok (.ifCond .eq 10, 3) := dk_153 0 10 (dk_at dksX1_filledAt_1 13 rfl rfl)
theorem dX1_filledAt_39 : decode cX1_filledAt 39 = .ok (.iload 4, 2) := dk_21 4 (dk_at dksX1_filledAt_1 16 rfl rfl)
theorem dX1_filledAt_41 : decode cX1_filledAt 41 = .ok (.bipush 8, 2) := dk_16 8 (dk_at dksX1_filledAt_1 18 rfl rfl)
theorem dX1_filledAt_43 : decode cX1_filledAt 43 = .ok (.if_icmp .ne 21, 3) := dk_160 0 21 (dk_at dksX1_filledAt_1 20 rfl rfl)
theorem dX1_filledAt_46 : decode cX1_filledAt 46 = .ok (.iload 4, 2) := dk_21 4 (dk_at dksX1_filledAt_2 0 rfl rfl)
theorem dX1_filledAt_48 : decode cX1_filledAt 48 = .ok (.ifCond .ne 13, 3) := dk_154 0 13 (dk_at dksX1_filledAt_2 2 rfl rfl)
theorem dX1_filledAt_51 : decode cX1_filledAt 51 = .ok (.aload_n 0, 1) := dk_42 (dk_at dksX1_filledAt_2 5 rfl rfl)
theorem dX1_filledAt_52 : decode cX1_filledAt 52 = .ok (.iload_n 1, 1) := dk_27 (dk_at dksX1_filledAt_2 6 rfl rfl)
theorem dX1_filledAt_53 : decode cX1_filledAt 53 = .ok (.iload_n 2, 1) := dk_28 (dk_at dksX1_filledAt_2 7 rfl rfl)
theorem dX1_filledAt_54 : decode cX1_filledAt 54 = .ok (.iload_n 3, 1) := dk_29 (dk_at dksX1_filledAt_2 8 rfl rfl)
theorem dX1_filledAt_55 : decode cX1_filledAt 55 = .ok (.invokevirtual 115, 3) := dk_182 0 115 (dk_at dksX1_filledAt_2 9 rfl rfl)
theorem dX1_filledAt_58 : decode cX1_filledAt 58 = .ok (.goto 5, 3) := dk_167 0 5 (dk_at dksX1_filledAt_2 12 rfl rfl)
theorem dX1_filledAt_61 : decode cX1_filledAt 61 = .ok (.bipush (-9), 2) := dk_16 247 (dk_at dksX1_filledAt_2 15 rfl rfl)
theorem dX1_filledAt_63 : decode cX1_filledAt 63 = .ok (.ireturn, 1) := dk_172 (dk_at dksX1_filledAt_2 17 rfl rfl)
theorem dX1_filledAt_64 : decode cX1_filledAt 64 = .ok (.iconst 1, 1) := dk_4 (dk_at dksX1_filledAt_2 18 rfl rfl)
theorem dX1_filledAt_65 : decode cX1_filledAt 65 = .ok (.istore 5, 2) := dk_54 5 (dk_at dksX1_filledAt_2 19 rfl rfl)
theorem dX1_filledAt_67 : decode cX1_filledAt 67 = .ok (.aload_n 0, 1) := dk_42 (dk_at dksX1_filledAt_2 21 rfl rfl)
theorem dX1_filledAt_68 : decode cX1_filledAt 68 = .ok (.iload_n 1, 1) := dk_27 (dk_at dksX1_filledAt_2 22 rfl rfl)
theorem dX1_filledAt_69 : decode cX1_filledAt 69 = .ok (.iload_n 2, 1) := dk_28 (dk_at dksX1_filledAt_2 23 rfl rfl)
theorem dX1_filledAt_70 : decode cX1_filledAt 70 = .ok (.iload_n 3, 1) := dk_29 (dk_at dksX1_filledAt_3 0 rfl rfl)
theorem dX1_filledAt_71 : decode cX1_filledAt 71 = .ok (.iload 5, 2) := dk_21 5 (dk_at dksX1_filledAt_3 1 rfl rfl)
theorem dX1_filledAt_73 : decode cX1_filledAt 73 = .ok (.iadd, 1) := dk_96 (dk_at dksX1_filledAt_3 3 rfl rfl)
theorem dX1_filledAt_74 : decode cX1_filledAt 74 = .ok (.invokevirtual 115, 3) := dk_182 0 115 (dk_at dksX1_filledAt_3 4 rfl rfl)
theorem dX1_filledAt_77 : decode cX1_filledAt 77 = .ok (.bipush (-9), 2) := dk_16 247 (dk_at dksX1_filledAt_3 7 rfl rfl)
theorem dX1_filledAt_79 : decode cX1_filledAt 79 = .ok (.if_icmp .ne 9, 3) := dk_160 0 9 (dk_at dksX1_filledAt_3 9 rfl rfl)
theorem dX1_filledAt_82 : decode cX1_filledAt 82 = .ok (.iinc 5 1, 3) := dk_132 5 1 (dk_at dksX1_filledAt_3 12 rfl rfl)
theorem dX1_filledAt_85 : decode cX1_filledAt 85 = .ok (.goto (-18), 3) := dk_167 255 238 (dk_at dksX1_filledAt_3 15 rfl rfl)
theorem dX1_filledAt_88 : decode cX1_filledAt 88 = .ok (.aload_n 0, 1) := dk_42 (dk_at dksX1_filledAt_3 18 rfl rfl)
theorem dX1_filledAt_89 : decode cX1_filledAt 89 = .ok (.iload_n 1, 1) := dk_27 (dk_at dksX1_filledAt_3 19 rfl rfl)
theorem dX1_filledAt_90 : decode cX1_filledAt 90 = .ok (.iload_n 2, 1) := dk_28 (dk_at dksX1_filledAt_3 20 rfl rfl)
theorem dX1_filledAt_91 : decode cX1_filledAt 91 = .ok (.iload_n 3, 1) := dk_29 (dk_at dksX1_filledAt_3 21 rfl rfl)
theorem dX1_filledAt_92 : decode cX1_filledAt 92 = .ok (.bipush 8, 2) := dk_16 8 (dk_at dksX1_filledAt_3 22 rfl rfl)
theorem dX1_filledAt_94 : decode cX1_filledAt 94 = .ok (.iadd, 1) := dk_96 (dk_at dksX1_filledAt_4 0 rfl rfl)
theorem dX1_filledAt_95 : decode cX1_filledAt 95 = .ok (.iload 4, 2) := dk_21 4 (dk_at dksX1_filledAt_4 1 rfl rfl)
theorem dX1_filledAt_97 : decode cX1_filledAt 97 = .ok (.isub, 1) := dk_100 (dk_at dksX1_filledAt_4 3 rfl rfl)
theorem dX1_filledAt_98 : decode cX1_filledAt 98 = .ok (.invokevirtual 115, 3) := dk_182 0 115 (dk_at dksX1_filledAt_4 4 rfl rfl)
theorem dX1_filledAt_101 : decode cX1_filledAt 101 = .ok (.iload 5, 2) := dk_21 5 (dk_at dksX1_filledAt_4 7 rfl rfl)
theorem dX1_filledAt_103 : decode cX1_filledAt 103 = .ok (.imul, 1) := dk_104 (dk_at dksX1_filledAt_4 9 rfl rfl)
theorem dX1_filledAt_104 : decode cX1_filledAt 104 = .ok (.aload_n 0, 1) := dk_42 (dk_at dksX1_filledAt_4 10 rfl rfl)
theorem dX1_filledAt_105 : decode cX1_filledAt 105 = .ok (.iload_n 1, 1) := dk_27 (dk_at dksX1_filledAt_4 11 rfl rfl)
theorem dX1_filledAt_106 : decode cX1_filledAt 106 = .ok (.iload_n 2, 1) := dk_28 (dk_at dksX1_filledAt_4 12 rfl rfl)
theorem dX1_filledAt_107 : decode cX1_filledAt 107 = .ok (.iload_n 3, 1) := dk_29 (dk_at dksX1_filledAt_4 13 rfl rfl)
theorem dX1_filledAt_108 : decode cX1_filledAt 108 = .ok (.iload 5, 2) := dk_21 5 (dk_at dksX1_filledAt_4 14 rfl rfl)
theorem dX1_filledAt_110 : decode cX1_filledAt 110 = .ok (.iadd, 1) := dk_96 (dk_at dksX1_filledAt_4 16 rfl rfl)
theorem dX1_filledAt_111 : decode cX1_filledAt 111 = .ok (.invokevirtual 115, 3) := dk_182 0 115 (dk_at dksX1_filledAt_4 17 rfl rfl)
theorem dX1_filledAt_114 : decode cX1_filledAt 114 = .ok (.iload 4, 2) := dk_21 4 (dk_at dksX1_filledAt_4 20 rfl rfl)
theorem dX1_filledAt_116 : decode cX1_filledAt 116 = .ok (.imul, 1) := dk_104 (dk_at dksX1_filledAt_4 22 rfl rfl)
theorem dX1_filledAt_117 : decode cX1_filledAt 117 = .ok (.iadd, 1) := dk_96 (dk_at dksX1_filledAt_4 23 rfl rfl)
theorem dX1_filledAt_118 : decode cX1_filledAt 118 = .ok (.iload 4, 2) := dk_21 4 (dk_at dksX1_filledAt_5 0 rfl rfl)
theorem dX1_filledAt_120 : decode cX1_filledAt 120 = .ok (.iload 5, 2) := dk_21 5 (dk_at dksX1_filledAt_5 2 rfl rfl)
theorem dX1_filledAt_122 : decode cX1_filledAt 122 = .ok (.iadd, 1) := dk_96 (dk_at dksX1_filledAt_5 4 rfl rfl)
theorem dX1_filledAt_123 : decode cX1_filledAt 123 = .ok (.idiv, 1) := dk_108 (dk_at dksX1_filledAt_5 5 rfl rfl)
theorem dX1_filledAt_124 : decode cX1_filledAt 124 = .ok (.ireturn, 1) := dk_172 (dk_at dksX1_filledAt_5 6 rfl rfl)
abbrev cX1_toldAt : ByteArray := prog_12_method_12_code
def yX1_toldAt : MethodName := ⟨RX1, "toldAt", "(III)I"⟩
def dkwX1_toldAt_0 : List UInt8 := [42, 180, 0, 17, 16, 96, 27, 104, 16, 8, 28, 104, 96, 29, 16, 7, 126, 96, 46, 172]
abbrev dktX1_toldAt_0 : List UInt8 := dkwX1_toldAt_0 ++ []
theorem dksX1_toldAt_0 : cX1_toldAt.data.toList.drop 0 = dktX1_toldAt_0 := by decide +kernel
theorem dX1_toldAt_0 : decode cX1_toldAt 0 = .ok (.aload_n 0, 1) := dk_42 (dk_at dksX1_toldAt_0 0 rfl rfl)
theorem dX1_toldAt_1 : decode cX1_toldAt 1 = .ok (.getfield 17, 3) := dk_180 0 17 (dk_at dksX1_toldAt_0 1 rfl rfl)
theorem dX1_toldAt_4 : decode cX1_toldAt 4 = .ok (.bipush 96, 2) := dk_16 96 (dk_at dksX1_toldAt_0 4 rfl rfl)
theorem dX1_toldAt_6 : decode cX1_toldAt 6 = .ok (.iload_n 1, 1) := dk_27 (dk_at dksX1_toldAt_0 6 rfl rfl)
theorem dX1_toldAt_7 : decode cX1_toldAt 7 = .ok (.imul, 1) := dk_104 (dk_at dksX1_toldAt_0 7 rfl rfl)
theorem dX1_toldAt_8 : decode cX1_toldAt 8 = .ok (.bipush 8, 2) := dk_16 8 (dk_at dksX1_toldAt_0 8 rfl rfl)
theorem dX1_toldAt_10 : decode cX1_toldAt 10 = .ok (.iload_n 2, 1) := dk_28 (dk_at dksX1_toldAt_0 10 rfl rfl)
theorem dX1_toldAt_11 : decode cX1_toldAt 11 = .ok (.imul, 1) := dk_104 (dk_at dksX1_toldAt_0 11 rfl rfl)
theorem dX1_toldAt_12 : decode cX1_toldAt 12 = .ok (.iadd, 1) := dk_96 (dk_at dksX1_toldAt_0 12 rfl rfl)
theorem dX1_toldAt_13 : decode cX1_toldAt 13 = .ok (.iload_n 3, 1) := dk_29 (dk_at dksX1_toldAt_0 13 rfl rfl)
theorem dX1_toldAt_14 : decode cX1_toldAt 14 = .ok (.bipush 7, 2) := dk_16 7 (dk_at dksX1_toldAt_0 14 rfl rfl)
theorem dX1_toldAt_16 : decode cX1_toldAt 16 = .ok (.iand, 1) := dk_126 (dk_at dksX1_toldAt_0 16 rfl rfl)
theorem dX1_toldAt_17 : decode cX1_toldAt 17 = .ok (.iadd, 1) := dk_96 (dk_at dksX1_toldAt_0 17 rfl rfl)
theorem dX1_toldAt_18 : decode cX1_toldAt 18 = .ok (.iaload, 1) := dk_46 (dk_at dksX1_toldAt_0 18 rfl rfl)
theorem dX1_toldAt_19 : decode cX1_toldAt 19 = .ok (.ireturn, 1) := dk_172 (dk_at dksX1_toldAt_0 19 rfl rfl)
abbrev cX1_tear : ByteArray := prog_12_method_16_code
def yX1_tear : MethodName := ⟨RX1, "tear", "(I)I"⟩
def dkwX1_tear_0 : List UInt8 := [42, 27, 182, 0, 108, 61, 28, 156, 0, 5, 28, 172, 42, 180, 0, 13, 27, 3, 84, 4, 172]
abbrev dktX1_tear_0 : List UInt8 := dkwX1_tear_0 ++ []
theorem dksX1_tear_0 : cX1_tear.data.toList.drop 0 = dktX1_tear_0 := by decide +kernel
theorem dX1_tear_0 : decode cX1_tear 0 = .ok (.aload_n 0, 1) := dk_42 (dk_at dksX1_tear_0 0 rfl rfl)
theorem dX1_tear_1 : decode cX1_tear 1 = .ok (.iload_n 1, 1) := dk_27 (dk_at dksX1_tear_0 1 rfl rfl)
theorem dX1_tear_2 : decode cX1_tear 2 = .ok (.invokevirtual 108, 3) := dk_182 0 108 (dk_at dksX1_tear_0 2 rfl rfl)
theorem dX1_tear_5 : decode cX1_tear 5 = .ok (.istore_n 2, 1) := dk_61 (dk_at dksX1_tear_0 5 rfl rfl)
theorem dX1_tear_6 : decode cX1_tear 6 = .ok (.iload_n 2, 1) := dk_28 (dk_at dksX1_tear_0 6 rfl rfl)
theorem dX1_tear_7 : decode cX1_tear 7 = .ok (.ifCond .ge 5, 3) := dk_156 0 5 (dk_at dksX1_tear_0 7 rfl rfl)
theorem dX1_tear_10 : decode cX1_tear 10 = .ok (.iload_n 2, 1) := dk_28 (dk_at dksX1_tear_0 10 rfl rfl)
theorem dX1_tear_11 : decode cX1_tear 11 = .ok (.ireturn, 1) := dk_172 (dk_at dksX1_tear_0 11 rfl rfl)
theorem dX1_tear_12 : decode cX1_tear 12 = .ok (.aload_n 0, 1) := dk_42 (dk_at dksX1_tear_0 12 rfl rfl)
theorem dX1_tear_13 : decode cX1_tear 13 = .ok (.getfield 13, 3) := dk_180 0 13 (dk_at dksX1_tear_0 13 rfl rfl)
theorem dX1_tear_16 : decode cX1_tear 16 = .ok (.iload_n 1, 1) := dk_27 (dk_at dksX1_tear_0 16 rfl rfl)
theorem dX1_tear_17 : decode cX1_tear 17 = .ok (.iconst 0, 1) := dk_3 (dk_at dksX1_tear_0 17 rfl rfl)
theorem dX1_tear_18 : decode cX1_tear 18 = .ok (.bastore, 1) := dk_84 (dk_at dksX1_tear_0 18 rfl rfl)
theorem dX1_tear_19 : decode cX1_tear 19 = .ok (.iconst 1, 1) := dk_4 (dk_at dksX1_tear_0 19 rfl rfl)
theorem dX1_tear_20 : decode cX1_tear 20 = .ok (.ireturn, 1) := dk_172 (dk_at dksX1_tear_0 20 rfl rfl)
abbrev cX1_copy : ByteArray := prog_12_method_17_code
def yX1_copy : MethodName := ⟨RX1, "copy", "(IIIII)I"⟩
def dkwX1_copy_7 : List UInt8 := [167, 255, 224, 4, 172]
abbrev dktX1_copy_7 : List UInt8 := dkwX1_copy_7 ++ []
def dkwX1_copy_6 : List UInt8 := [180, 0, 17, 16, 96, 29, 104, 21, 4, 96, 21, 6, 96, 42, 180, 0, 20, 21, 6, 46, 79, 132, 6, 1]
abbrev dktX1_copy_6 : List UInt8 := dkwX1_copy_6 ++ dktX1_copy_7
def dkwX1_copy_5 : List UInt8 := [96, 21, 6, 96, 46, 79, 132, 6, 1, 167, 255, 225, 3, 54, 6, 21, 6, 21, 5, 162, 0, 31, 42]
abbrev dktX1_copy_5 : List UInt8 := dkwX1_copy_5 ++ dktX1_copy_6
def dkwX1_copy_4 : List UInt8 := [54, 6, 21, 6, 21, 5, 162, 0, 30, 42, 180, 0, 20, 21, 6, 42, 180, 0, 17, 16, 96, 27, 104, 28]
abbrev dktX1_copy_4 : List UInt8 := dkwX1_copy_4 ++ dktX1_copy_5
def dkwX1_copy_3 : List UInt8 := [157, 0, 17, 21, 4, 133, 21, 5, 133, 97, 20, 0, 128, 148, 158, 0, 9, 42, 5, 182, 0, 101, 172, 3]
abbrev dktX1_copy_3 : List UInt8 := dkwX1_copy_3 ++ dktX1_copy_4
def dkwX1_copy_2 : List UInt8 := [182, 0, 101, 172, 28, 155, 0, 35, 21, 4, 155, 0, 30, 28, 133, 21, 5, 133, 97, 20, 0, 128, 148]
abbrev dktX1_copy_2 : List UInt8 := dkwX1_copy_2 ++ dktX1_copy_3
def dkwX1_copy_1 : List UInt8 := [182, 0, 101, 172, 42, 180, 0, 13, 27, 51, 153, 0, 12, 42, 180, 0, 13, 29, 51, 154, 0, 9, 42, 4]
abbrev dktX1_copy_1 : List UInt8 := dkwX1_copy_1 ++ dktX1_copy_2
def dkwX1_copy_0 : List UInt8 := [27, 184, 0, 97, 153, 0, 10, 29, 184, 0, 97, 154, 0, 5, 2, 172, 21, 5, 156, 0, 9, 42, 8]
abbrev dktX1_copy_0 : List UInt8 := dkwX1_copy_0 ++ dktX1_copy_1
theorem dksX1_copy_0 : cX1_copy.data.toList.drop 0 = dktX1_copy_0 := by decide +kernel
theorem dksX1_copy_1 : cX1_copy.data.toList.drop 23 = dktX1_copy_1 := dk_seg dksX1_copy_0 23 rfl rfl
theorem dksX1_copy_2 : cX1_copy.data.toList.drop 47 = dktX1_copy_2 := dk_seg dksX1_copy_1 24 rfl rfl
theorem dksX1_copy_3 : cX1_copy.data.toList.drop 70 = dktX1_copy_3 := dk_seg dksX1_copy_2 23 rfl rfl
theorem dksX1_copy_4 : cX1_copy.data.toList.drop 94 = dktX1_copy_4 := dk_seg dksX1_copy_3 24 rfl rfl
theorem dksX1_copy_5 : cX1_copy.data.toList.drop 118 = dktX1_copy_5 := dk_seg dksX1_copy_4 24 rfl rfl
theorem dksX1_copy_6 : cX1_copy.data.toList.drop 141 = dktX1_copy_6 := dk_seg dksX1_copy_5 23 rfl rfl
theorem dksX1_copy_7 : cX1_copy.data.toList.drop 165 = dktX1_copy_7 := dk_seg dksX1_copy_6 24 rfl rfl
theorem dX1_copy_0 : decode cX1_copy 0 = .ok (.iload_n 1, 1) := dk_27 (dk_at dksX1_copy_0 0 rfl rfl)
theorem dX1_copy_1 : decode cX1_copy 1 = .ok (.invokestatic 97, 3) := dk_184 0 97 (dk_at dksX1_copy_0 1 rfl rfl)
theorem dX1_copy_4 : decode cX1_copy 4 = .ok (.ifCond .eq 10, 3) := dk_153 0 10 (dk_at dksX1_copy_0 4 rfl rfl)
theorem dX1_copy_7 : decode cX1_copy 7 = .ok (.iload_n 3, 1) := dk_29 (dk_at dksX1_copy_0 7 rfl rfl)
theorem dX1_copy_8 : decode cX1_copy 8 = .ok (.invokestatic 97, 3) := dk_184 0 97 (dk_at dksX1_copy_0 8 rfl rfl)
theorem dX1_copy_11 : decode cX1_copy 11 = .ok (.ifCond .ne 5, 3) := dk_154 0 5 (dk_at dksX1_copy_0 11 rfl rfl)
theorem dX1_copy_14 : decode cX1_copy 14 = .ok (.iconst (-1), 1) := dk_2 (dk_at dksX1_copy_0 14 rfl rfl)
theorem dX1_copy_15 : decode cX1_copy 15 = .ok (.ireturn, 1) := dk_172 (dk_at dksX1_copy_0 15 rfl rfl)
theorem dX1_copy_16 : decode cX1_copy 16 = .ok (.iload 5, 2) := dk_21 5 (dk_at dksX1_copy_0 16 rfl rfl)
theorem dX1_copy_18 : decode cX1_copy 18 = .ok (.ifCond .ge 9, 3) := dk_156 0 9 (dk_at dksX1_copy_0 18 rfl rfl)
theorem dX1_copy_21 : decode cX1_copy 21 = .ok (.aload_n 0, 1) := dk_42 (dk_at dksX1_copy_0 21 rfl rfl)
theorem dX1_copy_22 : decode cX1_copy 22 = .ok (.iconst 5, 1) := dk_8 (dk_at dksX1_copy_0 22 rfl rfl)
theorem dX1_copy_23 : decode cX1_copy 23 = .ok (.invokevirtual 101, 3) := dk_182 0 101 (dk_at dksX1_copy_1 0 rfl rfl)
theorem dX1_copy_26 : decode cX1_copy 26 = .ok (.ireturn, 1) := dk_172 (dk_at dksX1_copy_1 3 rfl rfl)
theorem dX1_copy_27 : decode cX1_copy 27 = .ok (.aload_n 0, 1) := dk_42 (dk_at dksX1_copy_1 4 rfl rfl)
theorem dX1_copy_28 : decode cX1_copy 28 = .ok (.getfield 13, 3) := dk_180 0 13 (dk_at dksX1_copy_1 5 rfl rfl)
theorem dX1_copy_31 : decode cX1_copy 31 = .ok (.iload_n 1, 1) := dk_27 (dk_at dksX1_copy_1 8 rfl rfl)
theorem dX1_copy_32 : decode cX1_copy 32 = .ok (.baload, 1) := dk_51 (dk_at dksX1_copy_1 9 rfl rfl)
theorem dX1_copy_33 : decode cX1_copy 33 = .ok (.ifCond .eq 12, 3) := dk_153 0 12 (dk_at dksX1_copy_1 10 rfl rfl)
theorem dX1_copy_36 : decode cX1_copy 36 = .ok (.aload_n 0, 1) := dk_42 (dk_at dksX1_copy_1 13 rfl rfl)
theorem dX1_copy_37 : decode cX1_copy 37 = .ok (.getfield 13, 3) := dk_180 0 13 (dk_at dksX1_copy_1 14 rfl rfl)
theorem dX1_copy_40 : decode cX1_copy 40 = .ok (.iload_n 3, 1) := dk_29 (dk_at dksX1_copy_1 17 rfl rfl)
theorem dX1_copy_41 : decode cX1_copy 41 = .ok (.baload, 1) := dk_51 (dk_at dksX1_copy_1 18 rfl rfl)
theorem dX1_copy_42 : decode cX1_copy 42 = .ok (.ifCond .ne 9, 3) := dk_154 0 9 (dk_at dksX1_copy_1 19 rfl rfl)
theorem dX1_copy_45 : decode cX1_copy 45 = .ok (.aload_n 0, 1) := dk_42 (dk_at dksX1_copy_1 22 rfl rfl)
theorem dX1_copy_46 : decode cX1_copy 46 = .ok (.iconst 1, 1) := dk_4 (dk_at dksX1_copy_1 23 rfl rfl)
theorem dX1_copy_47 : decode cX1_copy 47 = .ok (.invokevirtual 101, 3) := dk_182 0 101 (dk_at dksX1_copy_2 0 rfl rfl)
theorem dX1_copy_50 : decode cX1_copy 50 = .ok (.ireturn, 1) := dk_172 (dk_at dksX1_copy_2 3 rfl rfl)
theorem dX1_copy_51 : decode cX1_copy 51 = .ok (.iload_n 2, 1) := dk_28 (dk_at dksX1_copy_2 4 rfl rfl)
theorem dX1_copy_52 : decode cX1_copy 52 = .ok (.ifCond .lt 35, 3) := dk_155 0 35 (dk_at dksX1_copy_2 5 rfl rfl)
theorem dX1_copy_55 : decode cX1_copy 55 = .ok (.iload 4, 2) := dk_21 4 (dk_at dksX1_copy_2 8 rfl rfl)
theorem dX1_copy_57 : decode cX1_copy 57 = .ok (.ifCond .lt 30, 3) := dk_155 0 30 (dk_at dksX1_copy_2 10 rfl rfl)
theorem dX1_copy_60 : decode cX1_copy 60 = .ok (.iload_n 2, 1) := dk_28 (dk_at dksX1_copy_2 13 rfl rfl)
theorem dX1_copy_61 : decode cX1_copy 61 = .ok (.i2l, 1) := dk_133 (dk_at dksX1_copy_2 14 rfl rfl)
theorem dX1_copy_62 : decode cX1_copy 62 = .ok (.iload 5, 2) := dk_21 5 (dk_at dksX1_copy_2 15 rfl rfl)
theorem dX1_copy_64 : decode cX1_copy 64 = .ok (.i2l, 1) := dk_133 (dk_at dksX1_copy_2 17 rfl rfl)
theorem dX1_copy_65 : decode cX1_copy 65 = .ok (.ladd, 1) := dk_97 (dk_at dksX1_copy_2 18 rfl rfl)
theorem dX1_copy_66 : decode cX1_copy 66 = .ok (.ldc2_w 128, 3) := dk_20 0 128 (dk_at dksX1_copy_2 19 rfl rfl)
theorem dX1_copy_69 : decode cX1_copy 69 = .ok (.lcmp, 1) := dk_148 (dk_at dksX1_copy_2 22 rfl rfl)
theorem dX1_copy_70 : decode cX1_copy 70 = .ok (.ifCond .gt 17, 3) := dk_157 0 17 (dk_at dksX1_copy_3 0 rfl rfl)
theorem dX1_copy_73 : decode cX1_copy 73 = .ok (.iload 4, 2) := dk_21 4 (dk_at dksX1_copy_3 3 rfl rfl)
theorem dX1_copy_75 : decode cX1_copy 75 = .ok (.i2l, 1) := dk_133 (dk_at dksX1_copy_3 5 rfl rfl)
theorem dX1_copy_76 : decode cX1_copy 76 = .ok (.iload 5, 2) := dk_21 5 (dk_at dksX1_copy_3 6 rfl rfl)
theorem dX1_copy_78 : decode cX1_copy 78 = .ok (.i2l, 1) := dk_133 (dk_at dksX1_copy_3 8 rfl rfl)
theorem dX1_copy_79 : decode cX1_copy 79 = .ok (.ladd, 1) := dk_97 (dk_at dksX1_copy_3 9 rfl rfl)
theorem dX1_copy_80 : decode cX1_copy 80 = .ok (.ldc2_w 128, 3) := dk_20 0 128 (dk_at dksX1_copy_3 10 rfl rfl)
theorem dX1_copy_83 : decode cX1_copy 83 = .ok (.lcmp, 1) := dk_148 (dk_at dksX1_copy_3 13 rfl rfl)
theorem dX1_copy_84 : decode cX1_copy 84 = .ok (.ifCond .le 9, 3) := dk_158 0 9 (dk_at dksX1_copy_3 14 rfl rfl)
theorem dX1_copy_87 : decode cX1_copy 87 = .ok (.aload_n 0, 1) := dk_42 (dk_at dksX1_copy_3 17 rfl rfl)
theorem dX1_copy_88 : decode cX1_copy 88 = .ok (.iconst 2, 1) := dk_5 (dk_at dksX1_copy_3 18 rfl rfl)
theorem dX1_copy_89 : decode cX1_copy 89 = .ok (.invokevirtual 101, 3) := dk_182 0 101 (dk_at dksX1_copy_3 19 rfl rfl)
theorem dX1_copy_92 : decode cX1_copy 92 = .ok (.ireturn, 1) := dk_172 (dk_at dksX1_copy_3 22 rfl rfl)
theorem dX1_copy_93 : decode cX1_copy 93 = .ok (.iconst 0, 1) := dk_3 (dk_at dksX1_copy_3 23 rfl rfl)
theorem dX1_copy_94 : decode cX1_copy 94 = .ok (.istore 6, 2) := dk_54 6 (dk_at dksX1_copy_4 0 rfl rfl)
theorem dX1_copy_96 : decode cX1_copy 96 = .ok (.iload 6, 2) := dk_21 6 (dk_at dksX1_copy_4 2 rfl rfl)
theorem dX1_copy_98 : decode cX1_copy 98 = .ok (.iload 5, 2) := dk_21 5 (dk_at dksX1_copy_4 4 rfl rfl)
theorem dX1_copy_100 : decode cX1_copy 100 = .ok (.if_icmp .ge 30, 3) := dk_162 0 30 (dk_at dksX1_copy_4 6 rfl rfl)
theorem dX1_copy_103 : decode cX1_copy 103 = .ok (.aload_n 0, 1) := dk_42 (dk_at dksX1_copy_4 9 rfl rfl)
theorem dX1_copy_104 : decode cX1_copy 104 = .ok (.getfield 20, 3) := dk_180 0 20 (dk_at dksX1_copy_4 10 rfl rfl)
theorem dX1_copy_107 : decode cX1_copy 107 = .ok (.iload 6, 2) := dk_21 6 (dk_at dksX1_copy_4 13 rfl rfl)
theorem dX1_copy_109 : decode cX1_copy 109 = .ok (.aload_n 0, 1) := dk_42 (dk_at dksX1_copy_4 15 rfl rfl)
theorem dX1_copy_110 : decode cX1_copy 110 = .ok (.getfield 17, 3) := dk_180 0 17 (dk_at dksX1_copy_4 16 rfl rfl)
theorem dX1_copy_113 : decode cX1_copy 113 = .ok (.bipush 96, 2) := dk_16 96 (dk_at dksX1_copy_4 19 rfl rfl)
theorem dX1_copy_115 : decode cX1_copy 115 = .ok (.iload_n 1, 1) := dk_27 (dk_at dksX1_copy_4 21 rfl rfl)
theorem dX1_copy_116 : decode cX1_copy 116 = .ok (.imul, 1) := dk_104 (dk_at dksX1_copy_4 22 rfl rfl)
theorem dX1_copy_117 : decode cX1_copy 117 = .ok (.iload_n 2, 1) := dk_28 (dk_at dksX1_copy_4 23 rfl rfl)
theorem dX1_copy_118 : decode cX1_copy 118 = .ok (.iadd, 1) := dk_96 (dk_at dksX1_copy_5 0 rfl rfl)
theorem dX1_copy_119 : decode cX1_copy 119 = .ok (.iload 6, 2) := dk_21 6 (dk_at dksX1_copy_5 1 rfl rfl)
theorem dX1_copy_121 : decode cX1_copy 121 = .ok (.iadd, 1) := dk_96 (dk_at dksX1_copy_5 3 rfl rfl)
theorem dX1_copy_122 : decode cX1_copy 122 = .ok (.iaload, 1) := dk_46 (dk_at dksX1_copy_5 4 rfl rfl)
theorem dX1_copy_123 : decode cX1_copy 123 = .ok (.iastore, 1) := dk_79 (dk_at dksX1_copy_5 5 rfl rfl)
theorem dX1_copy_124 : decode cX1_copy 124 = .ok (.iinc 6 1, 3) := dk_132 6 1 (dk_at dksX1_copy_5 6 rfl rfl)
theorem dX1_copy_127 : decode cX1_copy 127 = .ok (.goto (-31), 3) := dk_167 255 225 (dk_at dksX1_copy_5 9 rfl rfl)
theorem dX1_copy_130 : decode cX1_copy 130 = .ok (.iconst 0, 1) := dk_3 (dk_at dksX1_copy_5 12 rfl rfl)
theorem dX1_copy_131 : decode cX1_copy 131 = .ok (.istore 6, 2) := dk_54 6 (dk_at dksX1_copy_5 13 rfl rfl)
theorem dX1_copy_133 : decode cX1_copy 133 = .ok (.iload 6, 2) := dk_21 6 (dk_at dksX1_copy_5 15 rfl rfl)
theorem dX1_copy_135 : decode cX1_copy 135 = .ok (.iload 5, 2) := dk_21 5 (dk_at dksX1_copy_5 17 rfl rfl)
theorem dX1_copy_137 : decode cX1_copy 137 = .ok (.if_icmp .ge 31, 3) := dk_162 0 31 (dk_at dksX1_copy_5 19 rfl rfl)
theorem dX1_copy_140 : decode cX1_copy 140 = .ok (.aload_n 0, 1) := dk_42 (dk_at dksX1_copy_5 22 rfl rfl)
theorem dX1_copy_141 : decode cX1_copy 141 = .ok (.getfield 17, 3) := dk_180 0 17 (dk_at dksX1_copy_6 0 rfl rfl)
theorem dX1_copy_144 : decode cX1_copy 144 = .ok (.bipush 96, 2) := dk_16 96 (dk_at dksX1_copy_6 3 rfl rfl)
theorem dX1_copy_146 : decode cX1_copy 146 = .ok (.iload_n 3, 1) := dk_29 (dk_at dksX1_copy_6 5 rfl rfl)
theorem dX1_copy_147 : decode cX1_copy 147 = .ok (.imul, 1) := dk_104 (dk_at dksX1_copy_6 6 rfl rfl)
theorem dX1_copy_148 : decode cX1_copy 148 = .ok (.iload 4, 2) := dk_21 4 (dk_at dksX1_copy_6 7 rfl rfl)
theorem dX1_copy_150 : decode cX1_copy 150 = .ok (.iadd, 1) := dk_96 (dk_at dksX1_copy_6 9 rfl rfl)
theorem dX1_copy_151 : decode cX1_copy 151 = .ok (.iload 6, 2) := dk_21 6 (dk_at dksX1_copy_6 10 rfl rfl)
theorem dX1_copy_153 : decode cX1_copy 153 = .ok (.iadd, 1) := dk_96 (dk_at dksX1_copy_6 12 rfl rfl)
theorem dX1_copy_154 : decode cX1_copy 154 = .ok (.aload_n 0, 1) := dk_42 (dk_at dksX1_copy_6 13 rfl rfl)
theorem dX1_copy_155 : decode cX1_copy 155 = .ok (.getfield 20, 3) := dk_180 0 20 (dk_at dksX1_copy_6 14 rfl rfl)
theorem dX1_copy_158 : decode cX1_copy 158 = .ok (.iload 6, 2) := dk_21 6 (dk_at dksX1_copy_6 17 rfl rfl)
theorem dX1_copy_160 : decode cX1_copy 160 = .ok (.iaload, 1) := dk_46 (dk_at dksX1_copy_6 19 rfl rfl)
theorem dX1_copy_161 : decode cX1_copy 161 = .ok (.iastore, 1) := dk_79 (dk_at dksX1_copy_6 20 rfl rfl)
theorem dX1_copy_162 : decode cX1_copy 162 = .ok (.iinc 6 1, 3) := dk_132 6 1 (dk_at dksX1_copy_6 21 rfl rfl)
theorem dX1_copy_165 : decode cX1_copy 165 = .ok (.goto (-32), 3) := dk_167 255 224 (dk_at dksX1_copy_7 0 rfl rfl)
theorem dX1_copy_168 : decode cX1_copy 168 = .ok (.iconst 1, 1) := dk_4 (dk_at dksX1_copy_7 3 rfl rfl)
theorem dX1_copy_169 : decode cX1_copy 169 = .ok (.ireturn, 1) := dk_172 (dk_at dksX1_copy_7 4 rfl rfl)
abbrev cX1_ring : ByteArray := prog_12_method_19_code
def yX1_ring : MethodName := ⟨RX1, "ring", "(II)I"⟩
def dkwX1_ring_1 : List UInt8 := [182, 0, 130, 167, 0, 8, 42, 5, 182, 0, 101, 172]
abbrev dktX1_ring_1 : List UInt8 := dkwX1_ring_1 ++ []
def dkwX1_ring_0 : List UInt8 := [42, 27, 182, 0, 108, 62, 29, 156, 0, 7, 29, 167, 0, 24, 28, 184, 0, 105, 153, 0, 12, 42, 27, 28]
abbrev dktX1_ring_0 : List UInt8 := dkwX1_ring_0 ++ dktX1_ring_1
theorem dksX1_ring_0 : cX1_ring.data.toList.drop 0 = dktX1_ring_0 := by decide +kernel
theorem dksX1_ring_1 : cX1_ring.data.toList.drop 24 = dktX1_ring_1 := dk_seg dksX1_ring_0 24 rfl rfl
theorem dX1_ring_0 : decode cX1_ring 0 = .ok (.aload_n 0, 1) := dk_42 (dk_at dksX1_ring_0 0 rfl rfl)
theorem dX1_ring_1 : decode cX1_ring 1 = .ok (.iload_n 1, 1) := dk_27 (dk_at dksX1_ring_0 1 rfl rfl)
theorem dX1_ring_2 : decode cX1_ring 2 = .ok (.invokevirtual 108, 3) := dk_182 0 108 (dk_at dksX1_ring_0 2 rfl rfl)
theorem dX1_ring_5 : decode cX1_ring 5 = .ok (.istore_n 3, 1) := dk_62 (dk_at dksX1_ring_0 5 rfl rfl)
theorem dX1_ring_6 : decode cX1_ring 6 = .ok (.iload_n 3, 1) := dk_29 (dk_at dksX1_ring_0 6 rfl rfl)
theorem dX1_ring_7 : decode cX1_ring 7 = .ok (.ifCond .ge 7, 3) := dk_156 0 7 (dk_at dksX1_ring_0 7 rfl rfl)
theorem dX1_ring_10 : decode cX1_ring 10 = .ok (.iload_n 3, 1) := dk_29 (dk_at dksX1_ring_0 10 rfl rfl)
theorem dX1_ring_11 : decode cX1_ring 11 = .ok (.goto 24, 3) := dk_167 0 24 (dk_at dksX1_ring_0 11 rfl rfl)
theorem dX1_ring_14 : decode cX1_ring 14 = .ok (.iload_n 2, 1) := dk_28 (dk_at dksX1_ring_0 14 rfl rfl)
theorem dX1_ring_15 : decode cX1_ring 15 = .ok (.invokestatic 105, 3) := dk_184 0 105 (dk_at dksX1_ring_0 15 rfl rfl)
theorem dX1_ring_18 : decode cX1_ring 18 = .ok (.ifCond .eq 12, 3) := dk_153 0 12 (dk_at dksX1_ring_0 18 rfl rfl)
theorem dX1_ring_21 : decode cX1_ring 21 = .ok (.aload_n 0, 1) := dk_42 (dk_at dksX1_ring_0 21 rfl rfl)
theorem dX1_ring_22 : decode cX1_ring 22 = .ok (.iload_n 1, 1) := dk_27 (dk_at dksX1_ring_0 22 rfl rfl)
theorem dX1_ring_23 : decode cX1_ring 23 = .ok (.iload_n 2, 1) := dk_28 (dk_at dksX1_ring_0 23 rfl rfl)
theorem dX1_ring_24 : decode cX1_ring 24 = .ok (.invokevirtual 130, 3) := dk_182 0 130 (dk_at dksX1_ring_1 0 rfl rfl)
theorem dX1_ring_27 : decode cX1_ring 27 = .ok (.goto 8, 3) := dk_167 0 8 (dk_at dksX1_ring_1 3 rfl rfl)
theorem dX1_ring_30 : decode cX1_ring 30 = .ok (.aload_n 0, 1) := dk_42 (dk_at dksX1_ring_1 6 rfl rfl)
theorem dX1_ring_31 : decode cX1_ring 31 = .ok (.iconst 2, 1) := dk_5 (dk_at dksX1_ring_1 7 rfl rfl)
theorem dX1_ring_32 : decode cX1_ring 32 = .ok (.invokevirtual 101, 3) := dk_182 0 101 (dk_at dksX1_ring_1 8 rfl rfl)
theorem dX1_ring_35 : decode cX1_ring 35 = .ok (.ireturn, 1) := dk_172 (dk_at dksX1_ring_1 11 rfl rfl)
abbrev cX1_roomOf : ByteArray := prog_12_method_18_code
def yX1_roomOf : MethodName := ⟨RX1, "roomOf", "(II)I"⟩
def dkwX1_roomOf_2 : List UInt8 := [104, 96, 62, 132, 4, 1, 167, 255, 207, 29, 172]
abbrev dktX1_roomOf_2 : List UInt8 := dkwX1_roomOf_2 ++ []
def dkwX1_roomOf_1 : List UInt8 := [16, 247, 160, 0, 6, 16, 247, 172, 29, 21, 5, 42, 27, 28, 21, 4, 4, 96, 16, 7, 126, 182, 0, 119]
abbrev dktX1_roomOf_1 : List UInt8 := dkwX1_roomOf_1 ++ dktX1_roomOf_2
def dkwX1_roomOf_0 : List UInt8 := [3, 62, 3, 54, 4, 21, 4, 16, 8, 162, 0, 48, 42, 27, 28, 21, 4, 182, 0, 119, 54, 5, 21, 5]
abbrev dktX1_roomOf_0 : List UInt8 := dkwX1_roomOf_0 ++ dktX1_roomOf_1
theorem dksX1_roomOf_0 : cX1_roomOf.data.toList.drop 0 = dktX1_roomOf_0 := by decide +kernel
theorem dksX1_roomOf_1 : cX1_roomOf.data.toList.drop 24 = dktX1_roomOf_1 := dk_seg dksX1_roomOf_0 24 rfl rfl
theorem dksX1_roomOf_2 : cX1_roomOf.data.toList.drop 48 = dktX1_roomOf_2 := dk_seg dksX1_roomOf_1 24 rfl rfl
theorem dX1_roomOf_0 : decode cX1_roomOf 0 = .ok (.iconst 0, 1) := dk_3 (dk_at dksX1_roomOf_0 0 rfl rfl)
theorem dX1_roomOf_1 : decode cX1_roomOf 1 = .ok (.istore_n 3, 1) := dk_62 (dk_at dksX1_roomOf_0 1 rfl rfl)
theorem dX1_roomOf_2 : decode cX1_roomOf 2 = .ok (.iconst 0, 1) := dk_3 (dk_at dksX1_roomOf_0 2 rfl rfl)
theorem dX1_roomOf_3 : decode cX1_roomOf 3 = .ok (.istore 4, 2) := dk_54 4 (dk_at dksX1_roomOf_0 3 rfl rfl)
theorem dX1_roomOf_5 : decode cX1_roomOf 5 = .ok (.iload 4, 2) := dk_21 4 (dk_at dksX1_roomOf_0 5 rfl rfl)
theorem dX1_roomOf_7 : decode cX1_roomOf 7 = .ok (.bipush 8, 2) := dk_16 8 (dk_at dksX1_roomOf_0 7 rfl rfl)
theorem dX1_roomOf_9 : decode cX1_roomOf 9 = .ok (.if_icmp .ge 48, 3) := dk_162 0 48 (dk_at dksX1_roomOf_0 9 rfl rfl)
theorem dX1_roomOf_12 : decode cX1_roomOf 12 = .ok (.aload_n 0, 1) := dk_42 (dk_at dksX1_roomOf_0 12 rfl rfl)
theorem dX1_roomOf_13 : decode cX1_roomOf 13 = .ok (.iload_n 1, 1) := dk_27 (dk_at dksX1_roomOf_0 13 rfl rfl)
theorem dX1_roomOf_14 : decode cX1_roomOf 14 = .ok (.iload_n 2, 1) := dk_28 (dk_at dksX1_roomOf_0 14 rfl rfl)
theorem dX1_roomOf_15 : decode cX1_roomOf 15 = .ok (.iload 4, 2) := dk_21 4 (dk_at dksX1_roomOf_0 15 rfl rfl)
theorem dX1_roomOf_17 : decode cX1_roomOf 17 = .ok (.invokevirtual 119, 3) := dk_182 0 119 (dk_at dksX1_roomOf_0 17 rfl rfl)
theorem dX1_roomOf_20 : decode cX1_roomOf 20 = .ok (.istore 5, 2) := dk_54 5 (dk_at dksX1_roomOf_0 20 rfl rfl)
theorem dX1_roomOf_22 : decode cX1_roomOf 22 = .ok (.iload 5, 2) := dk_21 5 (dk_at dksX1_roomOf_0 22 rfl rfl)
theorem dX1_roomOf_24 : decode cX1_roomOf 24 = .ok (.bipush (-9), 2) := dk_16 247 (dk_at dksX1_roomOf_1 0 rfl rfl)
theorem dX1_roomOf_26 : decode cX1_roomOf 26 = .ok (.if_icmp .ne 6, 3) := dk_160 0 6 (dk_at dksX1_roomOf_1 2 rfl rfl)
theorem dX1_roomOf_29 : decode cX1_roomOf 29 = .ok (.bipush (-9), 2) := dk_16 247 (dk_at dksX1_roomOf_1 5 rfl rfl)
theorem dX1_roomOf_31 : decode cX1_roomOf 31 = .ok (.ireturn, 1) := dk_172 (dk_at dksX1_roomOf_1 7 rfl rfl)
theorem dX1_roomOf_32 : decode cX1_roomOf 32 = .ok (.iload_n 3, 1) := dk_29 (dk_at dksX1_roomOf_1 8 rfl rfl)
theorem dX1_roomOf_33 : decode cX1_roomOf 33 = .ok (.iload 5, 2) := dk_21 5 (dk_at dksX1_roomOf_1 9 rfl rfl)
theorem dX1_roomOf_35 : decode cX1_roomOf 35 = .ok (.aload_n 0, 1) := dk_42 (dk_at dksX1_roomOf_1 11 rfl rfl)
theorem dX1_roomOf_36 : decode cX1_roomOf 36 = .ok (.iload_n 1, 1) := dk_27 (dk_at dksX1_roomOf_1 12 rfl rfl)
theorem dX1_roomOf_37 : decode cX1_roomOf 37 = .ok (.iload_n 2, 1) := dk_28 (dk_at dksX1_roomOf_1 13 rfl rfl)
theorem dX1_roomOf_38 : decode cX1_roomOf 38 = .ok (.iload 4, 2) := dk_21 4 (dk_at dksX1_roomOf_1 14 rfl rfl)
theorem dX1_roomOf_40 : decode cX1_roomOf 40 = .ok (.iconst 1, 1) := dk_4 (dk_at dksX1_roomOf_1 16 rfl rfl)
theorem dX1_roomOf_41 : decode cX1_roomOf 41 = .ok (.iadd, 1) := dk_96 (dk_at dksX1_roomOf_1 17 rfl rfl)
theorem dX1_roomOf_42 : decode cX1_roomOf 42 = .ok (.bipush 7, 2) := dk_16 7 (dk_at dksX1_roomOf_1 18 rfl rfl)
theorem dX1_roomOf_44 : decode cX1_roomOf 44 = .ok (.iand, 1) := dk_126 (dk_at dksX1_roomOf_1 20 rfl rfl)
theorem dX1_roomOf_45 : decode cX1_roomOf 45 = .ok (.invokevirtual 119, 3) := dk_182 0 119 (dk_at dksX1_roomOf_1 21 rfl rfl)
theorem dX1_roomOf_48 : decode cX1_roomOf 48 = .ok (.imul, 1) := dk_104 (dk_at dksX1_roomOf_2 0 rfl rfl)
theorem dX1_roomOf_49 : decode cX1_roomOf 49 = .ok (.iadd, 1) := dk_96 (dk_at dksX1_roomOf_2 1 rfl rfl)
theorem dX1_roomOf_50 : decode cX1_roomOf 50 = .ok (.istore_n 3, 1) := dk_62 (dk_at dksX1_roomOf_2 2 rfl rfl)
theorem dX1_roomOf_51 : decode cX1_roomOf 51 = .ok (.iinc 4 1, 3) := dk_132 4 1 (dk_at dksX1_roomOf_2 3 rfl rfl)
theorem dX1_roomOf_54 : decode cX1_roomOf 54 = .ok (.goto (-49), 3) := dk_167 255 207 (dk_at dksX1_roomOf_2 6 rfl rfl)
theorem dX1_roomOf_57 : decode cX1_roomOf 57 = .ok (.iload_n 3, 1) := dk_29 (dk_at dksX1_roomOf_2 9 rfl rfl)
theorem dX1_roomOf_58 : decode cX1_roomOf 58 = .ok (.ireturn, 1) := dk_172 (dk_at dksX1_roomOf_2 10 rfl rfl)
abbrev cX1_room : ByteArray := prog_12_method_21_code
def yX1_room : MethodName := ⟨RX1, "room", "(IZ)I"⟩
def dkwX1_room_0 : List UInt8 := [42, 27, 182, 0, 108, 62, 29, 156, 0, 7, 29, 167, 0, 9, 42, 27, 28, 182, 0, 134, 172]
abbrev dktX1_room_0 : List UInt8 := dkwX1_room_0 ++ []
theorem dksX1_room_0 : cX1_room.data.toList.drop 0 = dktX1_room_0 := by decide +kernel
theorem dX1_room_0 : decode cX1_room 0 = .ok (.aload_n 0, 1) := dk_42 (dk_at dksX1_room_0 0 rfl rfl)
theorem dX1_room_1 : decode cX1_room 1 = .ok (.iload_n 1, 1) := dk_27 (dk_at dksX1_room_0 1 rfl rfl)
theorem dX1_room_2 : decode cX1_room 2 = .ok (.invokevirtual 108, 3) := dk_182 0 108 (dk_at dksX1_room_0 2 rfl rfl)
theorem dX1_room_5 : decode cX1_room 5 = .ok (.istore_n 3, 1) := dk_62 (dk_at dksX1_room_0 5 rfl rfl)
theorem dX1_room_6 : decode cX1_room 6 = .ok (.iload_n 3, 1) := dk_29 (dk_at dksX1_room_0 6 rfl rfl)
theorem dX1_room_7 : decode cX1_room 7 = .ok (.ifCond .ge 7, 3) := dk_156 0 7 (dk_at dksX1_room_0 7 rfl rfl)
theorem dX1_room_10 : decode cX1_room 10 = .ok (.iload_n 3, 1) := dk_29 (dk_at dksX1_room_0 10 rfl rfl)
theorem dX1_room_11 : decode cX1_room 11 = .ok (.goto 9, 3) := dk_167 0 9 (dk_at dksX1_room_0 11 rfl rfl)
theorem dX1_room_14 : decode cX1_room 14 = .ok (.aload_n 0, 1) := dk_42 (dk_at dksX1_room_0 14 rfl rfl)
theorem dX1_room_15 : decode cX1_room 15 = .ok (.iload_n 1, 1) := dk_27 (dk_at dksX1_room_0 15 rfl rfl)
theorem dX1_room_16 : decode cX1_room 16 = .ok (.iload_n 2, 1) := dk_28 (dk_at dksX1_room_0 16 rfl rfl)
theorem dX1_room_17 : decode cX1_room 17 = .ok (.invokevirtual 134, 3) := dk_182 0 134 (dk_at dksX1_room_0 17 rfl rfl)
theorem dX1_room_20 : decode cX1_room 20 = .ok (.ireturn, 1) := dk_172 (dk_at dksX1_room_0 20 rfl rfl)
abbrev cX1_allRoom : ByteArray := prog_12_method_20_code
def yX1_allRoom : MethodName := ⟨RX1, "allRoom", "(IZ)I"⟩
def dkwX1_allRoom_8 : List UInt8 := [21, 8, 167, 0, 5, 21, 9, 54, 5, 29, 21, 5, 96, 62, 132, 4, 1, 167, 255, 58, 29, 172]
abbrev dktX1_allRoom_8 : List UInt8 := dkwX1_allRoom_8 ++ []
def dkwX1_allRoom_7 : List UInt8 := [160, 0, 8, 21, 8, 167, 0, 26, 21, 8, 21, 9, 162, 0, 7, 4, 167, 0, 4, 3, 28, 159, 0, 8]
abbrev dktX1_allRoom_7 : List UInt8 := dkwX1_allRoom_7 ++ dktX1_allRoom_8
def dkwX1_allRoom_6 : List UInt8 := [160, 0, 7, 3, 167, 0, 50, 21, 8, 16, 247, 160, 0, 8, 21, 9, 167, 0, 38, 21, 9, 16, 247]
abbrev dktX1_allRoom_6 : List UInt8 := dkwX1_allRoom_6 ++ dktX1_allRoom_7
def dkwX1_allRoom_5 : List UInt8 := [167, 0, 10, 42, 27, 21, 7, 182, 0, 130, 54, 9, 21, 8, 16, 247, 160, 0, 14, 21, 9, 16, 247]
abbrev dktX1_allRoom_5 : List UInt8 := dkwX1_allRoom_5 ++ dktX1_allRoom_6
def dkwX1_allRoom_4 : List UInt8 := [16, 247, 167, 0, 10, 42, 27, 21, 6, 182, 0, 130, 54, 8, 21, 7, 16, 12, 160, 0, 8, 16, 247]
abbrev dktX1_allRoom_4 : List UInt8 := dkwX1_allRoom_4 ++ dktX1_allRoom_5
def dkwX1_allRoom_3 : List UInt8 := [42, 27, 21, 7, 182, 0, 130, 16, 247, 160, 0, 9, 132, 7, 1, 167, 255, 234, 21, 6, 156, 0, 8]
abbrev dktX1_allRoom_3 : List UInt8 := dkwX1_allRoom_3 ++ dktX1_allRoom_4
def dkwX1_allRoom_2 : List UInt8 := [16, 247, 160, 0, 9, 132, 6, 255, 167, 255, 236, 21, 4, 4, 96, 54, 7, 21, 7, 16, 12, 162, 0, 21]
abbrev dktX1_allRoom_2 : List UInt8 := dkwX1_allRoom_2 ++ dktX1_allRoom_3
def dkwX1_allRoom_1 : List UInt8 := [16, 247, 160, 0, 170, 21, 4, 4, 100, 54, 6, 21, 6, 155, 0, 21, 42, 27, 21, 6, 182, 0, 130]
abbrev dktX1_allRoom_1 : List UInt8 := dkwX1_allRoom_1 ++ dktX1_allRoom_2
def dkwX1_allRoom_0 : List UInt8 := [3, 62, 3, 54, 4, 21, 4, 16, 12, 162, 0, 197, 42, 27, 21, 4, 182, 0, 130, 54, 5, 21, 5]
abbrev dktX1_allRoom_0 : List UInt8 := dkwX1_allRoom_0 ++ dktX1_allRoom_1
theorem dksX1_allRoom_0 : cX1_allRoom.data.toList.drop 0 = dktX1_allRoom_0 := by decide +kernel
theorem dksX1_allRoom_1 : cX1_allRoom.data.toList.drop 23 = dktX1_allRoom_1 := dk_seg dksX1_allRoom_0 23 rfl rfl
theorem dksX1_allRoom_2 : cX1_allRoom.data.toList.drop 46 = dktX1_allRoom_2 := dk_seg dksX1_allRoom_1 23 rfl rfl
theorem dksX1_allRoom_3 : cX1_allRoom.data.toList.drop 70 = dktX1_allRoom_3 := dk_seg dksX1_allRoom_2 24 rfl rfl
theorem dksX1_allRoom_4 : cX1_allRoom.data.toList.drop 93 = dktX1_allRoom_4 := dk_seg dksX1_allRoom_3 23 rfl rfl
theorem dksX1_allRoom_5 : cX1_allRoom.data.toList.drop 116 = dktX1_allRoom_5 := dk_seg dksX1_allRoom_4 23 rfl rfl
theorem dksX1_allRoom_6 : cX1_allRoom.data.toList.drop 139 = dktX1_allRoom_6 := dk_seg dksX1_allRoom_5 23 rfl rfl
theorem dksX1_allRoom_7 : cX1_allRoom.data.toList.drop 162 = dktX1_allRoom_7 := dk_seg dksX1_allRoom_6 23 rfl rfl
theorem dksX1_allRoom_8 : cX1_allRoom.data.toList.drop 186 = dktX1_allRoom_8 := dk_seg dksX1_allRoom_7 24 rfl rfl
theorem dX1_allRoom_0 : decode cX1_allRoom 0 = .ok (.iconst 0, 1) := dk_3 (dk_at dksX1_allRoom_0 0 rfl rfl)
theorem dX1_allRoom_1 : decode cX1_allRoom 1 = .ok (.istore_n 3, 1) := dk_62 (dk_at dksX1_allRoom_0 1 rfl rfl)
theorem dX1_allRoom_2 : decode cX1_allRoom 2 = .ok (.iconst 0, 1) := dk_3 (dk_at dksX1_allRoom_0 2 rfl rfl)
theorem dX1_allRoom_3 : decode cX1_allRoom 3 = .ok (.istore 4, 2) := dk_54 4 (dk_at dksX1_allRoom_0 3 rfl rfl)
theorem dX1_allRoom_5 : decode cX1_allRoom 5 = .ok (.iload 4, 2) := dk_21 4 (dk_at dksX1_allRoom_0 5 rfl rfl)
theorem dX1_allRoom_7 : decode cX1_allRoom 7 = .ok (.bipush 12, 2) := dk_16 12 (dk_at dksX1_allRoom_0 7 rfl rfl)
theorem dX1_allRoom_9 : decode cX1_allRoom 9 = .ok (.if_icmp .ge 197, 3) := dk_162 0 197 (dk_at dksX1_allRoom_0 9 rfl rfl)
theorem dX1_allRoom_12 : decode cX1_allRoom 12 = .ok (.aload_n 0, 1) := dk_42 (dk_at dksX1_allRoom_0 12 rfl rfl)
theorem dX1_allRoom_13 : decode cX1_allRoom 13 = .ok (.iload_n 1, 1) := dk_27 (dk_at dksX1_allRoom_0 13 rfl rfl)
theorem dX1_allRoom_14 : decode cX1_allRoom 14 = .ok (.iload 4, 2) := dk_21 4 (dk_at dksX1_allRoom_0 14 rfl rfl)
theorem dX1_allRoom_16 : decode cX1_allRoom 16 = .ok (.invokevirtual 130, 3) := dk_182 0 130 (dk_at dksX1_allRoom_0 16 rfl rfl)
theorem dX1_allRoom_19 : decode cX1_allRoom 19 = .ok (.istore 5, 2) := dk_54 5 (dk_at dksX1_allRoom_0 19 rfl rfl)
theorem dX1_allRoom_21 : decode cX1_allRoom 21 = .ok (.iload 5, 2) := dk_21 5 (dk_at dksX1_allRoom_0 21 rfl rfl)
theorem dX1_allRoom_23 : decode cX1_allRoom 23 = .ok (.bipush (-9), 2) := dk_16 247 (dk_at dksX1_allRoom_1 0 rfl rfl)
theorem dX1_allRoom_25 : decode cX1_allRoom 25 = .ok (.if_icmp .ne 170, 3) := dk_160 0 170 (dk_at dksX1_allRoom_1 2 rfl rfl)
theorem dX1_allRoom_28 : decode cX1_allRoom 28 = .ok (.iload 4, 2) := dk_21 4 (dk_at dksX1_allRoom_1 5 rfl rfl)
theorem dX1_allRoom_30 : decode cX1_allRoom 30 = .ok (.iconst 1, 1) := dk_4 (dk_at dksX1_allRoom_1 7 rfl rfl)
theorem dX1_allRoom_31 : decode cX1_allRoom 31 = .ok (.isub, 1) := dk_100 (dk_at dksX1_allRoom_1 8 rfl rfl)
theorem dX1_allRoom_32 : decode cX1_allRoom 32 = .ok (.istore 6, 2) := dk_54 6 (dk_at dksX1_allRoom_1 9 rfl rfl)
theorem dX1_allRoom_34 : decode cX1_allRoom 34 = .ok (.iload 6, 2) := dk_21 6 (dk_at dksX1_allRoom_1 11 rfl rfl)
theorem dX1_allRoom_36 : decode cX1_allRoom 36 = .ok (.ifCond .lt 21, 3) := dk_155 0 21 (dk_at dksX1_allRoom_1 13 rfl rfl)
theorem dX1_allRoom_39 : decode cX1_allRoom 39 = .ok (.aload_n 0, 1) := dk_42 (dk_at dksX1_allRoom_1 16 rfl rfl)
theorem dX1_allRoom_40 : decode cX1_allRoom 40 = .ok (.iload_n 1, 1) := dk_27 (dk_at dksX1_allRoom_1 17 rfl rfl)
theorem dX1_allRoom_41 : decode cX1_allRoom 41 = .ok (.iload 6, 2) := dk_21 6 (dk_at dksX1_allRoom_1 18 rfl rfl)
theorem dX1_allRoom_43 : decode cX1_allRoom 43 = .ok (.invokevirtual 130, 3) := dk_182 0 130 (dk_at dksX1_allRoom_1 20 rfl rfl)
theorem dX1_allRoom_46 : decode cX1_allRoom 46 = .ok (.bipush (-9), 2) := dk_16 247 (dk_at dksX1_allRoom_2 0 rfl rfl)
theorem dX1_allRoom_48 : decode cX1_allRoom 48 = .ok (.if_icmp .ne 9, 3) := dk_160 0 9 (dk_at dksX1_allRoom_2 2 rfl rfl)
theorem dX1_allRoom_51 : decode cX1_allRoom 51 = .ok (.iinc 6 (-1), 3) := dk_132 6 255 (dk_at dksX1_allRoom_2 5 rfl rfl)
theorem dX1_allRoom_54 : decode cX1_allRoom 54 = .ok (.goto (-20), 3) := dk_167 255 236 (dk_at dksX1_allRoom_2 8 rfl rfl)
theorem dX1_allRoom_57 : decode cX1_allRoom 57 = .ok (.iload 4, 2) := dk_21 4 (dk_at dksX1_allRoom_2 11 rfl rfl)
theorem dX1_allRoom_59 : decode cX1_allRoom 59 = .ok (.iconst 1, 1) := dk_4 (dk_at dksX1_allRoom_2 13 rfl rfl)
theorem dX1_allRoom_60 : decode cX1_allRoom 60 = .ok (.iadd, 1) := dk_96 (dk_at dksX1_allRoom_2 14 rfl rfl)
theorem dX1_allRoom_61 : decode cX1_allRoom 61 = .ok (.istore 7, 2) := dk_54 7 (dk_at dksX1_allRoom_2 15 rfl rfl)
theorem dX1_allRoom_63 : decode cX1_allRoom 63 = .ok (.iload 7, 2) := dk_21 7 (dk_at dksX1_allRoom_2 17 rfl rfl)
theorem dX1_allRoom_65 : decode cX1_allRoom 65 = .ok (.bipush 12, 2) := dk_16 12 (dk_at dksX1_allRoom_2 19 rfl rfl)
theorem dX1_allRoom_67 : decode cX1_allRoom 67 = .ok (.if_icmp .ge 21, 3) := dk_162 0 21 (dk_at dksX1_allRoom_2 21 rfl rfl)
theorem dX1_allRoom_70 : decode cX1_allRoom 70 = .ok (.aload_n 0, 1) := dk_42 (dk_at dksX1_allRoom_3 0 rfl rfl)
theorem dX1_allRoom_71 : decode cX1_allRoom 71 = .ok (.iload_n 1, 1) := dk_27 (dk_at dksX1_allRoom_3 1 rfl rfl)
theorem dX1_allRoom_72 : decode cX1_allRoom 72 = .ok (.iload 7, 2) := dk_21 7 (dk_at dksX1_allRoom_3 2 rfl rfl)
theorem dX1_allRoom_74 : decode cX1_allRoom 74 = .ok (.invokevirtual 130, 3) := dk_182 0 130 (dk_at dksX1_allRoom_3 4 rfl rfl)
theorem dX1_allRoom_77 : decode cX1_allRoom 77 = .ok (.bipush (-9), 2) := dk_16 247 (dk_at dksX1_allRoom_3 7 rfl rfl)
theorem dX1_allRoom_79 : decode cX1_allRoom 79 = .ok (.if_icmp .ne 9, 3) := dk_160 0 9 (dk_at dksX1_allRoom_3 9 rfl rfl)
theorem dX1_allRoom_82 : decode cX1_allRoom 82 = .ok (.iinc 7 1, 3) := dk_132 7 1 (dk_at dksX1_allRoom_3 12 rfl rfl)
theorem dX1_allRoom_85 : decode cX1_allRoom 85 = .ok (.goto (-22), 3) := dk_167 255 234 (dk_at dksX1_allRoom_3 15 rfl rfl)
theorem dX1_allRoom_88 : decode cX1_allRoom 88 = .ok (.iload 6, 2) := dk_21 6 (dk_at dksX1_allRoom_3 18 rfl rfl)
theorem dX1_allRoom_90 : decode cX1_allRoom 90 = .ok (.ifCond .ge 8, 3) := dk_156 0 8 (dk_at dksX1_allRoom_3 20 rfl rfl)
theorem dX1_allRoom_93 : decode cX1_allRoom 93 = .ok (.bipush (-9), 2) := dk_16 247 (dk_at dksX1_allRoom_4 0 rfl rfl)
theorem dX1_allRoom_95 : decode cX1_allRoom 95 = .ok (.goto 10, 3) := dk_167 0 10 (dk_at dksX1_allRoom_4 2 rfl rfl)
theorem dX1_allRoom_98 : decode cX1_allRoom 98 = .ok (.aload_n 0, 1) := dk_42 (dk_at dksX1_allRoom_4 5 rfl rfl)
theorem dX1_allRoom_99 : decode cX1_allRoom 99 = .ok (.iload_n 1, 1) := dk_27 (dk_at dksX1_allRoom_4 6 rfl rfl)
theorem dX1_allRoom_100 : decode cX1_allRoom 100 = .ok (.iload 6, 2) := dk_21 6 (dk_at dksX1_allRoom_4 7 rfl rfl)
theorem dX1_allRoom_102 : decode cX1_allRoom 102 = .ok (.invokevirtual 130, 3) := dk_182 0 130 (dk_at dksX1_allRoom_4 9 rfl rfl)
theorem dX1_allRoom_105 : decode cX1_allRoom 105 = .ok (.istore 8, 2) := dk_54 8 (dk_at dksX1_allRoom_4 12 rfl rfl)
theorem dX1_allRoom_107 : decode cX1_allRoom 107 = .ok (.iload 7, 2) := dk_21 7 (dk_at dksX1_allRoom_4 14 rfl rfl)
theorem dX1_allRoom_109 : decode cX1_allRoom 109 = .ok (.bipush 12, 2) := dk_16 12 (dk_at dksX1_allRoom_4 16 rfl rfl)
theorem dX1_allRoom_111 : decode cX1_allRoom 111 = .ok (.if_icmp .ne 8, 3) := dk_160 0 8 (dk_at dksX1_allRoom_4 18 rfl rfl)
theorem dX1_allRoom_114 : decode cX1_allRoom 114 = .ok (.bipush (-9), 2) := dk_16 247 (dk_at dksX1_allRoom_4 21 rfl rfl)
theorem dX1_allRoom_116 : decode cX1_allRoom 116 = .ok (.goto 10, 3) := dk_167 0 10 (dk_at dksX1_allRoom_5 0 rfl rfl)
theorem dX1_allRoom_119 : decode cX1_allRoom 119 = .ok (.aload_n 0, 1) := dk_42 (dk_at dksX1_allRoom_5 3 rfl rfl)
theorem dX1_allRoom_120 : decode cX1_allRoom 120 = .ok (.iload_n 1, 1) := dk_27 (dk_at dksX1_allRoom_5 4 rfl rfl)
theorem dX1_allRoom_121 : decode cX1_allRoom 121 = .ok (.iload 7, 2) := dk_21 7 (dk_at dksX1_allRoom_5 5 rfl rfl)
theorem dX1_allRoom_123 : decode cX1_allRoom 123 = .ok (.invokevirtual 130, 3) := dk_182 0 130 (dk_at dksX1_allRoom_5 7 rfl rfl)
theorem dX1_allRoom_126 : decode cX1_allRoom 126 = .ok (.istore 9, 2) := dk_54 9 (dk_at dksX1_allRoom_5 10 rfl rfl)
theorem dX1_allRoom_128 : decode cX1_allRoom 128 = .ok (.iload 8, 2) := dk_21 8 (dk_at dksX1_allRoom_5 12 rfl rfl)
theorem dX1_allRoom_130 : decode cX1_allRoom 130 = .ok (.bipush (-9), 2) := dk_16 247 (dk_at dksX1_allRoom_5 14 rfl rfl)
theorem dX1_allRoom_132 : decode cX1_allRoom 132 = .ok (.if_icmp .ne 14, 3) := dk_160 0 14 (dk_at dksX1_allRoom_5 16 rfl rfl)
theorem dX1_allRoom_135 : decode cX1_allRoom 135 = .ok (.iload 9, 2) := dk_21 9 (dk_at dksX1_allRoom_5 19 rfl rfl)
theorem dX1_allRoom_137 : decode cX1_allRoom 137 = .ok (.bipush (-9), 2) := dk_16 247 (dk_at dksX1_allRoom_5 21 rfl rfl)
theorem dX1_allRoom_139 : decode cX1_allRoom 139 = .ok (.if_icmp .ne 7, 3) := dk_160 0 7 (dk_at dksX1_allRoom_6 0 rfl rfl)
theorem dX1_allRoom_142 : decode cX1_allRoom 142 = .ok (.iconst 0, 1) := dk_3 (dk_at dksX1_allRoom_6 3 rfl rfl)
theorem dX1_allRoom_143 : decode cX1_allRoom 143 = .ok (.goto 50, 3) := dk_167 0 50 (dk_at dksX1_allRoom_6 4 rfl rfl)
theorem dX1_allRoom_146 : decode cX1_allRoom 146 = .ok (.iload 8, 2) := dk_21 8 (dk_at dksX1_allRoom_6 7 rfl rfl)
theorem dX1_allRoom_148 : decode cX1_allRoom 148 = .ok (.bipush (-9), 2) := dk_16 247 (dk_at dksX1_allRoom_6 9 rfl rfl)
theorem dX1_allRoom_150 : decode cX1_allRoom 150 = .ok (.if_icmp .ne 8, 3) := dk_160 0 8 (dk_at dksX1_allRoom_6 11 rfl rfl)
theorem dX1_allRoom_153 : decode cX1_allRoom 153 = .ok (.iload 9, 2) := dk_21 9 (dk_at dksX1_allRoom_6 14 rfl rfl)
theorem dX1_allRoom_155 : decode cX1_allRoom 155 = .ok (.goto 38, 3) := dk_167 0 38 (dk_at dksX1_allRoom_6 16 rfl rfl)
theorem dX1_allRoom_158 : decode cX1_allRoom 158 = .ok (.iload 9, 2) := dk_21 9 (dk_at dksX1_allRoom_6 19 rfl rfl)
theorem dX1_allRoom_160 : decode cX1_allRoom 160 = .ok (.bipush (-9), 2) := dk_16 247 (dk_at dksX1_allRoom_6 21 rfl rfl)
theorem dX1_allRoom_162 : decode cX1_allRoom 162 = .ok (.if_icmp .ne 8, 3) := dk_160 0 8 (dk_at dksX1_allRoom_7 0 rfl rfl)
theorem dX1_allRoom_165 : decode cX1_allRoom 165 = .ok (.iload 8, 2) := dk_21 8 (dk_at dksX1_allRoom_7 3 rfl rfl)
theorem dX1_allRoom_167 : decode cX1_allRoom 167 = .ok (.goto 26, 3) := dk_167 0 26 (dk_at dksX1_allRoom_7 5 rfl rfl)
theorem dX1_allRoom_170 : decode cX1_allRoom 170 = .ok (.iload 8, 2) := dk_21 8 (dk_at dksX1_allRoom_7 8 rfl rfl)
theorem dX1_allRoom_172 : decode cX1_allRoom 172 = .ok (.iload 9, 2) := dk_21 9 (dk_at dksX1_allRoom_7 10 rfl rfl)
theorem dX1_allRoom_174 : decode cX1_allRoom 174 = .ok (.if_icmp .ge 7, 3) := dk_162 0 7 (dk_at dksX1_allRoom_7 12 rfl rfl)
theorem dX1_allRoom_177 : decode cX1_allRoom 177 = .ok (.iconst 1, 1) := dk_4 (dk_at dksX1_allRoom_7 15 rfl rfl)
theorem dX1_allRoom_178 : decode cX1_allRoom 178 = .ok (.goto 4, 3) := dk_167 0 4 (dk_at dksX1_allRoom_7 16 rfl rfl)
theorem dX1_allRoom_181 : decode cX1_allRoom 181 = .ok (.iconst 0, 1) := dk_3 (dk_at dksX1_allRoom_7 19 rfl rfl)
theorem dX1_allRoom_182 : decode cX1_allRoom 182 = .ok (.iload_n 2, 1) := dk_28 (dk_at dksX1_allRoom_7 20 rfl rfl)
theorem dX1_allRoom_183 : decode cX1_allRoom 183 = .ok (.if_icmp .eq 8, 3) := dk_159 0 8 (dk_at dksX1_allRoom_7 21 rfl rfl)
theorem dX1_allRoom_186 : decode cX1_allRoom 186 = .ok (.iload 8, 2) := dk_21 8 (dk_at dksX1_allRoom_8 0 rfl rfl)
theorem dX1_allRoom_188 : decode cX1_allRoom 188 = .ok (.goto 5, 3) := dk_167 0 5 (dk_at dksX1_allRoom_8 2 rfl rfl)
theorem dX1_allRoom_191 : decode cX1_allRoom 191 = .ok (.iload 9, 2) := dk_21 9 (dk_at dksX1_allRoom_8 5 rfl rfl)
theorem dX1_allRoom_193 : decode cX1_allRoom 193 = .ok (.istore 5, 2) := dk_54 5 (dk_at dksX1_allRoom_8 7 rfl rfl)
theorem dX1_allRoom_195 : decode cX1_allRoom 195 = .ok (.iload_n 3, 1) := dk_29 (dk_at dksX1_allRoom_8 9 rfl rfl)
theorem dX1_allRoom_196 : decode cX1_allRoom 196 = .ok (.iload 5, 2) := dk_21 5 (dk_at dksX1_allRoom_8 10 rfl rfl)
theorem dX1_allRoom_198 : decode cX1_allRoom 198 = .ok (.iadd, 1) := dk_96 (dk_at dksX1_allRoom_8 12 rfl rfl)
theorem dX1_allRoom_199 : decode cX1_allRoom 199 = .ok (.istore_n 3, 1) := dk_62 (dk_at dksX1_allRoom_8 13 rfl rfl)
theorem dX1_allRoom_200 : decode cX1_allRoom 200 = .ok (.iinc 4 1, 3) := dk_132 4 1 (dk_at dksX1_allRoom_8 14 rfl rfl)
theorem dX1_allRoom_203 : decode cX1_allRoom 203 = .ok (.goto (-198), 3) := dk_167 255 58 (dk_at dksX1_allRoom_8 17 rfl rfl)
theorem dX1_allRoom_206 : decode cX1_allRoom 206 = .ok (.iload_n 3, 1) := dk_29 (dk_at dksX1_allRoom_8 20 rfl rfl)
theorem dX1_allRoom_207 : decode cX1_allRoom 207 = .ok (.ireturn, 1) := dk_172 (dk_at dksX1_allRoom_8 21 rfl rfl)
abbrev cX1_mean : ByteArray := prog_12_method_22_code
def yX1_mean : MethodName := ⟨RX1, "mean", "(I)I"⟩
def dkwX1_mean_4 : List UInt8 := [21, 4, 29, 108, 172]
abbrev dktX1_mean_4 : List UInt8 := dkwX1_mean_4 ++ []
def dkwX1_mean_3 : List UInt8 := [21, 6, 96, 54, 4, 132, 5, 1, 167, 255, 199, 29, 154, 0, 11, 42, 7, 182, 0, 101, 167, 0, 7]
abbrev dktX1_mean_3 : List UInt8 := dkwX1_mean_3 ++ dktX1_mean_4
def dkwX1_mean_2 : List UInt8 := [160, 0, 7, 3, 167, 0, 4, 4, 96, 62, 21, 4, 21, 6, 16, 247, 160, 0, 7, 3, 167, 0, 5]
abbrev dktX1_mean_2 : List UInt8 := dkwX1_mean_2 ++ dktX1_mean_3
def dkwX1_mean_1 : List UInt8 := [162, 0, 56, 42, 180, 0, 17, 16, 96, 27, 104, 21, 5, 96, 46, 54, 6, 29, 21, 6, 16, 247]
abbrev dktX1_mean_1 : List UInt8 := dkwX1_mean_1 ++ dktX1_mean_2
def dkwX1_mean_0 : List UInt8 := [42, 27, 182, 0, 108, 61, 28, 156, 0, 5, 28, 172, 3, 62, 3, 54, 4, 3, 54, 5, 21, 5, 16, 96]
abbrev dktX1_mean_0 : List UInt8 := dkwX1_mean_0 ++ dktX1_mean_1
theorem dksX1_mean_0 : cX1_mean.data.toList.drop 0 = dktX1_mean_0 := by decide +kernel
theorem dksX1_mean_1 : cX1_mean.data.toList.drop 24 = dktX1_mean_1 := dk_seg dksX1_mean_0 24 rfl rfl
theorem dksX1_mean_2 : cX1_mean.data.toList.drop 46 = dktX1_mean_2 := dk_seg dksX1_mean_1 22 rfl rfl
theorem dksX1_mean_3 : cX1_mean.data.toList.drop 69 = dktX1_mean_3 := dk_seg dksX1_mean_2 23 rfl rfl
theorem dksX1_mean_4 : cX1_mean.data.toList.drop 92 = dktX1_mean_4 := dk_seg dksX1_mean_3 23 rfl rfl
theorem dX1_mean_0 : decode cX1_mean 0 = .ok (.aload_n 0, 1) := dk_42 (dk_at dksX1_mean_0 0 rfl rfl)
theorem dX1_mean_1 : decode cX1_mean 1 = .ok (.iload_n 1, 1) := dk_27 (dk_at dksX1_mean_0 1 rfl rfl)
theorem dX1_mean_2 : decode cX1_mean 2 = .ok (.invokevirtual 108, 3) := dk_182 0 108 (dk_at dksX1_mean_0 2 rfl rfl)
theorem dX1_mean_5 : decode cX1_mean 5 = .ok (.istore_n 2, 1) := dk_61 (dk_at dksX1_mean_0 5 rfl rfl)
theorem dX1_mean_6 : decode cX1_mean 6 = .ok (.iload_n 2, 1) := dk_28 (dk_at dksX1_mean_0 6 rfl rfl)
theorem dX1_mean_7 : decode cX1_mean 7 = .ok (.ifCond .ge 5, 3) := dk_156 0 5 (dk_at dksX1_mean_0 7 rfl rfl)
theorem dX1_mean_10 : decode cX1_mean 10 = .ok (.iload_n 2, 1) := dk_28 (dk_at dksX1_mean_0 10 rfl rfl)
theorem dX1_mean_11 : decode cX1_mean 11 = .ok (.ireturn, 1) := dk_172 (dk_at dksX1_mean_0 11 rfl rfl)
theorem dX1_mean_12 : decode cX1_mean 12 = .ok (.iconst 0, 1) := dk_3 (dk_at dksX1_mean_0 12 rfl rfl)
theorem dX1_mean_13 : decode cX1_mean 13 = .ok (.istore_n 3, 1) := dk_62 (dk_at dksX1_mean_0 13 rfl rfl)
theorem dX1_mean_14 : decode cX1_mean 14 = .ok (.iconst 0, 1) := dk_3 (dk_at dksX1_mean_0 14 rfl rfl)
theorem dX1_mean_15 : decode cX1_mean 15 = .ok (.istore 4, 2) := dk_54 4 (dk_at dksX1_mean_0 15 rfl rfl)
theorem dX1_mean_17 : decode cX1_mean 17 = .ok (.iconst 0, 1) := dk_3 (dk_at dksX1_mean_0 17 rfl rfl)
theorem dX1_mean_18 : decode cX1_mean 18 = .ok (.istore 5, 2) := dk_54 5 (dk_at dksX1_mean_0 18 rfl rfl)
theorem dX1_mean_20 : decode cX1_mean 20 = .ok (.iload 5, 2) := dk_21 5 (dk_at dksX1_mean_0 20 rfl rfl)
theorem dX1_mean_22 : decode cX1_mean 22 = .ok (.bipush 96, 2) := dk_16 96 (dk_at dksX1_mean_0 22 rfl rfl)
theorem dX1_mean_24 : decode cX1_mean 24 = .ok (.if_icmp .ge 56, 3) := dk_162 0 56 (dk_at dksX1_mean_1 0 rfl rfl)
theorem dX1_mean_27 : decode cX1_mean 27 = .ok (.aload_n 0, 1) := dk_42 (dk_at dksX1_mean_1 3 rfl rfl)
theorem dX1_mean_28 : decode cX1_mean 28 = .ok (.getfield 17, 3) := dk_180 0 17 (dk_at dksX1_mean_1 4 rfl rfl)
theorem dX1_mean_31 : decode cX1_mean 31 = .ok (.bipush 96, 2) := dk_16 96 (dk_at dksX1_mean_1 7 rfl rfl)
theorem dX1_mean_33 : decode cX1_mean 33 = .ok (.iload_n 1, 1) := dk_27 (dk_at dksX1_mean_1 9 rfl rfl)
theorem dX1_mean_34 : decode cX1_mean 34 = .ok (.imul, 1) := dk_104 (dk_at dksX1_mean_1 10 rfl rfl)
theorem dX1_mean_35 : decode cX1_mean 35 = .ok (.iload 5, 2) := dk_21 5 (dk_at dksX1_mean_1 11 rfl rfl)
theorem dX1_mean_37 : decode cX1_mean 37 = .ok (.iadd, 1) := dk_96 (dk_at dksX1_mean_1 13 rfl rfl)
theorem dX1_mean_38 : decode cX1_mean 38 = .ok (.iaload, 1) := dk_46 (dk_at dksX1_mean_1 14 rfl rfl)
theorem dX1_mean_39 : decode cX1_mean 39 = .ok (.istore 6, 2) := dk_54 6 (dk_at dksX1_mean_1 15 rfl rfl)
theorem dX1_mean_41 : decode cX1_mean 41 = .ok (.iload_n 3, 1) := dk_29 (dk_at dksX1_mean_1 17 rfl rfl)
theorem dX1_mean_42 : decode cX1_mean 42 = .ok (.iload 6, 2) := dk_21 6 (dk_at dksX1_mean_1 18 rfl rfl)
theorem dX1_mean_44 : decode cX1_mean 44 = .ok (.bipush (-9), 2) := dk_16 247 (dk_at dksX1_mean_1 20 rfl rfl)
theorem dX1_mean_46 : decode cX1_mean 46 = .ok (.if_icmp .ne 7, 3) := dk_160 0 7 (dk_at dksX1_mean_2 0 rfl rfl)
theorem dX1_mean_49 : decode cX1_mean 49 = .ok (.iconst 0, 1) := dk_3 (dk_at dksX1_mean_2 3 rfl rfl)
theorem dX1_mean_50 : decode cX1_mean 50 = .ok (.goto 4, 3) := dk_167 0 4 (dk_at dksX1_mean_2 4 rfl rfl)
theorem dX1_mean_53 : decode cX1_mean 53 = .ok (.iconst 1, 1) := dk_4 (dk_at dksX1_mean_2 7 rfl rfl)
theorem dX1_mean_54 : decode cX1_mean 54 = .ok (.iadd, 1) := dk_96 (dk_at dksX1_mean_2 8 rfl rfl)
theorem dX1_mean_55 : decode cX1_mean 55 = .ok (.istore_n 3, 1) := dk_62 (dk_at dksX1_mean_2 9 rfl rfl)
theorem dX1_mean_56 : decode cX1_mean 56 = .ok (.iload 4, 2) := dk_21 4 (dk_at dksX1_mean_2 10 rfl rfl)
theorem dX1_mean_58 : decode cX1_mean 58 = .ok (.iload 6, 2) := dk_21 6 (dk_at dksX1_mean_2 12 rfl rfl)
theorem dX1_mean_60 : decode cX1_mean 60 = .ok (.bipush (-9), 2) := dk_16 247 (dk_at dksX1_mean_2 14 rfl rfl)
theorem dX1_mean_62 : decode cX1_mean 62 = .ok (.if_icmp .ne 7, 3) := dk_160 0 7 (dk_at dksX1_mean_2 16 rfl rfl)
theorem dX1_mean_65 : decode cX1_mean 65 = .ok (.iconst 0, 1) := dk_3 (dk_at dksX1_mean_2 19 rfl rfl)
theorem dX1_mean_66 : decode cX1_mean 66 = .ok (.goto 5, 3) := dk_167 0 5 (dk_at dksX1_mean_2 20 rfl rfl)
theorem dX1_mean_69 : decode cX1_mean 69 = .ok (.iload 6, 2) := dk_21 6 (dk_at dksX1_mean_3 0 rfl rfl)
theorem dX1_mean_71 : decode cX1_mean 71 = .ok (.iadd, 1) := dk_96 (dk_at dksX1_mean_3 2 rfl rfl)
theorem dX1_mean_72 : decode cX1_mean 72 = .ok (.istore 4, 2) := dk_54 4 (dk_at dksX1_mean_3 3 rfl rfl)
theorem dX1_mean_74 : decode cX1_mean 74 = .ok (.iinc 5 1, 3) := dk_132 5 1 (dk_at dksX1_mean_3 5 rfl rfl)
theorem dX1_mean_77 : decode cX1_mean 77 = .ok (.goto (-57), 3) := dk_167 255 199 (dk_at dksX1_mean_3 8 rfl rfl)
theorem dX1_mean_80 : decode cX1_mean 80 = .ok (.iload_n 3, 1) := dk_29 (dk_at dksX1_mean_3 11 rfl rfl)
theorem dX1_mean_81 : decode cX1_mean 81 = .ok (.ifCond .ne 11, 3) := dk_154 0 11 (dk_at dksX1_mean_3 12 rfl rfl)
theorem dX1_mean_84 : decode cX1_mean 84 = .ok (.aload_n 0, 1) := dk_42 (dk_at dksX1_mean_3 15 rfl rfl)
theorem dX1_mean_85 : decode cX1_mean 85 = .ok (.iconst 4, 1) := dk_7 (dk_at dksX1_mean_3 16 rfl rfl)
theorem dX1_mean_86 : decode cX1_mean 86 = .ok (.invokevirtual 101, 3) := dk_182 0 101 (dk_at dksX1_mean_3 17 rfl rfl)
theorem dX1_mean_89 : decode cX1_mean 89 = .ok (.goto 7, 3) := dk_167 0 7 (dk_at dksX1_mean_3 20 rfl rfl)
theorem dX1_mean_92 : decode cX1_mean 92 = .ok (.iload 4, 2) := dk_21 4 (dk_at dksX1_mean_4 0 rfl rfl)
theorem dX1_mean_94 : decode cX1_mean 94 = .ok (.iload_n 3, 1) := dk_29 (dk_at dksX1_mean_4 2 rfl rfl)
theorem dX1_mean_95 : decode cX1_mean 95 = .ok (.idiv, 1) := dk_108 (dk_at dksX1_mean_4 3 rfl rfl)
theorem dX1_mean_96 : decode cX1_mean 96 = .ok (.ireturn, 1) := dk_172 (dk_at dksX1_mean_4 4 rfl rfl)
abbrev cX1_rule : ByteArray := prog_12_method_23_code
def yX1_rule : MethodName := ⟨RX1, "rule", "(IIII)I"⟩
def dkwX1_rule_4 : List UInt8 := [21, 4, 79, 42, 89, 180, 0, 122, 4, 96, 181, 0, 122, 42, 180, 0, 122, 4, 100, 172]
abbrev dktX1_rule_4 : List UInt8 := dkwX1_rule_4 ++ []
def dkwX1_rule_3 : List UInt8 := [180, 0, 122, 28, 79, 42, 180, 0, 29, 42, 180, 0, 122, 29, 79, 42, 180, 0, 32, 42, 180, 0, 122]
abbrev dktX1_rule_3 : List UInt8 := dkwX1_rule_3 ++ dktX1_rule_4
def dkwX1_rule_2 : List UInt8 := [16, 12, 160, 0, 6, 16, 254, 172, 42, 180, 0, 23, 42, 180, 0, 122, 27, 79, 42, 180, 0, 26, 42]
abbrev dktX1_rule_2 : List UInt8 := dkwX1_rule_2 ++ dktX1_rule_3
def dkwX1_rule_1 : List UInt8 := [184, 0, 93, 153, 0, 15, 21, 4, 16, 206, 16, 50, 184, 0, 93, 154, 0, 5, 2, 172, 42, 180, 0, 122]
abbrev dktX1_rule_1 : List UInt8 := dkwX1_rule_1 ++ dktX1_rule_2
def dkwX1_rule_0 : List UInt8 := [27, 184, 0, 105, 153, 0, 36, 28, 27, 16, 11, 184, 0, 93, 153, 0, 26, 29, 4, 17, 0, 255]
abbrev dktX1_rule_0 : List UInt8 := dkwX1_rule_0 ++ dktX1_rule_1
theorem dksX1_rule_0 : cX1_rule.data.toList.drop 0 = dktX1_rule_0 := by decide +kernel
theorem dksX1_rule_1 : cX1_rule.data.toList.drop 22 = dktX1_rule_1 := dk_seg dksX1_rule_0 22 rfl rfl
theorem dksX1_rule_2 : cX1_rule.data.toList.drop 46 = dktX1_rule_2 := dk_seg dksX1_rule_1 24 rfl rfl
theorem dksX1_rule_3 : cX1_rule.data.toList.drop 69 = dktX1_rule_3 := dk_seg dksX1_rule_2 23 rfl rfl
theorem dksX1_rule_4 : cX1_rule.data.toList.drop 92 = dktX1_rule_4 := dk_seg dksX1_rule_3 23 rfl rfl
theorem dX1_rule_0 : decode cX1_rule 0 = .ok (.iload_n 1, 1) := dk_27 (dk_at dksX1_rule_0 0 rfl rfl)
theorem dX1_rule_1 : decode cX1_rule 1 = .ok (.invokestatic 105, 3) := dk_184 0 105 (dk_at dksX1_rule_0 1 rfl rfl)
theorem dX1_rule_4 : decode cX1_rule 4 = .ok (.ifCond .eq 36, 3) := dk_153 0 36 (dk_at dksX1_rule_0 4 rfl rfl)
theorem dX1_rule_7 : decode cX1_rule 7 = .ok (.iload_n 2, 1) := dk_28 (dk_at dksX1_rule_0 7 rfl rfl)
theorem dX1_rule_8 : decode cX1_rule 8 = .ok (.iload_n 1, 1) := dk_27 (dk_at dksX1_rule_0 8 rfl rfl)
theorem dX1_rule_9 : decode cX1_rule 9 = .ok (.bipush 11, 2) := dk_16 11 (dk_at dksX1_rule_0 9 rfl rfl)
theorem dX1_rule_11 : decode cX1_rule 11 = .ok (.invokestatic 93, 3) := dk_184 0 93 (dk_at dksX1_rule_0 11 rfl rfl)
theorem dX1_rule_14 : decode cX1_rule 14 = .ok (.ifCond .eq 26, 3) := dk_153 0 26 (dk_at dksX1_rule_0 14 rfl rfl)
theorem dX1_rule_17 : decode cX1_rule 17 = .ok (.iload_n 3, 1) := dk_29 (dk_at dksX1_rule_0 17 rfl rfl)
theorem dX1_rule_18 : decode cX1_rule 18 = .ok (.iconst 1, 1) := dk_4 (dk_at dksX1_rule_0 18 rfl rfl)
theorem dX1_rule_19 : decode cX1_rule 19 = .ok (.sipush 255, 3) := dk_17 0 255 (dk_at dksX1_rule_0 19 rfl rfl)
theorem dX1_rule_22 : decode cX1_rule 22 = .ok (.invokestatic 93, 3) := dk_184 0 93 (dk_at dksX1_rule_1 0 rfl rfl)
theorem dX1_rule_25 : decode cX1_rule 25 = .ok (.ifCond .eq 15, 3) := dk_153 0 15 (dk_at dksX1_rule_1 3 rfl rfl)
theorem dX1_rule_28 : decode cX1_rule 28 = .ok (.iload 4, 2) := dk_21 4 (dk_at dksX1_rule_1 6 rfl rfl)
theorem dX1_rule_30 : decode cX1_rule 30 = .ok (.bipush (-50), 2) := dk_16 206 (dk_at dksX1_rule_1 8 rfl rfl)
theorem dX1_rule_32 : decode cX1_rule 32 = .ok (.bipush 50, 2) := dk_16 50 (dk_at dksX1_rule_1 10 rfl rfl)
theorem dX1_rule_34 : decode cX1_rule 34 = .ok (.invokestatic 93, 3) := dk_184 0 93 (dk_at dksX1_rule_1 12 rfl rfl)
theorem dX1_rule_37 : decode cX1_rule 37 = .ok (.ifCond .ne 5, 3) := dk_154 0 5 (dk_at dksX1_rule_1 15 rfl rfl)
theorem dX1_rule_40 : decode cX1_rule 40 = .ok (.iconst (-1), 1) := dk_2 (dk_at dksX1_rule_1 18 rfl rfl)
theorem dX1_rule_41 : decode cX1_rule 41 = .ok (.ireturn, 1) := dk_172 (dk_at dksX1_rule_1 19 rfl rfl)
theorem dX1_rule_42 : decode cX1_rule 42 = .ok (.aload_n 0, 1) := dk_42 (dk_at dksX1_rule_1 20 rfl rfl)
theorem dX1_rule_43 : decode cX1_rule 43 = .ok (.getfield 122, 3) := dk_180 0 122 (dk_at dksX1_rule_1 21 rfl rfl)
theorem dX1_rule_46 : decode cX1_rule 46 = .ok (.bipush 12, 2) := dk_16 12 (dk_at dksX1_rule_2 0 rfl rfl)
theorem dX1_rule_48 : decode cX1_rule 48 = .ok (.if_icmp .ne 6, 3) := dk_160 0 6 (dk_at dksX1_rule_2 2 rfl rfl)
theorem dX1_rule_51 : decode cX1_rule 51 = .ok (.bipush (-2), 2) := dk_16 254 (dk_at dksX1_rule_2 5 rfl rfl)
theorem dX1_rule_53 : decode cX1_rule 53 = .ok (.ireturn, 1) := dk_172 (dk_at dksX1_rule_2 7 rfl rfl)
theorem dX1_rule_54 : decode cX1_rule 54 = .ok (.aload_n 0, 1) := dk_42 (dk_at dksX1_rule_2 8 rfl rfl)
theorem dX1_rule_55 : decode cX1_rule 55 = .ok (.getfield 23, 3) := dk_180 0 23 (dk_at dksX1_rule_2 9 rfl rfl)
theorem dX1_rule_58 : decode cX1_rule 58 = .ok (.aload_n 0, 1) := dk_42 (dk_at dksX1_rule_2 12 rfl rfl)
theorem dX1_rule_59 : decode cX1_rule 59 = .ok (.getfield 122, 3) := dk_180 0 122 (dk_at dksX1_rule_2 13 rfl rfl)
theorem dX1_rule_62 : decode cX1_rule 62 = .ok (.iload_n 1, 1) := dk_27 (dk_at dksX1_rule_2 16 rfl rfl)
theorem dX1_rule_63 : decode cX1_rule 63 = .ok (.iastore, 1) := dk_79 (dk_at dksX1_rule_2 17 rfl rfl)
theorem dX1_rule_64 : decode cX1_rule 64 = .ok (.aload_n 0, 1) := dk_42 (dk_at dksX1_rule_2 18 rfl rfl)
theorem dX1_rule_65 : decode cX1_rule 65 = .ok (.getfield 26, 3) := dk_180 0 26 (dk_at dksX1_rule_2 19 rfl rfl)
theorem dX1_rule_68 : decode cX1_rule 68 = .ok (.aload_n 0, 1) := dk_42 (dk_at dksX1_rule_2 22 rfl rfl)
theorem dX1_rule_69 : decode cX1_rule 69 = .ok (.getfield 122, 3) := dk_180 0 122 (dk_at dksX1_rule_3 0 rfl rfl)
theorem dX1_rule_72 : decode cX1_rule 72 = .ok (.iload_n 2, 1) := dk_28 (dk_at dksX1_rule_3 3 rfl rfl)
theorem dX1_rule_73 : decode cX1_rule 73 = .ok (.iastore, 1) := dk_79 (dk_at dksX1_rule_3 4 rfl rfl)
theorem dX1_rule_74 : decode cX1_rule 74 = .ok (.aload_n 0, 1) := dk_42 (dk_at dksX1_rule_3 5 rfl rfl)
theorem dX1_rule_75 : decode cX1_rule 75 = .ok (.getfield 29, 3) := dk_180 0 29 (dk_at dksX1_rule_3 6 rfl rfl)
theorem dX1_rule_78 : decode cX1_rule 78 = .ok (.aload_n 0, 1) := dk_42 (dk_at dksX1_rule_3 9 rfl rfl)
theorem dX1_rule_79 : decode cX1_rule 79 = .ok (.getfield 122, 3) := dk_180 0 122 (dk_at dksX1_rule_3 10 rfl rfl)
theorem dX1_rule_82 : decode cX1_rule 82 = .ok (.iload_n 3, 1) := dk_29 (dk_at dksX1_rule_3 13 rfl rfl)
theorem dX1_rule_83 : decode cX1_rule 83 = .ok (.iastore, 1) := dk_79 (dk_at dksX1_rule_3 14 rfl rfl)
theorem dX1_rule_84 : decode cX1_rule 84 = .ok (.aload_n 0, 1) := dk_42 (dk_at dksX1_rule_3 15 rfl rfl)
theorem dX1_rule_85 : decode cX1_rule 85 = .ok (.getfield 32, 3) := dk_180 0 32 (dk_at dksX1_rule_3 16 rfl rfl)
theorem dX1_rule_88 : decode cX1_rule 88 = .ok (.aload_n 0, 1) := dk_42 (dk_at dksX1_rule_3 19 rfl rfl)
theorem dX1_rule_89 : decode cX1_rule 89 = .ok (.getfield 122, 3) := dk_180 0 122 (dk_at dksX1_rule_3 20 rfl rfl)
theorem dX1_rule_92 : decode cX1_rule 92 = .ok (.iload 4, 2) := dk_21 4 (dk_at dksX1_rule_4 0 rfl rfl)
theorem dX1_rule_94 : decode cX1_rule 94 = .ok (.iastore, 1) := dk_79 (dk_at dksX1_rule_4 2 rfl rfl)
theorem dX1_rule_95 : decode cX1_rule 95 = .ok (.aload_n 0, 1) := dk_42 (dk_at dksX1_rule_4 3 rfl rfl)
theorem dX1_rule_96 : decode cX1_rule 96 = .ok (.dup, 1) := dk_89 (dk_at dksX1_rule_4 4 rfl rfl)
theorem dX1_rule_97 : decode cX1_rule 97 = .ok (.getfield 122, 3) := dk_180 0 122 (dk_at dksX1_rule_4 5 rfl rfl)
theorem dX1_rule_100 : decode cX1_rule 100 = .ok (.iconst 1, 1) := dk_4 (dk_at dksX1_rule_4 8 rfl rfl)
theorem dX1_rule_101 : decode cX1_rule 101 = .ok (.iadd, 1) := dk_96 (dk_at dksX1_rule_4 9 rfl rfl)
theorem dX1_rule_102 : decode cX1_rule 102 = .ok (.putfield 122, 3) := dk_181 0 122 (dk_at dksX1_rule_4 10 rfl rfl)
theorem dX1_rule_105 : decode cX1_rule 105 = .ok (.aload_n 0, 1) := dk_42 (dk_at dksX1_rule_4 13 rfl rfl)
theorem dX1_rule_106 : decode cX1_rule 106 = .ok (.getfield 122, 3) := dk_180 0 122 (dk_at dksX1_rule_4 14 rfl rfl)
theorem dX1_rule_109 : decode cX1_rule 109 = .ok (.iconst 1, 1) := dk_4 (dk_at dksX1_rule_4 17 rfl rfl)
theorem dX1_rule_110 : decode cX1_rule 110 = .ok (.isub, 1) := dk_100 (dk_at dksX1_rule_4 18 rfl rfl)
theorem dX1_rule_111 : decode cX1_rule 111 = .ok (.ireturn, 1) := dk_172 (dk_at dksX1_rule_4 19 rfl rfl)
abbrev cX1_ply : ByteArray := prog_12_method_24_code
def yX1_ply : MethodName := ⟨RX1, "ply", "(I)I"⟩
def dkwX1_ply_2 : List UInt8 := [180, 0, 35, 42, 180, 0, 138, 27, 79, 42, 89, 180, 0, 138, 4, 96, 181, 0, 138, 42, 180, 0, 138, 172]
abbrev dktX1_ply_2 : List UInt8 := dkwX1_ply_2 ++ []
def dkwX1_ply_1 : List UInt8 := [180, 0, 138, 4, 100, 46, 163, 0, 5, 2, 172, 42, 180, 0, 138, 16, 8, 160, 0, 6, 16, 254, 172, 42]
abbrev dktX1_ply_1 : List UInt8 := dkwX1_ply_1 ++ dktX1_ply_2
def dkwX1_ply_0 : List UInt8 := [27, 4, 17, 3, 232, 184, 0, 93, 153, 0, 25, 42, 180, 0, 138, 158, 0, 20, 27, 42, 180, 0, 35, 42]
abbrev dktX1_ply_0 : List UInt8 := dkwX1_ply_0 ++ dktX1_ply_1
theorem dksX1_ply_0 : cX1_ply.data.toList.drop 0 = dktX1_ply_0 := by decide +kernel
theorem dksX1_ply_1 : cX1_ply.data.toList.drop 24 = dktX1_ply_1 := dk_seg dksX1_ply_0 24 rfl rfl
theorem dksX1_ply_2 : cX1_ply.data.toList.drop 48 = dktX1_ply_2 := dk_seg dksX1_ply_1 24 rfl rfl
theorem dX1_ply_0 : decode cX1_ply 0 = .ok (.iload_n 1, 1) := dk_27 (dk_at dksX1_ply_0 0 rfl rfl)
theorem dX1_ply_1 : decode cX1_ply 1 = .ok (.iconst 1, 1) := dk_4 (dk_at dksX1_ply_0 1 rfl rfl)
theorem dX1_ply_2 : decode cX1_ply 2 = .ok (.sipush 1000, 3) := dk_17 3 232 (dk_at dksX1_ply_0 2 rfl rfl)
theorem dX1_ply_5 : decode cX1_ply 5 = .ok (.invokestatic 93, 3) := dk_184 0 93 (dk_at dksX1_ply_0 5 rfl rfl)
theorem dX1_ply_8 : decode cX1_ply 8 = .ok (.ifCond .eq 25, 3) := dk_153 0 25 (dk_at dksX1_ply_0 8 rfl rfl)
theorem dX1_ply_11 : decode cX1_ply 11 = .ok (.aload_n 0, 1) := dk_42 (dk_at dksX1_ply_0 11 rfl rfl)
theorem dX1_ply_12 : decode cX1_ply 12 = .ok (.getfield 138, 3) := dk_180 0 138 (dk_at dksX1_ply_0 12 rfl rfl)
theorem dX1_ply_15 : decode cX1_ply 15 = .ok (.ifCond .le 20, 3) := dk_158 0 20 (dk_at dksX1_ply_0 15 rfl rfl)
theorem dX1_ply_18 : decode cX1_ply 18 = .ok (.iload_n 1, 1) := dk_27 (dk_at dksX1_ply_0 18 rfl rfl)
theorem dX1_ply_19 : decode cX1_ply 19 = .ok (.aload_n 0, 1) := dk_42 (dk_at dksX1_ply_0 19 rfl rfl)
theorem dX1_ply_20 : decode cX1_ply 20 = .ok (.getfield 35, 3) := dk_180 0 35 (dk_at dksX1_ply_0 20 rfl rfl)
theorem dX1_ply_23 : decode cX1_ply 23 = .ok (.aload_n 0, 1) := dk_42 (dk_at dksX1_ply_0 23 rfl rfl)
theorem dX1_ply_24 : decode cX1_ply 24 = .ok (.getfield 138, 3) := dk_180 0 138 (dk_at dksX1_ply_1 0 rfl rfl)
theorem dX1_ply_27 : decode cX1_ply 27 = .ok (.iconst 1, 1) := dk_4 (dk_at dksX1_ply_1 3 rfl rfl)
theorem dX1_ply_28 : decode cX1_ply 28 = .ok (.isub, 1) := dk_100 (dk_at dksX1_ply_1 4 rfl rfl)
theorem dX1_ply_29 : decode cX1_ply 29 = .ok (.iaload, 1) := dk_46 (dk_at dksX1_ply_1 5 rfl rfl)
theorem dX1_ply_30 : decode cX1_ply 30 = .ok (.if_icmp .gt 5, 3) := dk_163 0 5 (dk_at dksX1_ply_1 6 rfl rfl)
theorem dX1_ply_33 : decode cX1_ply 33 = .ok (.iconst (-1), 1) := dk_2 (dk_at dksX1_ply_1 9 rfl rfl)
theorem dX1_ply_34 : decode cX1_ply 34 = .ok (.ireturn, 1) := dk_172 (dk_at dksX1_ply_1 10 rfl rfl)
theorem dX1_ply_35 : decode cX1_ply 35 = .ok (.aload_n 0, 1) := dk_42 (dk_at dksX1_ply_1 11 rfl rfl)
theorem dX1_ply_36 : decode cX1_ply 36 = .ok (.getfield 138, 3) := dk_180 0 138 (dk_at dksX1_ply_1 12 rfl rfl)
theorem dX1_ply_39 : decode cX1_ply 39 = .ok (.bipush 8, 2) := dk_16 8 (dk_at dksX1_ply_1 15 rfl rfl)
theorem dX1_ply_41 : decode cX1_ply 41 = .ok (.if_icmp .ne 6, 3) := dk_160 0 6 (dk_at dksX1_ply_1 17 rfl rfl)
theorem dX1_ply_44 : decode cX1_ply 44 = .ok (.bipush (-2), 2) := dk_16 254 (dk_at dksX1_ply_1 20 rfl rfl)
theorem dX1_ply_46 : decode cX1_ply 46 = .ok (.ireturn, 1) := dk_172 (dk_at dksX1_ply_1 22 rfl rfl)
theorem dX1_ply_47 : decode cX1_ply 47 = .ok (.aload_n 0, 1) := dk_42 (dk_at dksX1_ply_1 23 rfl rfl)
theorem dX1_ply_48 : decode cX1_ply 48 = .ok (.getfield 35, 3) := dk_180 0 35 (dk_at dksX1_ply_2 0 rfl rfl)
theorem dX1_ply_51 : decode cX1_ply 51 = .ok (.aload_n 0, 1) := dk_42 (dk_at dksX1_ply_2 3 rfl rfl)
theorem dX1_ply_52 : decode cX1_ply 52 = .ok (.getfield 138, 3) := dk_180 0 138 (dk_at dksX1_ply_2 4 rfl rfl)
theorem dX1_ply_55 : decode cX1_ply 55 = .ok (.iload_n 1, 1) := dk_27 (dk_at dksX1_ply_2 7 rfl rfl)
theorem dX1_ply_56 : decode cX1_ply 56 = .ok (.iastore, 1) := dk_79 (dk_at dksX1_ply_2 8 rfl rfl)
theorem dX1_ply_57 : decode cX1_ply 57 = .ok (.aload_n 0, 1) := dk_42 (dk_at dksX1_ply_2 9 rfl rfl)
theorem dX1_ply_58 : decode cX1_ply 58 = .ok (.dup, 1) := dk_89 (dk_at dksX1_ply_2 10 rfl rfl)
theorem dX1_ply_59 : decode cX1_ply 59 = .ok (.getfield 138, 3) := dk_180 0 138 (dk_at dksX1_ply_2 11 rfl rfl)
theorem dX1_ply_62 : decode cX1_ply 62 = .ok (.iconst 1, 1) := dk_4 (dk_at dksX1_ply_2 14 rfl rfl)
theorem dX1_ply_63 : decode cX1_ply 63 = .ok (.iadd, 1) := dk_96 (dk_at dksX1_ply_2 15 rfl rfl)
theorem dX1_ply_64 : decode cX1_ply 64 = .ok (.putfield 138, 3) := dk_181 0 138 (dk_at dksX1_ply_2 16 rfl rfl)
theorem dX1_ply_67 : decode cX1_ply 67 = .ok (.aload_n 0, 1) := dk_42 (dk_at dksX1_ply_2 19 rfl rfl)
theorem dX1_ply_68 : decode cX1_ply 68 = .ok (.getfield 138, 3) := dk_180 0 138 (dk_at dksX1_ply_2 20 rfl rfl)
theorem dX1_ply_71 : decode cX1_ply 71 = .ok (.ireturn, 1) := dk_172 (dk_at dksX1_ply_2 23 rfl rfl)
abbrev cX1_plies : ByteArray := prog_12_method_25_code
def yX1_plies : MethodName := ⟨RX1, "plies", "(II)I"⟩
def dkwX1_plies_5 : List UInt8 := [167, 255, 220, 21, 6, 172]
abbrev dktX1_plies_5 : List UInt8 := dkwX1_plies_5 ++ []
def dkwX1_plies_4 : List UInt8 := [180, 0, 35, 21, 7, 46, 133, 22, 4, 148, 157, 0, 7, 4, 167, 0, 4, 3, 96, 54, 6, 132, 7, 1]
abbrev dktX1_plies_4 : List UInt8 := dkwX1_plies_4 ++ dktX1_plies_5
def dkwX1_plies_3 : List UInt8 := [29, 133, 109, 55, 4, 3, 54, 6, 3, 54, 7, 21, 7, 42, 180, 0, 138, 162, 0, 33, 21, 6, 42]
abbrev dktX1_plies_3 : List UInt8 := dkwX1_plies_3 ++ dktX1_plies_4
def dkwX1_plies_2 : List UInt8 := [62, 29, 154, 0, 9, 42, 7, 182, 0, 101, 172, 20, 0, 141, 29, 42, 28, 3, 182, 0, 134, 100, 133, 105]
abbrev dktX1_plies_2 : List UInt8 := dkwX1_plies_2 ++ dktX1_plies_3
def dkwX1_plies_1 : List UInt8 := [153, 0, 12, 42, 180, 0, 13, 28, 51, 154, 0, 9, 42, 4, 182, 0, 101, 172, 42, 27, 3, 182, 0, 134]
abbrev dktX1_plies_1 : List UInt8 := dkwX1_plies_1 ++ dktX1_plies_2
def dkwX1_plies_0 : List UInt8 := [27, 184, 0, 97, 153, 0, 10, 28, 184, 0, 97, 154, 0, 5, 2, 172, 42, 180, 0, 13, 27, 51]
abbrev dktX1_plies_0 : List UInt8 := dkwX1_plies_0 ++ dktX1_plies_1
theorem dksX1_plies_0 : cX1_plies.data.toList.drop 0 = dktX1_plies_0 := by decide +kernel
theorem dksX1_plies_1 : cX1_plies.data.toList.drop 22 = dktX1_plies_1 := dk_seg dksX1_plies_0 22 rfl rfl
theorem dksX1_plies_2 : cX1_plies.data.toList.drop 46 = dktX1_plies_2 := dk_seg dksX1_plies_1 24 rfl rfl
theorem dksX1_plies_3 : cX1_plies.data.toList.drop 70 = dktX1_plies_3 := dk_seg dksX1_plies_2 24 rfl rfl
theorem dksX1_plies_4 : cX1_plies.data.toList.drop 93 = dktX1_plies_4 := dk_seg dksX1_plies_3 23 rfl rfl
theorem dksX1_plies_5 : cX1_plies.data.toList.drop 117 = dktX1_plies_5 := dk_seg dksX1_plies_4 24 rfl rfl
theorem dX1_plies_0 : decode cX1_plies 0 = .ok (.iload_n 1, 1) := dk_27 (dk_at dksX1_plies_0 0 rfl rfl)
theorem dX1_plies_1 : decode cX1_plies 1 = .ok (.invokestatic 97, 3) := dk_184 0 97 (dk_at dksX1_plies_0 1 rfl rfl)
theorem dX1_plies_4 : decode cX1_plies 4 = .ok (.ifCond .eq 10, 3) := dk_153 0 10 (dk_at dksX1_plies_0 4 rfl rfl)
theorem dX1_plies_7 : decode cX1_plies 7 = .ok (.iload_n 2, 1) := dk_28 (dk_at dksX1_plies_0 7 rfl rfl)
theorem dX1_plies_8 : decode cX1_plies 8 = .ok (.invokestatic 97, 3) := dk_184 0 97 (dk_at dksX1_plies_0 8 rfl rfl)
theorem dX1_plies_11 : decode cX1_plies 11 = .ok (.ifCond .ne 5, 3) := dk_154 0 5 (dk_at dksX1_plies_0 11 rfl rfl)
theorem dX1_plies_14 : decode cX1_plies 14 = .ok (.iconst (-1), 1) := dk_2 (dk_at dksX1_plies_0 14 rfl rfl)
theorem dX1_plies_15 : decode cX1_plies 15 = .ok (.ireturn, 1) := dk_172 (dk_at dksX1_plies_0 15 rfl rfl)
theorem dX1_plies_16 : decode cX1_plies 16 = .ok (.aload_n 0, 1) := dk_42 (dk_at dksX1_plies_0 16 rfl rfl)
theorem dX1_plies_17 : decode cX1_plies 17 = .ok (.getfield 13, 3) := dk_180 0 13 (dk_at dksX1_plies_0 17 rfl rfl)
theorem dX1_plies_20 : decode cX1_plies 20 = .ok (.iload_n 1, 1) := dk_27 (dk_at dksX1_plies_0 20 rfl rfl)
theorem dX1_plies_21 : decode cX1_plies 21 = .ok (.baload, 1) := dk_51 (dk_at dksX1_plies_0 21 rfl rfl)
theorem dX1_plies_22 : decode cX1_plies 22 = .ok (.ifCond .eq 12, 3) := dk_153 0 12 (dk_at dksX1_plies_1 0 rfl rfl)
theorem dX1_plies_25 : decode cX1_plies 25 = .ok (.aload_n 0, 1) := dk_42 (dk_at dksX1_plies_1 3 rfl rfl)
theorem dX1_plies_26 : decode cX1_plies 26 = .ok (.getfield 13, 3) := dk_180 0 13 (dk_at dksX1_plies_1 4 rfl rfl)
theorem dX1_plies_29 : decode cX1_plies 29 = .ok (.iload_n 2, 1) := dk_28 (dk_at dksX1_plies_1 7 rfl rfl)
theorem dX1_plies_30 : decode cX1_plies 30 = .ok (.baload, 1) := dk_51 (dk_at dksX1_plies_1 8 rfl rfl)
theorem dX1_plies_31 : decode cX1_plies 31 = .ok (.ifCond .ne 9, 3) := dk_154 0 9 (dk_at dksX1_plies_1 9 rfl rfl)
theorem dX1_plies_34 : decode cX1_plies 34 = .ok (.aload_n 0, 1) := dk_42 (dk_at dksX1_plies_1 12 rfl rfl)
theorem dX1_plies_35 : decode cX1_plies 35 = .ok (.iconst 1, 1) := dk_4 (dk_at dksX1_plies_1 13 rfl rfl)
theorem dX1_plies_36 : decode cX1_plies 36 = .ok (.invokevirtual 101, 3) := dk_182 0 101 (dk_at dksX1_plies_1 14 rfl rfl)
theorem dX1_plies_39 : decode cX1_plies 39 = .ok (.ireturn, 1) := dk_172 (dk_at dksX1_plies_1 17 rfl rfl)
theorem dX1_plies_40 : decode cX1_plies 40 = .ok (.aload_n 0, 1) := dk_42 (dk_at dksX1_plies_1 18 rfl rfl)
theorem dX1_plies_41 : decode cX1_plies 41 = .ok (.iload_n 1, 1) := dk_27 (dk_at dksX1_plies_1 19 rfl rfl)
theorem dX1_plies_42 : decode cX1_plies 42 = .ok (.iconst 0, 1) := dk_3 (dk_at dksX1_plies_1 20 rfl rfl)
theorem dX1_plies_43 : decode cX1_plies 43 = .ok (.invokevirtual 134, 3) := dk_182 0 134 (dk_at dksX1_plies_1 21 rfl rfl)
theorem dX1_plies_46 : decode cX1_plies 46 = .ok (.istore_n 3, 1) := dk_62 (dk_at dksX1_plies_2 0 rfl rfl)
theorem dX1_plies_47 : decode cX1_plies 47 = .ok (.iload_n 3, 1) := dk_29 (dk_at dksX1_plies_2 1 rfl rfl)
theorem dX1_plies_48 : decode cX1_plies 48 = .ok (.ifCond .ne 9, 3) := dk_154 0 9 (dk_at dksX1_plies_2 2 rfl rfl)
theorem dX1_plies_51 : decode cX1_plies 51 = .ok (.aload_n 0, 1) := dk_42 (dk_at dksX1_plies_2 5 rfl rfl)
theorem dX1_plies_52 : decode cX1_plies 52 = .ok (.iconst 4, 1) := dk_7 (dk_at dksX1_plies_2 6 rfl rfl)
theorem dX1_plies_53 : decode cX1_plies 53 = .ok (.invokevirtual 101, 3) := dk_182 0 101 (dk_at dksX1_plies_2 7 rfl rfl)
theorem dX1_plies_56 : decode cX1_plies 56 = .ok (.ireturn, 1) := dk_172 (dk_at dksX1_plies_2 10 rfl rfl)
theorem dX1_plies_57 : decode cX1_plies 57 = .ok (.ldc2_w 141, 3) := dk_20 0 141 (dk_at dksX1_plies_2 11 rfl rfl)
theorem dX1_plies_60 : decode cX1_plies 60 = .ok (.iload_n 3, 1) := dk_29 (dk_at dksX1_plies_2 14 rfl rfl)
theorem dX1_plies_61 : decode cX1_plies 61 = .ok (.aload_n 0, 1) := dk_42 (dk_at dksX1_plies_2 15 rfl rfl)
theorem dX1_plies_62 : decode cX1_plies 62 = .ok (.iload_n 2, 1) := dk_28 (dk_at dksX1_plies_2 16 rfl rfl)
theorem dX1_plies_63 : decode cX1_plies 63 = .ok (.iconst 0, 1) := dk_3 (dk_at dksX1_plies_2 17 rfl rfl)
theorem dX1_plies_64 : decode cX1_plies 64 = .ok (.invokevirtual 134, 3) := dk_182 0 134 (dk_at dksX1_plies_2 18 rfl rfl)
theorem dX1_plies_67 : decode cX1_plies 67 = .ok (.isub, 1) := dk_100 (dk_at dksX1_plies_2 21 rfl rfl)
theorem dX1_plies_68 : decode cX1_plies 68 = .ok (.i2l, 1) := dk_133 (dk_at dksX1_plies_2 22 rfl rfl)
theorem dX1_plies_69 : decode cX1_plies 69 = .ok (.lmul, 1) := dk_105 (dk_at dksX1_plies_2 23 rfl rfl)
theorem dX1_plies_70 : decode cX1_plies 70 = .ok (.iload_n 3, 1) := dk_29 (dk_at dksX1_plies_3 0 rfl rfl)
theorem dX1_plies_71 : decode cX1_plies 71 = .ok (.i2l, 1) := dk_133 (dk_at dksX1_plies_3 1 rfl rfl)
theorem dX1_plies_72 : decode cX1_plies 72 = .ok (.ldiv, 1) := dk_109 (dk_at dksX1_plies_3 2 rfl rfl)
theorem dX1_plies_73 : decode cX1_plies 73 = .ok (.lstore 4, 2) := dk_55 4 (dk_at dksX1_plies_3 3 rfl rfl)
theorem dX1_plies_75 : decode cX1_plies 75 = .ok (.iconst 0, 1) := dk_3 (dk_at dksX1_plies_3 5 rfl rfl)
theorem dX1_plies_76 : decode cX1_plies 76 = .ok (.istore 6, 2) := dk_54 6 (dk_at dksX1_plies_3 6 rfl rfl)
theorem dX1_plies_78 : decode cX1_plies 78 = .ok (.iconst 0, 1) := dk_3 (dk_at dksX1_plies_3 8 rfl rfl)
theorem dX1_plies_79 : decode cX1_plies 79 = .ok (.istore 7, 2) := dk_54 7 (dk_at dksX1_plies_3 9 rfl rfl)
theorem dX1_plies_81 : decode cX1_plies 81 = .ok (.iload 7, 2) := dk_21 7 (dk_at dksX1_plies_3 11 rfl rfl)
theorem dX1_plies_83 : decode cX1_plies 83 = .ok (.aload_n 0, 1) := dk_42 (dk_at dksX1_plies_3 13 rfl rfl)
theorem dX1_plies_84 : decode cX1_plies 84 = .ok (.getfield 138, 3) := dk_180 0 138 (dk_at dksX1_plies_3 14 rfl rfl)
theorem dX1_plies_87 : decode cX1_plies 87 = .ok (.if_icmp .ge 33, 3) := dk_162 0 33 (dk_at dksX1_plies_3 17 rfl rfl)
theorem dX1_plies_90 : decode cX1_plies 90 = .ok (.iload 6, 2) := dk_21 6 (dk_at dksX1_plies_3 20 rfl rfl)
theorem dX1_plies_92 : decode cX1_plies 92 = .ok (.aload_n 0, 1) := dk_42 (dk_at dksX1_plies_3 22 rfl rfl)
theorem dX1_plies_93 : decode cX1_plies 93 = .ok (.getfield 35, 3) := dk_180 0 35 (dk_at dksX1_plies_4 0 rfl rfl)
theorem dX1_plies_96 : decode cX1_plies 96 = .ok (.iload 7, 2) := dk_21 7 (dk_at dksX1_plies_4 3 rfl rfl)
theorem dX1_plies_98 : decode cX1_plies 98 = .ok (.iaload, 1) := dk_46 (dk_at dksX1_plies_4 5 rfl rfl)
theorem dX1_plies_99 : decode cX1_plies 99 = .ok (.i2l, 1) := dk_133 (dk_at dksX1_plies_4 6 rfl rfl)
theorem dX1_plies_100 : decode cX1_plies 100 = .ok (.lload 4, 2) := dk_22 4 (dk_at dksX1_plies_4 7 rfl rfl)
theorem dX1_plies_102 : decode cX1_plies 102 = .ok (.lcmp, 1) := dk_148 (dk_at dksX1_plies_4 9 rfl rfl)
theorem dX1_plies_103 : decode cX1_plies 103 = .ok (.ifCond .gt 7, 3) := dk_157 0 7 (dk_at dksX1_plies_4 10 rfl rfl)
theorem dX1_plies_106 : decode cX1_plies 106 = .ok (.iconst 1, 1) := dk_4 (dk_at dksX1_plies_4 13 rfl rfl)
theorem dX1_plies_107 : decode cX1_plies 107 = .ok (.goto 4, 3) := dk_167 0 4 (dk_at dksX1_plies_4 14 rfl rfl)
theorem dX1_plies_110 : decode cX1_plies 110 = .ok (.iconst 0, 1) := dk_3 (dk_at dksX1_plies_4 17 rfl rfl)
theorem dX1_plies_111 : decode cX1_plies 111 = .ok (.iadd, 1) := dk_96 (dk_at dksX1_plies_4 18 rfl rfl)
theorem dX1_plies_112 : decode cX1_plies 112 = .ok (.istore 6, 2) := dk_54 6 (dk_at dksX1_plies_4 19 rfl rfl)
theorem dX1_plies_114 : decode cX1_plies 114 = .ok (.iinc 7 1, 3) := dk_132 7 1 (dk_at dksX1_plies_4 21 rfl rfl)
theorem dX1_plies_117 : decode cX1_plies 117 = .ok (.goto (-36), 3) := dk_167 255 220 (dk_at dksX1_plies_5 0 rfl rfl)
theorem dX1_plies_120 : decode cX1_plies 120 = .ok (.iload 6, 2) := dk_21 6 (dk_at dksX1_plies_5 3 rfl rfl)
theorem dX1_plies_122 : decode cX1_plies 122 = .ok (.ireturn, 1) := dk_172 (dk_at dksX1_plies_5 5 rfl rfl)
abbrev cX1_part : ByteArray := prog_12_method_26_code
def yX1_part : MethodName := ⟨RX1, "part", "(IIIIIII)I"⟩
def dkwX1_part_8 : List UInt8 := [180, 0, 143, 4, 96, 181, 0, 143, 42, 180, 0, 143, 4, 100, 172]
abbrev dktX1_part_8 : List UInt8 := dkwX1_part_8 ++ []
def dkwX1_part_7 : List UInt8 := [79, 42, 180, 0, 56, 42, 180, 0, 143, 27, 7, 160, 0, 8, 21, 7, 167, 0, 4, 3, 79, 42, 89]
abbrev dktX1_part_7 : List UInt8 := dkwX1_part_7 ++ dktX1_part_8
def dkwX1_part_6 : List UInt8 := [21, 4, 79, 42, 180, 0, 50, 42, 180, 0, 143, 21, 5, 79, 42, 180, 0, 53, 42, 180, 0, 143, 21, 6]
abbrev dktX1_part_6 : List UInt8 := dkwX1_part_6 ++ dktX1_part_7
def dkwX1_part_5 : List UInt8 := [180, 0, 143, 28, 79, 42, 180, 0, 44, 42, 180, 0, 143, 29, 79, 42, 180, 0, 47, 42, 180, 0, 143]
abbrev dktX1_part_5 : List UInt8 := dkwX1_part_5 ++ dktX1_part_6
def dkwX1_part_4 : List UInt8 := [16, 16, 160, 0, 6, 16, 254, 172, 42, 180, 0, 38, 42, 180, 0, 143, 27, 79, 42, 180, 0, 41, 42]
abbrev dktX1_part_4 : List UInt8 := dkwX1_part_4 ++ dktX1_part_5
def dkwX1_part_3 : List UInt8 := [21, 7, 3, 17, 1, 44, 184, 0, 93, 153, 0, 9, 21, 7, 28, 161, 0, 5, 2, 172, 42, 180, 0, 143]
abbrev dktX1_part_3 : List UInt8 := dkwX1_part_3 ++ dktX1_part_4
def dkwX1_part_2 : List UInt8 := [16, 7, 184, 0, 93, 153, 0, 37, 21, 6, 3, 16, 7, 184, 0, 93, 153, 0, 26, 27, 7, 160, 0, 23]
abbrev dktX1_part_2 : List UInt8 := dkwX1_part_2 ++ dktX1_part_3
def dkwX1_part_1 : List UInt8 := [17, 1, 44, 184, 0, 93, 153, 0, 60, 21, 4, 3, 17, 39, 16, 184, 0, 93, 153, 0, 48, 21, 5, 3]
abbrev dktX1_part_1 : List UInt8 := dkwX1_part_1 ++ dktX1_part_2
def dkwX1_part_0 : List UInt8 := [27, 3, 7, 184, 0, 93, 153, 0, 82, 28, 4, 17, 1, 244, 184, 0, 93, 153, 0, 71, 29, 4]
abbrev dktX1_part_0 : List UInt8 := dkwX1_part_0 ++ dktX1_part_1
theorem dksX1_part_0 : cX1_part.data.toList.drop 0 = dktX1_part_0 := by decide +kernel
theorem dksX1_part_1 : cX1_part.data.toList.drop 22 = dktX1_part_1 := dk_seg dksX1_part_0 22 rfl rfl
theorem dksX1_part_2 : cX1_part.data.toList.drop 46 = dktX1_part_2 := dk_seg dksX1_part_1 24 rfl rfl
theorem dksX1_part_3 : cX1_part.data.toList.drop 70 = dktX1_part_3 := dk_seg dksX1_part_2 24 rfl rfl
theorem dksX1_part_4 : cX1_part.data.toList.drop 94 = dktX1_part_4 := dk_seg dksX1_part_3 24 rfl rfl
theorem dksX1_part_5 : cX1_part.data.toList.drop 117 = dktX1_part_5 := dk_seg dksX1_part_4 23 rfl rfl
theorem dksX1_part_6 : cX1_part.data.toList.drop 140 = dktX1_part_6 := dk_seg dksX1_part_5 23 rfl rfl
theorem dksX1_part_7 : cX1_part.data.toList.drop 164 = dktX1_part_7 := dk_seg dksX1_part_6 24 rfl rfl
theorem dksX1_part_8 : cX1_part.data.toList.drop 187 = dktX1_part_8 := dk_seg dksX1_part_7 23 rfl rfl
theorem dX1_part_0 : decode cX1_part 0 = .ok (.iload_n 1, 1) := dk_27 (dk_at dksX1_part_0 0 rfl rfl)
theorem dX1_part_1 : decode cX1_part 1 = .ok (.iconst 0, 1) := dk_3 (dk_at dksX1_part_0 1 rfl rfl)
theorem dX1_part_2 : decode cX1_part 2 = .ok (.iconst 4, 1) := dk_7 (dk_at dksX1_part_0 2 rfl rfl)
theorem dX1_part_3 : decode cX1_part 3 = .ok (.invokestatic 93, 3) := dk_184 0 93 (dk_at dksX1_part_0 3 rfl rfl)
theorem dX1_part_6 : decode cX1_part 6 = .ok (.ifCond .eq 82, 3) := dk_153 0 82 (dk_at dksX1_part_0 6 rfl rfl)
theorem dX1_part_9 : decode cX1_part 9 = .ok (.iload_n 2, 1) := dk_28 (dk_at dksX1_part_0 9 rfl rfl)
theorem dX1_part_10 : decode cX1_part 10 = .ok (.iconst 1, 1) := dk_4 (dk_at dksX1_part_0 10 rfl rfl)
theorem dX1_part_11 : decode cX1_part 11 = .ok (.sipush 500, 3) := dk_17 1 244 (dk_at dksX1_part_0 11 rfl rfl)
theorem dX1_part_14 : decode cX1_part 14 = .ok (.invokestatic 93, 3) := dk_184 0 93 (dk_at dksX1_part_0 14 rfl rfl)
theorem dX1_part_17 : decode cX1_part 17 = .ok (.ifCond .eq 71, 3) := dk_153 0 71 (dk_at dksX1_part_0 17 rfl rfl)
theorem dX1_part_20 : decode cX1_part 20 = .ok (.iload_n 3, 1) := dk_29 (dk_at dksX1_part_0 20 rfl rfl)
theorem dX1_part_21 : decode cX1_part 21 = .ok (.iconst 1, 1) := dk_4 (dk_at dksX1_part_0 21 rfl rfl)
theorem dX1_part_22 : decode cX1_part 22 = .ok (.sipush 300, 3) := dk_17 1 44 (dk_at dksX1_part_1 0 rfl rfl)
theorem dX1_part_25 : decode cX1_part 25 = .ok (.invokestatic 93, 3) := dk_184 0 93 (dk_at dksX1_part_1 3 rfl rfl)
theorem dX1_part_28 : decode cX1_part 28 = .ok (.ifCond .eq 60, 3) := dk_153 0 60 (dk_at dksX1_part_1 6 rfl rfl)
theorem dX1_part_31 : decode cX1_part 31 = .ok (.iload 4, 2) := dk_21 4 (dk_at dksX1_part_1 9 rfl rfl)
theorem dX1_part_33 : decode cX1_part 33 = .ok (.iconst 0, 1) := dk_3 (dk_at dksX1_part_1 11 rfl rfl)
theorem dX1_part_34 : decode cX1_part 34 = .ok (.sipush 10000, 3) := dk_17 39 16 (dk_at dksX1_part_1 12 rfl rfl)
theorem dX1_part_37 : decode cX1_part 37 = .ok (.invokestatic 93, 3) := dk_184 0 93 (dk_at dksX1_part_1 15 rfl rfl)
theorem dX1_part_40 : decode cX1_part 40 = .ok (.ifCond .eq 48, 3) := dk_153 0 48 (dk_at dksX1_part_1 18 rfl rfl)
theorem dX1_part_43 : decode cX1_part 43 = .ok (.iload 5, 2) := dk_21 5 (dk_at dksX1_part_1 21 rfl rfl)
theorem dX1_part_45 : decode cX1_part 45 = .ok (.iconst 0, 1) := dk_3 (dk_at dksX1_part_1 23 rfl rfl)
theorem dX1_part_46 : decode cX1_part 46 = .ok (.bipush 7, 2) := dk_16 7 (dk_at dksX1_part_2 0 rfl rfl)
theorem dX1_part_48 : decode cX1_part 48 = .ok (.invokestatic 93, 3) := dk_184 0 93 (dk_at dksX1_part_2 2 rfl rfl)
theorem dX1_part_51 : decode cX1_part 51 = .ok (.ifCond .eq 37, 3) := dk_153 0 37 (dk_at dksX1_part_2 5 rfl rfl)
theorem dX1_part_54 : decode cX1_part 54 = .ok (.iload 6, 2) := dk_21 6 (dk_at dksX1_part_2 8 rfl rfl)
theorem dX1_part_56 : decode cX1_part 56 = .ok (.iconst 0, 1) := dk_3 (dk_at dksX1_part_2 10 rfl rfl)
theorem dX1_part_57 : decode cX1_part 57 = .ok (.bipush 7, 2) := dk_16 7 (dk_at dksX1_part_2 11 rfl rfl)
theorem dX1_part_59 : decode cX1_part 59 = .ok (.invokestatic 93, 3) := dk_184 0 93 (dk_at dksX1_part_2 13 rfl rfl)
theorem dX1_part_62 : decode cX1_part 62 = .ok (.ifCond .eq 26, 3) := dk_153 0 26 (dk_at dksX1_part_2 16 rfl rfl)
theorem dX1_part_65 : decode cX1_part 65 = .ok (.iload_n 1, 1) := dk_27 (dk_at dksX1_part_2 19 rfl rfl)
theorem dX1_part_66 : decode cX1_part 66 = .ok (.iconst 4, 1) := dk_7 (dk_at dksX1_part_2 20 rfl rfl)
theorem dX1_part_67 : decode cX1_part 67 = .ok (.if_icmp .ne 23, 3) := dk_160 0 23 (dk_at dksX1_part_2 21 rfl rfl)
theorem dX1_part_70 : decode cX1_part 70 = .ok (.iload 7, 2) := dk_21 7 (dk_at dksX1_part_3 0 rfl rfl)
theorem dX1_part_72 : decode cX1_part 72 = .ok (.iconst 0, 1) := dk_3 (dk_at dksX1_part_3 2 rfl rfl)
theorem dX1_part_73 : decode cX1_part 73 = .ok (.sipush 300, 3) := dk_17 1 44 (dk_at dksX1_part_3 3 rfl rfl)
theorem dX1_part_76 : decode cX1_part 76 = .ok (.invokestatic 93, 3) := dk_184 0 93 (dk_at dksX1_part_3 6 rfl rfl)
theorem dX1_part_79 : decode cX1_part 79 = .ok (.ifCond .eq 9, 3) := dk_153 0 9 (dk_at dksX1_part_3 9 rfl rfl)
theorem dX1_part_82 : decode cX1_part 82 = .ok (.iload 7, 2) := dk_21 7 (dk_at dksX1_part_3 12 rfl rfl)
theorem dX1_part_84 : decode cX1_part 84 = .ok (.iload_n 2, 1) := dk_28 (dk_at dksX1_part_3 14 rfl rfl)
theorem dX1_part_85 : decode cX1_part 85 = .ok (.if_icmp .lt 5, 3) := dk_161 0 5 (dk_at dksX1_part_3 15 rfl rfl)
theorem dX1_part_88 : decode cX1_part 88 = .ok (.iconst (-1), 1) := dk_2 (dk_at dksX1_part_3 18 rfl rfl)
theorem dX1_part_89 : decode cX1_part 89 = .ok (.ireturn, 1) := dk_172 (dk_at dksX1_part_3 19 rfl rfl)
theorem dX1_part_90 : decode cX1_part 90 = .ok (.aload_n 0, 1) := dk_42 (dk_at dksX1_part_3 20 rfl rfl)
theorem dX1_part_91 : decode cX1_part 91 = .ok (.getfield 143, 3) := dk_180 0 143 (dk_at dksX1_part_3 21 rfl rfl)
theorem dX1_part_94 : decode cX1_part 94 = .ok (.bipush 16, 2) := dk_16 16 (dk_at dksX1_part_4 0 rfl rfl)
theorem dX1_part_96 : decode cX1_part 96 = .ok (.if_icmp .ne 6, 3) := dk_160 0 6 (dk_at dksX1_part_4 2 rfl rfl)
theorem dX1_part_99 : decode cX1_part 99 = .ok (.bipush (-2), 2) := dk_16 254 (dk_at dksX1_part_4 5 rfl rfl)
theorem dX1_part_101 : decode cX1_part 101 = .ok (.ireturn, 1) := dk_172 (dk_at dksX1_part_4 7 rfl rfl)
theorem dX1_part_102 : decode cX1_part 102 = .ok (.aload_n 0, 1) := dk_42 (dk_at dksX1_part_4 8 rfl rfl)
theorem dX1_part_103 : decode cX1_part 103 = .ok (.getfield 38, 3) := dk_180 0 38 (dk_at dksX1_part_4 9 rfl rfl)
theorem dX1_part_106 : decode cX1_part 106 = .ok (.aload_n 0, 1) := dk_42 (dk_at dksX1_part_4 12 rfl rfl)
theorem dX1_part_107 : decode cX1_part 107 = .ok (.getfield 143, 3) := dk_180 0 143 (dk_at dksX1_part_4 13 rfl rfl)
theorem dX1_part_110 : decode cX1_part 110 = .ok (.iload_n 1, 1) := dk_27 (dk_at dksX1_part_4 16 rfl rfl)
theorem dX1_part_111 : decode cX1_part 111 = .ok (.iastore, 1) := dk_79 (dk_at dksX1_part_4 17 rfl rfl)
theorem dX1_part_112 : decode cX1_part 112 = .ok (.aload_n 0, 1) := dk_42 (dk_at dksX1_part_4 18 rfl rfl)
theorem dX1_part_113 : decode cX1_part 113 = .ok (.getfield 41, 3) := dk_180 0 41 (dk_at dksX1_part_4 19 rfl rfl)
theorem dX1_part_116 : decode cX1_part 116 = .ok (.aload_n 0, 1) := dk_42 (dk_at dksX1_part_4 22 rfl rfl)
theorem dX1_part_117 : decode cX1_part 117 = .ok (.getfield 143, 3) := dk_180 0 143 (dk_at dksX1_part_5 0 rfl rfl)
theorem dX1_part_120 : decode cX1_part 120 = .ok (.iload_n 2, 1) := dk_28 (dk_at dksX1_part_5 3 rfl rfl)
theorem dX1_part_121 : decode cX1_part 121 = .ok (.iastore, 1) := dk_79 (dk_at dksX1_part_5 4 rfl rfl)
theorem dX1_part_122 : decode cX1_part 122 = .ok (.aload_n 0, 1) := dk_42 (dk_at dksX1_part_5 5 rfl rfl)
theorem dX1_part_123 : decode cX1_part 123 = .ok (.getfield 44, 3) := dk_180 0 44 (dk_at dksX1_part_5 6 rfl rfl)
theorem dX1_part_126 : decode cX1_part 126 = .ok (.aload_n 0, 1) := dk_42 (dk_at dksX1_part_5 9 rfl rfl)
theorem dX1_part_127 : decode cX1_part 127 = .ok (.getfield 143, 3) := dk_180 0 143 (dk_at dksX1_part_5 10 rfl rfl)
theorem dX1_part_130 : decode cX1_part 130 = .ok (.iload_n 3, 1) := dk_29 (dk_at dksX1_part_5 13 rfl rfl)
theorem dX1_part_131 : decode cX1_part 131 = .ok (.iastore, 1) := dk_79 (dk_at dksX1_part_5 14 rfl rfl)
theorem dX1_part_132 : decode cX1_part 132 = .ok (.aload_n 0, 1) := dk_42 (dk_at dksX1_part_5 15 rfl rfl)
theorem dX1_part_133 : decode cX1_part 133 = .ok (.getfield 47, 3) := dk_180 0 47 (dk_at dksX1_part_5 16 rfl rfl)
theorem dX1_part_136 : decode cX1_part 136 = .ok (.aload_n 0, 1) := dk_42 (dk_at dksX1_part_5 19 rfl rfl)
theorem dX1_part_137 : decode cX1_part 137 = .ok (.getfield 143, 3) := dk_180 0 143 (dk_at dksX1_part_5 20 rfl rfl)
theorem dX1_part_140 : decode cX1_part 140 = .ok (.iload 4, 2) := dk_21 4 (dk_at dksX1_part_6 0 rfl rfl)
theorem dX1_part_142 : decode cX1_part 142 = .ok (.iastore, 1) := dk_79 (dk_at dksX1_part_6 2 rfl rfl)
theorem dX1_part_143 : decode cX1_part 143 = .ok (.aload_n 0, 1) := dk_42 (dk_at dksX1_part_6 3 rfl rfl)
theorem dX1_part_144 : decode cX1_part 144 = .ok (.getfield 50, 3) := dk_180 0 50 (dk_at dksX1_part_6 4 rfl rfl)
theorem dX1_part_147 : decode cX1_part 147 = .ok (.aload_n 0, 1) := dk_42 (dk_at dksX1_part_6 7 rfl rfl)
theorem dX1_part_148 : decode cX1_part 148 = .ok (.getfield 143, 3) := dk_180 0 143 (dk_at dksX1_part_6 8 rfl rfl)
theorem dX1_part_151 : decode cX1_part 151 = .ok (.iload 5, 2) := dk_21 5 (dk_at dksX1_part_6 11 rfl rfl)
theorem dX1_part_153 : decode cX1_part 153 = .ok (.iastore, 1) := dk_79 (dk_at dksX1_part_6 13 rfl rfl)
theorem dX1_part_154 : decode cX1_part 154 = .ok (.aload_n 0, 1) := dk_42 (dk_at dksX1_part_6 14 rfl rfl)
theorem dX1_part_155 : decode cX1_part 155 = .ok (.getfield 53, 3) := dk_180 0 53 (dk_at dksX1_part_6 15 rfl rfl)
theorem dX1_part_158 : decode cX1_part 158 = .ok (.aload_n 0, 1) := dk_42 (dk_at dksX1_part_6 18 rfl rfl)
theorem dX1_part_159 : decode cX1_part 159 = .ok (.getfield 143, 3) := dk_180 0 143 (dk_at dksX1_part_6 19 rfl rfl)
theorem dX1_part_162 : decode cX1_part 162 = .ok (.iload 6, 2) := dk_21 6 (dk_at dksX1_part_6 22 rfl rfl)
theorem dX1_part_164 : decode cX1_part 164 = .ok (.iastore, 1) := dk_79 (dk_at dksX1_part_7 0 rfl rfl)
theorem dX1_part_165 : decode cX1_part 165 = .ok (.aload_n 0, 1) := dk_42 (dk_at dksX1_part_7 1 rfl rfl)
theorem dX1_part_166 : decode cX1_part 166 = .ok (.getfield 56, 3) := dk_180 0 56 (dk_at dksX1_part_7 2 rfl rfl)
theorem dX1_part_169 : decode cX1_part 169 = .ok (.aload_n 0, 1) := dk_42 (dk_at dksX1_part_7 5 rfl rfl)
theorem dX1_part_170 : decode cX1_part 170 = .ok (.getfield 143, 3) := dk_180 0 143 (dk_at dksX1_part_7 6 rfl rfl)
theorem dX1_part_173 : decode cX1_part 173 = .ok (.iload_n 1, 1) := dk_27 (dk_at dksX1_part_7 9 rfl rfl)
theorem dX1_part_174 : decode cX1_part 174 = .ok (.iconst 4, 1) := dk_7 (dk_at dksX1_part_7 10 rfl rfl)
theorem dX1_part_175 : decode cX1_part 175 = .ok (.if_icmp .ne 8, 3) := dk_160 0 8 (dk_at dksX1_part_7 11 rfl rfl)
theorem dX1_part_178 : decode cX1_part 178 = .ok (.iload 7, 2) := dk_21 7 (dk_at dksX1_part_7 14 rfl rfl)
theorem dX1_part_180 : decode cX1_part 180 = .ok (.goto 4, 3) := dk_167 0 4 (dk_at dksX1_part_7 16 rfl rfl)
theorem dX1_part_183 : decode cX1_part 183 = .ok (.iconst 0, 1) := dk_3 (dk_at dksX1_part_7 19 rfl rfl)
theorem dX1_part_184 : decode cX1_part 184 = .ok (.iastore, 1) := dk_79 (dk_at dksX1_part_7 20 rfl rfl)
theorem dX1_part_185 : decode cX1_part 185 = .ok (.aload_n 0, 1) := dk_42 (dk_at dksX1_part_7 21 rfl rfl)
theorem dX1_part_186 : decode cX1_part 186 = .ok (.dup, 1) := dk_89 (dk_at dksX1_part_7 22 rfl rfl)
theorem dX1_part_187 : decode cX1_part 187 = .ok (.getfield 143, 3) := dk_180 0 143 (dk_at dksX1_part_8 0 rfl rfl)
theorem dX1_part_190 : decode cX1_part 190 = .ok (.iconst 1, 1) := dk_4 (dk_at dksX1_part_8 3 rfl rfl)
theorem dX1_part_191 : decode cX1_part 191 = .ok (.iadd, 1) := dk_96 (dk_at dksX1_part_8 4 rfl rfl)
theorem dX1_part_192 : decode cX1_part 192 = .ok (.putfield 143, 3) := dk_181 0 143 (dk_at dksX1_part_8 5 rfl rfl)
theorem dX1_part_195 : decode cX1_part 195 = .ok (.aload_n 0, 1) := dk_42 (dk_at dksX1_part_8 8 rfl rfl)
theorem dX1_part_196 : decode cX1_part 196 = .ok (.getfield 143, 3) := dk_180 0 143 (dk_at dksX1_part_8 9 rfl rfl)
theorem dX1_part_199 : decode cX1_part 199 = .ok (.iconst 1, 1) := dk_4 (dk_at dksX1_part_8 12 rfl rfl)
theorem dX1_part_200 : decode cX1_part 200 = .ok (.isub, 1) := dk_100 (dk_at dksX1_part_8 13 rfl rfl)
theorem dX1_part_201 : decode cX1_part 201 = .ok (.ireturn, 1) := dk_172 (dk_at dksX1_part_8 14 rfl rfl)
abbrev cX1_told : ByteArray := prog_12_method_29_code
def yX1_told : MethodName := ⟨RX1, "told", "(II)I"⟩
def dkwX1_told_1 : List UInt8 := [167, 0, 4, 2, 172]
abbrev dktX1_told_1 : List UInt8 := dkwX1_told_1 ++ []
def dkwX1_told_0 : List UInt8 := [42, 27, 182, 0, 146, 153, 0, 22, 28, 3, 16, 6, 184, 0, 93, 153, 0, 12, 42, 27, 28, 182, 0, 149]
abbrev dktX1_told_0 : List UInt8 := dkwX1_told_0 ++ dktX1_told_1
theorem dksX1_told_0 : cX1_told.data.toList.drop 0 = dktX1_told_0 := by decide +kernel
theorem dksX1_told_1 : cX1_told.data.toList.drop 24 = dktX1_told_1 := dk_seg dksX1_told_0 24 rfl rfl
theorem dX1_told_0 : decode cX1_told 0 = .ok (.aload_n 0, 1) := dk_42 (dk_at dksX1_told_0 0 rfl rfl)
theorem dX1_told_1 : decode cX1_told 1 = .ok (.iload_n 1, 1) := dk_27 (dk_at dksX1_told_0 1 rfl rfl)
theorem dX1_told_2 : decode cX1_told 2 = .ok (.invokevirtual 146, 3) := dk_182 0 146 (dk_at dksX1_told_0 2 rfl rfl)
theorem dX1_told_5 : decode cX1_told 5 = .ok (.ifCond .eq 22, 3) := dk_153 0 22 (dk_at dksX1_told_0 5 rfl rfl)
theorem dX1_told_8 : decode cX1_told 8 = .ok (.iload_n 2, 1) := dk_28 (dk_at dksX1_told_0 8 rfl rfl)
theorem dX1_told_9 : decode cX1_told 9 = .ok (.iconst 0, 1) := dk_3 (dk_at dksX1_told_0 9 rfl rfl)
theorem dX1_told_10 : decode cX1_told 10 = .ok (.bipush 6, 2) := dk_16 6 (dk_at dksX1_told_0 10 rfl rfl)
theorem dX1_told_12 : decode cX1_told 12 = .ok (.invokestatic 93, 3) := dk_184 0 93 (dk_at dksX1_told_0 12 rfl rfl)
theorem dX1_told_15 : decode cX1_told 15 = .ok (.ifCond .eq 12, 3) := dk_153 0 12 (dk_at dksX1_told_0 15 rfl rfl)
theorem dX1_told_18 : decode cX1_told 18 = .ok (.aload_n 0, 1) := dk_42 (dk_at dksX1_told_0 18 rfl rfl)
theorem dX1_told_19 : decode cX1_told 19 = .ok (.iload_n 1, 1) := dk_27 (dk_at dksX1_told_0 19 rfl rfl)
theorem dX1_told_20 : decode cX1_told 20 = .ok (.iload_n 2, 1) := dk_28 (dk_at dksX1_told_0 20 rfl rfl)
theorem dX1_told_21 : decode cX1_told 21 = .ok (.invokevirtual 149, 3) := dk_182 0 149 (dk_at dksX1_told_0 21 rfl rfl)
theorem dX1_told_24 : decode cX1_told 24 = .ok (.goto 4, 3) := dk_167 0 4 (dk_at dksX1_told_1 0 rfl rfl)
theorem dX1_told_27 : decode cX1_told 27 = .ok (.iconst (-1), 1) := dk_2 (dk_at dksX1_told_1 3 rfl rfl)
theorem dX1_told_28 : decode cX1_told 28 = .ok (.ireturn, 1) := dk_172 (dk_at dksX1_told_1 4 rfl rfl)
abbrev cX1_isPart : ByteArray := prog_12_method_27_code
def yX1_isPart : MethodName := ⟨RX1, "isPart", "(I)Z"⟩
def dkwX1_isPart_0 : List UInt8 := [27, 3, 42, 180, 0, 143, 4, 100, 184, 0, 93, 172]
abbrev dktX1_isPart_0 : List UInt8 := dkwX1_isPart_0 ++ []
theorem dksX1_isPart_0 : cX1_isPart.data.toList.drop 0 = dktX1_isPart_0 := by decide +kernel
theorem dX1_isPart_0 : decode cX1_isPart 0 = .ok (.iload_n 1, 1) := dk_27 (dk_at dksX1_isPart_0 0 rfl rfl)
theorem dX1_isPart_1 : decode cX1_isPart 1 = .ok (.iconst 0, 1) := dk_3 (dk_at dksX1_isPart_0 1 rfl rfl)
theorem dX1_isPart_2 : decode cX1_isPart 2 = .ok (.aload_n 0, 1) := dk_42 (dk_at dksX1_isPart_0 2 rfl rfl)
theorem dX1_isPart_3 : decode cX1_isPart 3 = .ok (.getfield 143, 3) := dk_180 0 143 (dk_at dksX1_isPart_0 3 rfl rfl)
theorem dX1_isPart_6 : decode cX1_isPart 6 = .ok (.iconst 1, 1) := dk_4 (dk_at dksX1_isPart_0 6 rfl rfl)
theorem dX1_isPart_7 : decode cX1_isPart 7 = .ok (.isub, 1) := dk_100 (dk_at dksX1_isPart_0 7 rfl rfl)
theorem dX1_isPart_8 : decode cX1_isPart 8 = .ok (.invokestatic 93, 3) := dk_184 0 93 (dk_at dksX1_isPart_0 8 rfl rfl)
theorem dX1_isPart_11 : decode cX1_isPart 11 = .ok (.ireturn, 1) := dk_172 (dk_at dksX1_isPart_0 11 rfl rfl)
abbrev cX1_tells : ByteArray := prog_12_method_28_code
def yX1_tells : MethodName := ⟨RX1, "tells", "(II)I"⟩
def dkwX1_tells_4 : List UInt8 := [27, 51, 153, 0, 7, 4, 167, 0, 4, 3, 172]
abbrev dktX1_tells_4 : List UInt8 := dkwX1_tells_4 ++ []
def dkwX1_tells_3 : List UInt8 := [180, 0, 47, 27, 46, 172, 42, 180, 0, 50, 27, 46, 172, 42, 180, 0, 53, 27, 46, 172, 42, 180, 0, 59]
abbrev dktX1_tells_3 : List UInt8 := dkwX1_tells_3 ++ dktX1_tells_4
def dkwX1_tells_2 : List UInt8 := [42, 180, 0, 38, 27, 46, 172, 42, 180, 0, 41, 27, 46, 172, 42, 180, 0, 44, 27, 46, 172, 42]
abbrev dktX1_tells_2 : List UInt8 := dkwX1_tells_2 ++ dktX1_tells_3
def dkwX1_tells_1 : List UInt8 := [170, 0, 0, 0, 0, 0, 81, 0, 0, 0, 0, 0, 0, 0, 5, 0, 0, 0, 39, 0, 0, 0, 46, 0, 0, 0, 53, 0, 0, 0, 60, 0, 0, 0, 67, 0, 0, 0, 74]
abbrev dktX1_tells_1 : List UInt8 := dkwX1_tells_1 ++ dktX1_tells_2
def dkwX1_tells_0 : List UInt8 := [28]
abbrev dktX1_tells_0 : List UInt8 := dkwX1_tells_0 ++ dktX1_tells_1
theorem dksX1_tells_0 : cX1_tells.data.toList.drop 0 = dktX1_tells_0 := by decide +kernel
theorem dksX1_tells_1 : cX1_tells.data.toList.drop 1 = dktX1_tells_1 := dk_seg dksX1_tells_0 1 rfl rfl
theorem dksX1_tells_2 : cX1_tells.data.toList.drop 40 = dktX1_tells_2 := dk_seg dksX1_tells_1 39 rfl rfl
theorem dksX1_tells_3 : cX1_tells.data.toList.drop 62 = dktX1_tells_3 := dk_seg dksX1_tells_2 22 rfl rfl
theorem dksX1_tells_4 : cX1_tells.data.toList.drop 86 = dktX1_tells_4 := dk_seg dksX1_tells_3 24 rfl rfl
theorem dX1_tells_0 : decode cX1_tells 0 = .ok (.iload_n 2, 1) := dk_28 (dk_at dksX1_tells_0 0 rfl rfl)
theorem dX1_tells_1 : decode cX1_tells 1 = .ok (.tableswitch 81 0 5 #[39, 46, 53, 60, 67, 74], 39) := by decide +kernel
theorem dX1_tells_40 : decode cX1_tells 40 = .ok (.aload_n 0, 1) := dk_42 (dk_at dksX1_tells_2 0 rfl rfl)
theorem dX1_tells_41 : decode cX1_tells 41 = .ok (.getfield 38, 3) := dk_180 0 38 (dk_at dksX1_tells_2 1 rfl rfl)
theorem dX1_tells_44 : decode cX1_tells 44 = .ok (.iload_n 1, 1) := dk_27 (dk_at dksX1_tells_2 4 rfl rfl)
theorem dX1_tells_45 : decode cX1_tells 45 = .ok (.iaload, 1) := dk_46 (dk_at dksX1_tells_2 5 rfl rfl)
theorem dX1_tells_46 : decode cX1_tells 46 = .ok (.ireturn, 1) := dk_172 (dk_at dksX1_tells_2 6 rfl rfl)
theorem dX1_tells_47 : decode cX1_tells 47 = .ok (.aload_n 0, 1) := dk_42 (dk_at dksX1_tells_2 7 rfl rfl)
theorem dX1_tells_48 : decode cX1_tells 48 = .ok (.getfield 41, 3) := dk_180 0 41 (dk_at dksX1_tells_2 8 rfl rfl)
theorem dX1_tells_51 : decode cX1_tells 51 = .ok (.iload_n 1, 1) := dk_27 (dk_at dksX1_tells_2 11 rfl rfl)
theorem dX1_tells_52 : decode cX1_tells 52 = .ok (.iaload, 1) := dk_46 (dk_at dksX1_tells_2 12 rfl rfl)
theorem dX1_tells_53 : decode cX1_tells 53 = .ok (.ireturn, 1) := dk_172 (dk_at dksX1_tells_2 13 rfl rfl)
theorem dX1_tells_54 : decode cX1_tells 54 = .ok (.aload_n 0, 1) := dk_42 (dk_at dksX1_tells_2 14 rfl rfl)
theorem dX1_tells_55 : decode cX1_tells 55 = .ok (.getfield 44, 3) := dk_180 0 44 (dk_at dksX1_tells_2 15 rfl rfl)
theorem dX1_tells_58 : decode cX1_tells 58 = .ok (.iload_n 1, 1) := dk_27 (dk_at dksX1_tells_2 18 rfl rfl)
theorem dX1_tells_59 : decode cX1_tells 59 = .ok (.iaload, 1) := dk_46 (dk_at dksX1_tells_2 19 rfl rfl)
theorem dX1_tells_60 : decode cX1_tells 60 = .ok (.ireturn, 1) := dk_172 (dk_at dksX1_tells_2 20 rfl rfl)
theorem dX1_tells_61 : decode cX1_tells 61 = .ok (.aload_n 0, 1) := dk_42 (dk_at dksX1_tells_2 21 rfl rfl)
theorem dX1_tells_62 : decode cX1_tells 62 = .ok (.getfield 47, 3) := dk_180 0 47 (dk_at dksX1_tells_3 0 rfl rfl)
theorem dX1_tells_65 : decode cX1_tells 65 = .ok (.iload_n 1, 1) := dk_27 (dk_at dksX1_tells_3 3 rfl rfl)
theorem dX1_tells_66 : decode cX1_tells 66 = .ok (.iaload, 1) := dk_46 (dk_at dksX1_tells_3 4 rfl rfl)
theorem dX1_tells_67 : decode cX1_tells 67 = .ok (.ireturn, 1) := dk_172 (dk_at dksX1_tells_3 5 rfl rfl)
theorem dX1_tells_68 : decode cX1_tells 68 = .ok (.aload_n 0, 1) := dk_42 (dk_at dksX1_tells_3 6 rfl rfl)
theorem dX1_tells_69 : decode cX1_tells 69 = .ok (.getfield 50, 3) := dk_180 0 50 (dk_at dksX1_tells_3 7 rfl rfl)
theorem dX1_tells_72 : decode cX1_tells 72 = .ok (.iload_n 1, 1) := dk_27 (dk_at dksX1_tells_3 10 rfl rfl)
theorem dX1_tells_73 : decode cX1_tells 73 = .ok (.iaload, 1) := dk_46 (dk_at dksX1_tells_3 11 rfl rfl)
theorem dX1_tells_74 : decode cX1_tells 74 = .ok (.ireturn, 1) := dk_172 (dk_at dksX1_tells_3 12 rfl rfl)
theorem dX1_tells_75 : decode cX1_tells 75 = .ok (.aload_n 0, 1) := dk_42 (dk_at dksX1_tells_3 13 rfl rfl)
theorem dX1_tells_76 : decode cX1_tells 76 = .ok (.getfield 53, 3) := dk_180 0 53 (dk_at dksX1_tells_3 14 rfl rfl)
theorem dX1_tells_79 : decode cX1_tells 79 = .ok (.iload_n 1, 1) := dk_27 (dk_at dksX1_tells_3 17 rfl rfl)
theorem dX1_tells_80 : decode cX1_tells 80 = .ok (.iaload, 1) := dk_46 (dk_at dksX1_tells_3 18 rfl rfl)
theorem dX1_tells_81 : decode cX1_tells 81 = .ok (.ireturn, 1) := dk_172 (dk_at dksX1_tells_3 19 rfl rfl)
theorem dX1_tells_82 : decode cX1_tells 82 = .ok (.aload_n 0, 1) := dk_42 (dk_at dksX1_tells_3 20 rfl rfl)
theorem dX1_tells_83 : decode cX1_tells 83 = .ok (.getfield 59, 3) := dk_180 0 59 (dk_at dksX1_tells_3 21 rfl rfl)
theorem dX1_tells_86 : decode cX1_tells 86 = .ok (.iload_n 1, 1) := dk_27 (dk_at dksX1_tells_4 0 rfl rfl)
theorem dX1_tells_87 : decode cX1_tells 87 = .ok (.baload, 1) := dk_51 (dk_at dksX1_tells_4 1 rfl rfl)
theorem dX1_tells_88 : decode cX1_tells 88 = .ok (.ifCond .eq 7, 3) := dk_153 0 7 (dk_at dksX1_tells_4 2 rfl rfl)
theorem dX1_tells_91 : decode cX1_tells 91 = .ok (.iconst 1, 1) := dk_4 (dk_at dksX1_tells_4 5 rfl rfl)
theorem dX1_tells_92 : decode cX1_tells 92 = .ok (.goto 4, 3) := dk_167 0 4 (dk_at dksX1_tells_4 6 rfl rfl)
theorem dX1_tells_95 : decode cX1_tells 95 = .ok (.iconst 0, 1) := dk_3 (dk_at dksX1_tells_4 9 rfl rfl)
theorem dX1_tells_96 : decode cX1_tells 96 = .ok (.ireturn, 1) := dk_172 (dk_at dksX1_tells_4 10 rfl rfl)
abbrev cX1_mark : ByteArray := prog_12_method_30_code
def yX1_mark : MethodName := ⟨RX1, "mark", "(II)I"⟩
def dkwX1_mark_7 : List UInt8 := [167, 255, 163, 29, 172]
abbrev dktX1_mark_7 : List UInt8 := dkwX1_mark_7 ++ []
def dkwX1_mark_6 : List UInt8 := [180, 0, 59, 21, 4, 51, 154, 0, 12, 21, 5, 153, 0, 7, 4, 167, 0, 4, 3, 96, 62, 132, 4, 1]
abbrev dktX1_mark_6 : List UInt8 := dkwX1_mark_6 ++ dktX1_mark_7
def dkwX1_mark_5 : List UInt8 := [42, 180, 0, 50, 27, 46, 160, 0, 7, 4, 167, 0, 4, 3, 54, 5, 29, 21, 4, 27, 159, 0, 22, 42]
abbrev dktX1_mark_5 : List UInt8 := dkwX1_mark_5 ++ dktX1_mark_6
def dkwX1_mark_4 : List UInt8 := [42, 180, 0, 53, 27, 46, 160, 0, 7, 4, 167, 0, 28, 3, 167, 0, 24, 42, 180, 0, 53, 21, 4, 46]
abbrev dktX1_mark_4 : List UInt8 := dkwX1_mark_4 ++ dktX1_mark_5
def dkwX1_mark_3 : List UInt8 := [3, 54, 4, 21, 4, 42, 180, 0, 143, 162, 0, 90, 28, 4, 160, 0, 27, 42, 180, 0, 50, 21, 4, 46]
abbrev dktX1_mark_3 : List UInt8 := dkwX1_mark_3 ++ dktX1_mark_4
def dkwX1_mark_2 : List UInt8 := [180, 0, 47, 27, 46, 42, 180, 0, 41, 27, 46, 108, 167, 0, 9, 42, 180, 0, 56, 27, 46, 172, 3, 62]
abbrev dktX1_mark_2 : List UInt8 := dkwX1_mark_2 ++ dktX1_mark_3
def dkwX1_mark_1 : List UInt8 := [46, 28, 159, 0, 9, 42, 6, 182, 0, 101, 172, 28, 6, 161, 0, 31, 28, 6, 160, 0, 19, 42]
abbrev dktX1_mark_1 : List UInt8 := dkwX1_mark_1 ++ dktX1_mark_2
def dkwX1_mark_0 : List UInt8 := [42, 27, 182, 0, 146, 153, 0, 12, 28, 4, 7, 184, 0, 93, 154, 0, 5, 2, 172, 42, 180, 0, 38, 27]
abbrev dktX1_mark_0 : List UInt8 := dkwX1_mark_0 ++ dktX1_mark_1
theorem dksX1_mark_0 : cX1_mark.data.toList.drop 0 = dktX1_mark_0 := by decide +kernel
theorem dksX1_mark_1 : cX1_mark.data.toList.drop 24 = dktX1_mark_1 := dk_seg dksX1_mark_0 24 rfl rfl
theorem dksX1_mark_2 : cX1_mark.data.toList.drop 46 = dktX1_mark_2 := dk_seg dksX1_mark_1 22 rfl rfl
theorem dksX1_mark_3 : cX1_mark.data.toList.drop 70 = dktX1_mark_3 := dk_seg dksX1_mark_2 24 rfl rfl
theorem dksX1_mark_4 : cX1_mark.data.toList.drop 94 = dktX1_mark_4 := dk_seg dksX1_mark_3 24 rfl rfl
theorem dksX1_mark_5 : cX1_mark.data.toList.drop 118 = dktX1_mark_5 := dk_seg dksX1_mark_4 24 rfl rfl
theorem dksX1_mark_6 : cX1_mark.data.toList.drop 142 = dktX1_mark_6 := dk_seg dksX1_mark_5 24 rfl rfl
theorem dksX1_mark_7 : cX1_mark.data.toList.drop 166 = dktX1_mark_7 := dk_seg dksX1_mark_6 24 rfl rfl
theorem dX1_mark_0 : decode cX1_mark 0 = .ok (.aload_n 0, 1) := dk_42 (dk_at dksX1_mark_0 0 rfl rfl)
theorem dX1_mark_1 : decode cX1_mark 1 = .ok (.iload_n 1, 1) := dk_27 (dk_at dksX1_mark_0 1 rfl rfl)
theorem dX1_mark_2 : decode cX1_mark 2 = .ok (.invokevirtual 146, 3) := dk_182 0 146 (dk_at dksX1_mark_0 2 rfl rfl)
theorem dX1_mark_5 : decode cX1_mark 5 = .ok (.ifCond .eq 12, 3) := dk_153 0 12 (dk_at dksX1_mark_0 5 rfl rfl)
theorem dX1_mark_8 : decode cX1_mark 8 = .ok (.iload_n 2, 1) := dk_28 (dk_at dksX1_mark_0 8 rfl rfl)
theorem dX1_mark_9 : decode cX1_mark 9 = .ok (.iconst 1, 1) := dk_4 (dk_at dksX1_mark_0 9 rfl rfl)
theorem dX1_mark_10 : decode cX1_mark 10 = .ok (.iconst 4, 1) := dk_7 (dk_at dksX1_mark_0 10 rfl rfl)
theorem dX1_mark_11 : decode cX1_mark 11 = .ok (.invokestatic 93, 3) := dk_184 0 93 (dk_at dksX1_mark_0 11 rfl rfl)
theorem dX1_mark_14 : decode cX1_mark 14 = .ok (.ifCond .ne 5, 3) := dk_154 0 5 (dk_at dksX1_mark_0 14 rfl rfl)
theorem dX1_mark_17 : decode cX1_mark 17 = .ok (.iconst (-1), 1) := dk_2 (dk_at dksX1_mark_0 17 rfl rfl)
theorem dX1_mark_18 : decode cX1_mark 18 = .ok (.ireturn, 1) := dk_172 (dk_at dksX1_mark_0 18 rfl rfl)
theorem dX1_mark_19 : decode cX1_mark 19 = .ok (.aload_n 0, 1) := dk_42 (dk_at dksX1_mark_0 19 rfl rfl)
theorem dX1_mark_20 : decode cX1_mark 20 = .ok (.getfield 38, 3) := dk_180 0 38 (dk_at dksX1_mark_0 20 rfl rfl)
theorem dX1_mark_23 : decode cX1_mark 23 = .ok (.iload_n 1, 1) := dk_27 (dk_at dksX1_mark_0 23 rfl rfl)
theorem dX1_mark_24 : decode cX1_mark 24 = .ok (.iaload, 1) := dk_46 (dk_at dksX1_mark_1 0 rfl rfl)
theorem dX1_mark_25 : decode cX1_mark 25 = .ok (.iload_n 2, 1) := dk_28 (dk_at dksX1_mark_1 1 rfl rfl)
theorem dX1_mark_26 : decode cX1_mark 26 = .ok (.if_icmp .eq 9, 3) := dk_159 0 9 (dk_at dksX1_mark_1 2 rfl rfl)
theorem dX1_mark_29 : decode cX1_mark 29 = .ok (.aload_n 0, 1) := dk_42 (dk_at dksX1_mark_1 5 rfl rfl)
theorem dX1_mark_30 : decode cX1_mark 30 = .ok (.iconst 3, 1) := dk_6 (dk_at dksX1_mark_1 6 rfl rfl)
theorem dX1_mark_31 : decode cX1_mark 31 = .ok (.invokevirtual 101, 3) := dk_182 0 101 (dk_at dksX1_mark_1 7 rfl rfl)
theorem dX1_mark_34 : decode cX1_mark 34 = .ok (.ireturn, 1) := dk_172 (dk_at dksX1_mark_1 10 rfl rfl)
theorem dX1_mark_35 : decode cX1_mark 35 = .ok (.iload_n 2, 1) := dk_28 (dk_at dksX1_mark_1 11 rfl rfl)
theorem dX1_mark_36 : decode cX1_mark 36 = .ok (.iconst 3, 1) := dk_6 (dk_at dksX1_mark_1 12 rfl rfl)
theorem dX1_mark_37 : decode cX1_mark 37 = .ok (.if_icmp .lt 31, 3) := dk_161 0 31 (dk_at dksX1_mark_1 13 rfl rfl)
theorem dX1_mark_40 : decode cX1_mark 40 = .ok (.iload_n 2, 1) := dk_28 (dk_at dksX1_mark_1 16 rfl rfl)
theorem dX1_mark_41 : decode cX1_mark 41 = .ok (.iconst 3, 1) := dk_6 (dk_at dksX1_mark_1 17 rfl rfl)
theorem dX1_mark_42 : decode cX1_mark 42 = .ok (.if_icmp .ne 19, 3) := dk_160 0 19 (dk_at dksX1_mark_1 18 rfl rfl)
theorem dX1_mark_45 : decode cX1_mark 45 = .ok (.aload_n 0, 1) := dk_42 (dk_at dksX1_mark_1 21 rfl rfl)
theorem dX1_mark_46 : decode cX1_mark 46 = .ok (.getfield 47, 3) := dk_180 0 47 (dk_at dksX1_mark_2 0 rfl rfl)
theorem dX1_mark_49 : decode cX1_mark 49 = .ok (.iload_n 1, 1) := dk_27 (dk_at dksX1_mark_2 3 rfl rfl)
theorem dX1_mark_50 : decode cX1_mark 50 = .ok (.iaload, 1) := dk_46 (dk_at dksX1_mark_2 4 rfl rfl)
theorem dX1_mark_51 : decode cX1_mark 51 = .ok (.aload_n 0, 1) := dk_42 (dk_at dksX1_mark_2 5 rfl rfl)
theorem dX1_mark_52 : decode cX1_mark 52 = .ok (.getfield 41, 3) := dk_180 0 41 (dk_at dksX1_mark_2 6 rfl rfl)
theorem dX1_mark_55 : decode cX1_mark 55 = .ok (.iload_n 1, 1) := dk_27 (dk_at dksX1_mark_2 9 rfl rfl)
theorem dX1_mark_56 : decode cX1_mark 56 = .ok (.iaload, 1) := dk_46 (dk_at dksX1_mark_2 10 rfl rfl)
theorem dX1_mark_57 : decode cX1_mark 57 = .ok (.idiv, 1) := dk_108 (dk_at dksX1_mark_2 11 rfl rfl)
theorem dX1_mark_58 : decode cX1_mark 58 = .ok (.goto 9, 3) := dk_167 0 9 (dk_at dksX1_mark_2 12 rfl rfl)
theorem dX1_mark_61 : decode cX1_mark 61 = .ok (.aload_n 0, 1) := dk_42 (dk_at dksX1_mark_2 15 rfl rfl)
theorem dX1_mark_62 : decode cX1_mark 62 = .ok (.getfield 56, 3) := dk_180 0 56 (dk_at dksX1_mark_2 16 rfl rfl)
theorem dX1_mark_65 : decode cX1_mark 65 = .ok (.iload_n 1, 1) := dk_27 (dk_at dksX1_mark_2 19 rfl rfl)
theorem dX1_mark_66 : decode cX1_mark 66 = .ok (.iaload, 1) := dk_46 (dk_at dksX1_mark_2 20 rfl rfl)
theorem dX1_mark_67 : decode cX1_mark 67 = .ok (.ireturn, 1) := dk_172 (dk_at dksX1_mark_2 21 rfl rfl)
theorem dX1_mark_68 : decode cX1_mark 68 = .ok (.iconst 0, 1) := dk_3 (dk_at dksX1_mark_2 22 rfl rfl)
theorem dX1_mark_69 : decode cX1_mark 69 = .ok (.istore_n 3, 1) := dk_62 (dk_at dksX1_mark_2 23 rfl rfl)
theorem dX1_mark_70 : decode cX1_mark 70 = .ok (.iconst 0, 1) := dk_3 (dk_at dksX1_mark_3 0 rfl rfl)
theorem dX1_mark_71 : decode cX1_mark 71 = .ok (.istore 4, 2) := dk_54 4 (dk_at dksX1_mark_3 1 rfl rfl)
theorem dX1_mark_73 : decode cX1_mark 73 = .ok (.iload 4, 2) := dk_21 4 (dk_at dksX1_mark_3 3 rfl rfl)
theorem dX1_mark_75 : decode cX1_mark 75 = .ok (.aload_n 0, 1) := dk_42 (dk_at dksX1_mark_3 5 rfl rfl)
theorem dX1_mark_76 : decode cX1_mark 76 = .ok (.getfield 143, 3) := dk_180 0 143 (dk_at dksX1_mark_3 6 rfl rfl)
theorem dX1_mark_79 : decode cX1_mark 79 = .ok (.if_icmp .ge 90, 3) := dk_162 0 90 (dk_at dksX1_mark_3 9 rfl rfl)
theorem dX1_mark_82 : decode cX1_mark 82 = .ok (.iload_n 2, 1) := dk_28 (dk_at dksX1_mark_3 12 rfl rfl)
theorem dX1_mark_83 : decode cX1_mark 83 = .ok (.iconst 1, 1) := dk_4 (dk_at dksX1_mark_3 13 rfl rfl)
theorem dX1_mark_84 : decode cX1_mark 84 = .ok (.if_icmp .ne 27, 3) := dk_160 0 27 (dk_at dksX1_mark_3 14 rfl rfl)
theorem dX1_mark_87 : decode cX1_mark 87 = .ok (.aload_n 0, 1) := dk_42 (dk_at dksX1_mark_3 17 rfl rfl)
theorem dX1_mark_88 : decode cX1_mark 88 = .ok (.getfield 50, 3) := dk_180 0 50 (dk_at dksX1_mark_3 18 rfl rfl)
theorem dX1_mark_91 : decode cX1_mark 91 = .ok (.iload 4, 2) := dk_21 4 (dk_at dksX1_mark_3 21 rfl rfl)
theorem dX1_mark_93 : decode cX1_mark 93 = .ok (.iaload, 1) := dk_46 (dk_at dksX1_mark_3 23 rfl rfl)
theorem dX1_mark_94 : decode cX1_mark 94 = .ok (.aload_n 0, 1) := dk_42 (dk_at dksX1_mark_4 0 rfl rfl)
theorem dX1_mark_95 : decode cX1_mark 95 = .ok (.getfield 53, 3) := dk_180 0 53 (dk_at dksX1_mark_4 1 rfl rfl)
theorem dX1_mark_98 : decode cX1_mark 98 = .ok (.iload_n 1, 1) := dk_27 (dk_at dksX1_mark_4 4 rfl rfl)
theorem dX1_mark_99 : decode cX1_mark 99 = .ok (.iaload, 1) := dk_46 (dk_at dksX1_mark_4 5 rfl rfl)
theorem dX1_mark_100 : decode cX1_mark 100 = .ok (.if_icmp .ne 7, 3) := dk_160 0 7 (dk_at dksX1_mark_4 6 rfl rfl)
theorem dX1_mark_103 : decode cX1_mark 103 = .ok (.iconst 1, 1) := dk_4 (dk_at dksX1_mark_4 9 rfl rfl)
theorem dX1_mark_104 : decode cX1_mark 104 = .ok (.goto 28, 3) := dk_167 0 28 (dk_at dksX1_mark_4 10 rfl rfl)
theorem dX1_mark_107 : decode cX1_mark 107 = .ok (.iconst 0, 1) := dk_3 (dk_at dksX1_mark_4 13 rfl rfl)
theorem dX1_mark_108 : decode cX1_mark 108 = .ok (.goto 24, 3) := dk_167 0 24 (dk_at dksX1_mark_4 14 rfl rfl)
theorem dX1_mark_111 : decode cX1_mark 111 = .ok (.aload_n 0, 1) := dk_42 (dk_at dksX1_mark_4 17 rfl rfl)
theorem dX1_mark_112 : decode cX1_mark 112 = .ok (.getfield 53, 3) := dk_180 0 53 (dk_at dksX1_mark_4 18 rfl rfl)
theorem dX1_mark_115 : decode cX1_mark 115 = .ok (.iload 4, 2) := dk_21 4 (dk_at dksX1_mark_4 21 rfl rfl)
theorem dX1_mark_117 : decode cX1_mark 117 = .ok (.iaload, 1) := dk_46 (dk_at dksX1_mark_4 23 rfl rfl)
theorem dX1_mark_118 : decode cX1_mark 118 = .ok (.aload_n 0, 1) := dk_42 (dk_at dksX1_mark_5 0 rfl rfl)
theorem dX1_mark_119 : decode cX1_mark 119 = .ok (.getfield 50, 3) := dk_180 0 50 (dk_at dksX1_mark_5 1 rfl rfl)
theorem dX1_mark_122 : decode cX1_mark 122 = .ok (.iload_n 1, 1) := dk_27 (dk_at dksX1_mark_5 4 rfl rfl)
theorem dX1_mark_123 : decode cX1_mark 123 = .ok (.iaload, 1) := dk_46 (dk_at dksX1_mark_5 5 rfl rfl)
theorem dX1_mark_124 : decode cX1_mark 124 = .ok (.if_icmp .ne 7, 3) := dk_160 0 7 (dk_at dksX1_mark_5 6 rfl rfl)
theorem dX1_mark_127 : decode cX1_mark 127 = .ok (.iconst 1, 1) := dk_4 (dk_at dksX1_mark_5 9 rfl rfl)
theorem dX1_mark_128 : decode cX1_mark 128 = .ok (.goto 4, 3) := dk_167 0 4 (dk_at dksX1_mark_5 10 rfl rfl)
theorem dX1_mark_131 : decode cX1_mark 131 = .ok (.iconst 0, 1) := dk_3 (dk_at dksX1_mark_5 13 rfl rfl)
theorem dX1_mark_132 : decode cX1_mark 132 = .ok (.istore 5, 2) := dk_54 5 (dk_at dksX1_mark_5 14 rfl rfl)
theorem dX1_mark_134 : decode cX1_mark 134 = .ok (.iload_n 3, 1) := dk_29 (dk_at dksX1_mark_5 16 rfl rfl)
theorem dX1_mark_135 : decode cX1_mark 135 = .ok (.iload 4, 2) := dk_21 4 (dk_at dksX1_mark_5 17 rfl rfl)
theorem dX1_mark_137 : decode cX1_mark 137 = .ok (.iload_n 1, 1) := dk_27 (dk_at dksX1_mark_5 19 rfl rfl)
theorem dX1_mark_138 : decode cX1_mark 138 = .ok (.if_icmp .eq 22, 3) := dk_159 0 22 (dk_at dksX1_mark_5 20 rfl rfl)
theorem dX1_mark_141 : decode cX1_mark 141 = .ok (.aload_n 0, 1) := dk_42 (dk_at dksX1_mark_5 23 rfl rfl)
theorem dX1_mark_142 : decode cX1_mark 142 = .ok (.getfield 59, 3) := dk_180 0 59 (dk_at dksX1_mark_6 0 rfl rfl)
theorem dX1_mark_145 : decode cX1_mark 145 = .ok (.iload 4, 2) := dk_21 4 (dk_at dksX1_mark_6 3 rfl rfl)
theorem dX1_mark_147 : decode cX1_mark 147 = .ok (.baload, 1) := dk_51 (dk_at dksX1_mark_6 5 rfl rfl)
theorem dX1_mark_148 : decode cX1_mark 148 = .ok (.ifCond .ne 12, 3) := dk_154 0 12 (dk_at dksX1_mark_6 6 rfl rfl)
theorem dX1_mark_151 : decode cX1_mark 151 = .ok (.iload 5, 2) := dk_21 5 (dk_at dksX1_mark_6 9 rfl rfl)
theorem dX1_mark_153 : decode cX1_mark 153 = .ok (.ifCond .eq 7, 3) := dk_153 0 7 (dk_at dksX1_mark_6 11 rfl rfl)
theorem dX1_mark_156 : decode cX1_mark 156 = .ok (.iconst 1, 1) := dk_4 (dk_at dksX1_mark_6 14 rfl rfl)
theorem dX1_mark_157 : decode cX1_mark 157 = .ok (.goto 4, 3) := dk_167 0 4 (dk_at dksX1_mark_6 15 rfl rfl)
theorem dX1_mark_160 : decode cX1_mark 160 = .ok (.iconst 0, 1) := dk_3 (dk_at dksX1_mark_6 18 rfl rfl)
theorem dX1_mark_161 : decode cX1_mark 161 = .ok (.iadd, 1) := dk_96 (dk_at dksX1_mark_6 19 rfl rfl)
theorem dX1_mark_162 : decode cX1_mark 162 = .ok (.istore_n 3, 1) := dk_62 (dk_at dksX1_mark_6 20 rfl rfl)
theorem dX1_mark_163 : decode cX1_mark 163 = .ok (.iinc 4 1, 3) := dk_132 4 1 (dk_at dksX1_mark_6 21 rfl rfl)
theorem dX1_mark_166 : decode cX1_mark 166 = .ok (.goto (-93), 3) := dk_167 255 163 (dk_at dksX1_mark_7 0 rfl rfl)
theorem dX1_mark_169 : decode cX1_mark 169 = .ok (.iload_n 3, 1) := dk_29 (dk_at dksX1_mark_7 3 rfl rfl)
theorem dX1_mark_170 : decode cX1_mark 170 = .ok (.ireturn, 1) := dk_172 (dk_at dksX1_mark_7 4 rfl rfl)
abbrev cX1_recall : ByteArray := prog_12_method_31_code
def yX1_recall : MethodName := ⟨RX1, "recall", "(IZ)I"⟩
def dkwX1_recall_1 : List UInt8 := [62, 42, 180, 0, 59, 27, 28, 84, 29, 172]
abbrev dktX1_recall_1 : List UInt8 := dkwX1_recall_1 ++ []
def dkwX1_recall_0 : List UInt8 := [42, 27, 182, 0, 146, 154, 0, 5, 2, 172, 42, 180, 0, 59, 27, 51, 153, 0, 7, 4, 167, 0, 4, 3]
abbrev dktX1_recall_0 : List UInt8 := dkwX1_recall_0 ++ dktX1_recall_1
theorem dksX1_recall_0 : cX1_recall.data.toList.drop 0 = dktX1_recall_0 := by decide +kernel
theorem dksX1_recall_1 : cX1_recall.data.toList.drop 24 = dktX1_recall_1 := dk_seg dksX1_recall_0 24 rfl rfl
theorem dX1_recall_0 : decode cX1_recall 0 = .ok (.aload_n 0, 1) := dk_42 (dk_at dksX1_recall_0 0 rfl rfl)
theorem dX1_recall_1 : decode cX1_recall 1 = .ok (.iload_n 1, 1) := dk_27 (dk_at dksX1_recall_0 1 rfl rfl)
theorem dX1_recall_2 : decode cX1_recall 2 = .ok (.invokevirtual 146, 3) := dk_182 0 146 (dk_at dksX1_recall_0 2 rfl rfl)
theorem dX1_recall_5 : decode cX1_recall 5 = .ok (.ifCond .ne 5, 3) := dk_154 0 5 (dk_at dksX1_recall_0 5 rfl rfl)
theorem dX1_recall_8 : decode cX1_recall 8 = .ok (.iconst (-1), 1) := dk_2 (dk_at dksX1_recall_0 8 rfl rfl)
theorem dX1_recall_9 : decode cX1_recall 9 = .ok (.ireturn, 1) := dk_172 (dk_at dksX1_recall_0 9 rfl rfl)
theorem dX1_recall_10 : decode cX1_recall 10 = .ok (.aload_n 0, 1) := dk_42 (dk_at dksX1_recall_0 10 rfl rfl)
theorem dX1_recall_11 : decode cX1_recall 11 = .ok (.getfield 59, 3) := dk_180 0 59 (dk_at dksX1_recall_0 11 rfl rfl)
theorem dX1_recall_14 : decode cX1_recall 14 = .ok (.iload_n 1, 1) := dk_27 (dk_at dksX1_recall_0 14 rfl rfl)
theorem dX1_recall_15 : decode cX1_recall 15 = .ok (.baload, 1) := dk_51 (dk_at dksX1_recall_0 15 rfl rfl)
theorem dX1_recall_16 : decode cX1_recall 16 = .ok (.ifCond .eq 7, 3) := dk_153 0 7 (dk_at dksX1_recall_0 16 rfl rfl)
theorem dX1_recall_19 : decode cX1_recall 19 = .ok (.iconst 1, 1) := dk_4 (dk_at dksX1_recall_0 19 rfl rfl)
theorem dX1_recall_20 : decode cX1_recall 20 = .ok (.goto 4, 3) := dk_167 0 4 (dk_at dksX1_recall_0 20 rfl rfl)
theorem dX1_recall_23 : decode cX1_recall 23 = .ok (.iconst 0, 1) := dk_3 (dk_at dksX1_recall_0 23 rfl rfl)
theorem dX1_recall_24 : decode cX1_recall 24 = .ok (.istore_n 3, 1) := dk_62 (dk_at dksX1_recall_1 0 rfl rfl)
theorem dX1_recall_25 : decode cX1_recall 25 = .ok (.aload_n 0, 1) := dk_42 (dk_at dksX1_recall_1 1 rfl rfl)
theorem dX1_recall_26 : decode cX1_recall 26 = .ok (.getfield 59, 3) := dk_180 0 59 (dk_at dksX1_recall_1 2 rfl rfl)
theorem dX1_recall_29 : decode cX1_recall 29 = .ok (.iload_n 1, 1) := dk_27 (dk_at dksX1_recall_1 5 rfl rfl)
theorem dX1_recall_30 : decode cX1_recall 30 = .ok (.iload_n 2, 1) := dk_28 (dk_at dksX1_recall_1 6 rfl rfl)
theorem dX1_recall_31 : decode cX1_recall 31 = .ok (.bastore, 1) := dk_84 (dk_at dksX1_recall_1 7 rfl rfl)
theorem dX1_recall_32 : decode cX1_recall 32 = .ok (.iload_n 3, 1) := dk_29 (dk_at dksX1_recall_1 8 rfl rfl)
theorem dX1_recall_33 : decode cX1_recall 33 = .ok (.ireturn, 1) := dk_172 (dk_at dksX1_recall_1 9 rfl rfl)
abbrev cX1_unfit : ByteArray := prog_12_method_33_code
def yX1_unfit : MethodName := ⟨RX1, "unfit", "(II)I"⟩
def dkwX1_unfit_1 : List UInt8 := [167, 0, 9, 42, 27, 28, 182, 0, 152, 172]
abbrev dktX1_unfit_1 : List UInt8 := dkwX1_unfit_1 ++ []
def dkwX1_unfit_0 : List UInt8 := [42, 27, 182, 0, 146, 153, 0, 16, 42, 28, 182, 0, 146, 153, 0, 8, 27, 28, 160, 0, 7, 2]
abbrev dktX1_unfit_0 : List UInt8 := dkwX1_unfit_0 ++ dktX1_unfit_1
theorem dksX1_unfit_0 : cX1_unfit.data.toList.drop 0 = dktX1_unfit_0 := by decide +kernel
theorem dksX1_unfit_1 : cX1_unfit.data.toList.drop 22 = dktX1_unfit_1 := dk_seg dksX1_unfit_0 22 rfl rfl
theorem dX1_unfit_0 : decode cX1_unfit 0 = .ok (.aload_n 0, 1) := dk_42 (dk_at dksX1_unfit_0 0 rfl rfl)
theorem dX1_unfit_1 : decode cX1_unfit 1 = .ok (.iload_n 1, 1) := dk_27 (dk_at dksX1_unfit_0 1 rfl rfl)
theorem dX1_unfit_2 : decode cX1_unfit 2 = .ok (.invokevirtual 146, 3) := dk_182 0 146 (dk_at dksX1_unfit_0 2 rfl rfl)
theorem dX1_unfit_5 : decode cX1_unfit 5 = .ok (.ifCond .eq 16, 3) := dk_153 0 16 (dk_at dksX1_unfit_0 5 rfl rfl)
theorem dX1_unfit_8 : decode cX1_unfit 8 = .ok (.aload_n 0, 1) := dk_42 (dk_at dksX1_unfit_0 8 rfl rfl)
theorem dX1_unfit_9 : decode cX1_unfit 9 = .ok (.iload_n 2, 1) := dk_28 (dk_at dksX1_unfit_0 9 rfl rfl)
theorem dX1_unfit_10 : decode cX1_unfit 10 = .ok (.invokevirtual 146, 3) := dk_182 0 146 (dk_at dksX1_unfit_0 10 rfl rfl)
theorem dX1_unfit_13 : decode cX1_unfit 13 = .ok (.ifCond .eq 8, 3) := dk_153 0 8 (dk_at dksX1_unfit_0 13 rfl rfl)
theorem dX1_unfit_16 : decode cX1_unfit 16 = .ok (.iload_n 1, 1) := dk_27 (dk_at dksX1_unfit_0 16 rfl rfl)
theorem dX1_unfit_17 : decode cX1_unfit 17 = .ok (.iload_n 2, 1) := dk_28 (dk_at dksX1_unfit_0 17 rfl rfl)
theorem dX1_unfit_18 : decode cX1_unfit 18 = .ok (.if_icmp .ne 7, 3) := dk_160 0 7 (dk_at dksX1_unfit_0 18 rfl rfl)
theorem dX1_unfit_21 : decode cX1_unfit 21 = .ok (.iconst (-1), 1) := dk_2 (dk_at dksX1_unfit_0 21 rfl rfl)
theorem dX1_unfit_22 : decode cX1_unfit 22 = .ok (.goto 9, 3) := dk_167 0 9 (dk_at dksX1_unfit_1 0 rfl rfl)
theorem dX1_unfit_25 : decode cX1_unfit 25 = .ok (.aload_n 0, 1) := dk_42 (dk_at dksX1_unfit_1 3 rfl rfl)
theorem dX1_unfit_26 : decode cX1_unfit 26 = .ok (.iload_n 1, 1) := dk_27 (dk_at dksX1_unfit_1 4 rfl rfl)
theorem dX1_unfit_27 : decode cX1_unfit 27 = .ok (.iload_n 2, 1) := dk_28 (dk_at dksX1_unfit_1 5 rfl rfl)
theorem dX1_unfit_28 : decode cX1_unfit 28 = .ok (.invokevirtual 152, 3) := dk_182 0 152 (dk_at dksX1_unfit_1 6 rfl rfl)
theorem dX1_unfit_31 : decode cX1_unfit 31 = .ok (.ireturn, 1) := dk_172 (dk_at dksX1_unfit_1 9 rfl rfl)
abbrev cX1_barsBelow : ByteArray := prog_12_method_32_code
def yX1_barsBelow : MethodName := ⟨RX1, "barsBelow", "(II)I"⟩
def dkwX1_barsBelow_4 : List UInt8 := [3, 96, 172]
abbrev dktX1_barsBelow_4 : List UInt8 := dkwX1_barsBelow_4 ++ []
def dkwX1_barsBelow_3 : List UInt8 := [180, 0, 38, 27, 46, 5, 160, 0, 18, 42, 180, 0, 38, 28, 46, 5, 160, 0, 8, 16, 8, 167, 0, 4]
abbrev dktX1_barsBelow_3 : List UInt8 := dkwX1_barsBelow_3 ++ dktX1_barsBelow_4
def dkwX1_barsBelow_2 : List UInt8 := [27, 46, 6, 159, 0, 13, 42, 180, 0, 38, 28, 46, 4, 160, 0, 7, 7, 167, 0, 4, 3, 96, 42]
abbrev dktX1_barsBelow_2 : List UInt8 := dkwX1_barsBelow_2 ++ dktX1_barsBelow_3
def dkwX1_barsBelow_1 : List UInt8 := [27, 51, 154, 0, 12, 42, 180, 0, 59, 28, 51, 153, 0, 7, 5, 167, 0, 4, 3, 96, 42, 180, 0, 38]
abbrev dktX1_barsBelow_1 : List UInt8 := dkwX1_barsBelow_1 ++ dktX1_barsBelow_2
def dkwX1_barsBelow_0 : List UInt8 := [42, 180, 0, 53, 27, 46, 42, 180, 0, 50, 28, 46, 160, 0, 7, 3, 167, 0, 4, 4, 42, 180, 0, 59]
abbrev dktX1_barsBelow_0 : List UInt8 := dkwX1_barsBelow_0 ++ dktX1_barsBelow_1
theorem dksX1_barsBelow_0 : cX1_barsBelow.data.toList.drop 0 = dktX1_barsBelow_0 := by decide +kernel
theorem dksX1_barsBelow_1 : cX1_barsBelow.data.toList.drop 24 = dktX1_barsBelow_1 := dk_seg dksX1_barsBelow_0 24 rfl rfl
theorem dksX1_barsBelow_2 : cX1_barsBelow.data.toList.drop 48 = dktX1_barsBelow_2 := dk_seg dksX1_barsBelow_1 24 rfl rfl
theorem dksX1_barsBelow_3 : cX1_barsBelow.data.toList.drop 71 = dktX1_barsBelow_3 := dk_seg dksX1_barsBelow_2 23 rfl rfl
theorem dksX1_barsBelow_4 : cX1_barsBelow.data.toList.drop 95 = dktX1_barsBelow_4 := dk_seg dksX1_barsBelow_3 24 rfl rfl
theorem dX1_barsBelow_0 : decode cX1_barsBelow 0 = .ok (.aload_n 0, 1) := dk_42 (dk_at dksX1_barsBelow_0 0 rfl rfl)
theorem dX1_barsBelow_1 : decode cX1_barsBelow 1 = .ok (.getfield 53, 3) := dk_180 0 53 (dk_at dksX1_barsBelow_0 1 rfl rfl)
theorem dX1_barsBelow_4 : decode cX1_barsBelow 4 = .ok (.iload_n 1, 1) := dk_27 (dk_at dksX1_barsBelow_0 4 rfl rfl)
theorem dX1_barsBelow_5 : decode cX1_barsBelow 5 = .ok (.iaload, 1) := dk_46 (dk_at dksX1_barsBelow_0 5 rfl rfl)
theorem dX1_barsBelow_6 : decode cX1_barsBelow 6 = .ok (.aload_n 0, 1) := dk_42 (dk_at dksX1_barsBelow_0 6 rfl rfl)
theorem dX1_barsBelow_7 : decode cX1_barsBelow 7 = .ok (.getfield 50, 3) := dk_180 0 50 (dk_at dksX1_barsBelow_0 7 rfl rfl)
theorem dX1_barsBelow_10 : decode cX1_barsBelow 10 = .ok (.iload_n 2, 1) := dk_28 (dk_at dksX1_barsBelow_0 10 rfl rfl)
theorem dX1_barsBelow_11 : decode cX1_barsBelow 11 = .ok (.iaload, 1) := dk_46 (dk_at dksX1_barsBelow_0 11 rfl rfl)
theorem dX1_barsBelow_12 : decode cX1_barsBelow 12 = .ok (.if_icmp .ne 7, 3) := dk_160 0 7 (dk_at dksX1_barsBelow_0 12 rfl rfl)
theorem dX1_barsBelow_15 : decode cX1_barsBelow 15 = .ok (.iconst 0, 1) := dk_3 (dk_at dksX1_barsBelow_0 15 rfl rfl)
theorem dX1_barsBelow_16 : decode cX1_barsBelow 16 = .ok (.goto 4, 3) := dk_167 0 4 (dk_at dksX1_barsBelow_0 16 rfl rfl)
theorem dX1_barsBelow_19 : decode cX1_barsBelow 19 = .ok (.iconst 1, 1) := dk_4 (dk_at dksX1_barsBelow_0 19 rfl rfl)
theorem dX1_barsBelow_20 : decode cX1_barsBelow 20 = .ok (.aload_n 0, 1) := dk_42 (dk_at dksX1_barsBelow_0 20 rfl rfl)
theorem dX1_barsBelow_21 : decode cX1_barsBelow 21 = .ok (.getfield 59, 3) := dk_180 0 59 (dk_at dksX1_barsBelow_0 21 rfl rfl)
theorem dX1_barsBelow_24 : decode cX1_barsBelow 24 = .ok (.iload_n 1, 1) := dk_27 (dk_at dksX1_barsBelow_1 0 rfl rfl)
theorem dX1_barsBelow_25 : decode cX1_barsBelow 25 = .ok (.baload, 1) := dk_51 (dk_at dksX1_barsBelow_1 1 rfl rfl)
theorem dX1_barsBelow_26 : decode cX1_barsBelow 26 = .ok (.ifCond .ne 12, 3) := dk_154 0 12 (dk_at dksX1_barsBelow_1 2 rfl rfl)
theorem dX1_barsBelow_29 : decode cX1_barsBelow 29 = .ok (.aload_n 0, 1) := dk_42 (dk_at dksX1_barsBelow_1 5 rfl rfl)
theorem dX1_barsBelow_30 : decode cX1_barsBelow 30 = .ok (.getfield 59, 3) := dk_180 0 59 (dk_at dksX1_barsBelow_1 6 rfl rfl)
theorem dX1_barsBelow_33 : decode cX1_barsBelow 33 = .ok (.iload_n 2, 1) := dk_28 (dk_at dksX1_barsBelow_1 9 rfl rfl)
theorem dX1_barsBelow_34 : decode cX1_barsBelow 34 = .ok (.baload, 1) := dk_51 (dk_at dksX1_barsBelow_1 10 rfl rfl)
theorem dX1_barsBelow_35 : decode cX1_barsBelow 35 = .ok (.ifCond .eq 7, 3) := dk_153 0 7 (dk_at dksX1_barsBelow_1 11 rfl rfl)
theorem dX1_barsBelow_38 : decode cX1_barsBelow 38 = .ok (.iconst 2, 1) := dk_5 (dk_at dksX1_barsBelow_1 14 rfl rfl)
theorem dX1_barsBelow_39 : decode cX1_barsBelow 39 = .ok (.goto 4, 3) := dk_167 0 4 (dk_at dksX1_barsBelow_1 15 rfl rfl)
theorem dX1_barsBelow_42 : decode cX1_barsBelow 42 = .ok (.iconst 0, 1) := dk_3 (dk_at dksX1_barsBelow_1 18 rfl rfl)
theorem dX1_barsBelow_43 : decode cX1_barsBelow 43 = .ok (.iadd, 1) := dk_96 (dk_at dksX1_barsBelow_1 19 rfl rfl)
theorem dX1_barsBelow_44 : decode cX1_barsBelow 44 = .ok (.aload_n 0, 1) := dk_42 (dk_at dksX1_barsBelow_1 20 rfl rfl)
theorem dX1_barsBelow_45 : decode cX1_barsBelow 45 = .ok (.getfield 38, 3) := dk_180 0 38 (dk_at dksX1_barsBelow_1 21 rfl rfl)
theorem dX1_barsBelow_48 : decode cX1_barsBelow 48 = .ok (.iload_n 1, 1) := dk_27 (dk_at dksX1_barsBelow_2 0 rfl rfl)
theorem dX1_barsBelow_49 : decode cX1_barsBelow 49 = .ok (.iaload, 1) := dk_46 (dk_at dksX1_barsBelow_2 1 rfl rfl)
theorem dX1_barsBelow_50 : decode cX1_barsBelow 50 = .ok (.iconst 3, 1) := dk_6 (dk_at dksX1_barsBelow_2 2 rfl rfl)
theorem dX1_barsBelow_51 : decode cX1_barsBelow 51 = .ok (.if_icmp .eq 13, 3) := dk_159 0 13 (dk_at dksX1_barsBelow_2 3 rfl rfl)
theorem dX1_barsBelow_54 : decode cX1_barsBelow 54 = .ok (.aload_n 0, 1) := dk_42 (dk_at dksX1_barsBelow_2 6 rfl rfl)
theorem dX1_barsBelow_55 : decode cX1_barsBelow 55 = .ok (.getfield 38, 3) := dk_180 0 38 (dk_at dksX1_barsBelow_2 7 rfl rfl)
theorem dX1_barsBelow_58 : decode cX1_barsBelow 58 = .ok (.iload_n 2, 1) := dk_28 (dk_at dksX1_barsBelow_2 10 rfl rfl)
theorem dX1_barsBelow_59 : decode cX1_barsBelow 59 = .ok (.iaload, 1) := dk_46 (dk_at dksX1_barsBelow_2 11 rfl rfl)
theorem dX1_barsBelow_60 : decode cX1_barsBelow 60 = .ok (.iconst 1, 1) := dk_4 (dk_at dksX1_barsBelow_2 12 rfl rfl)
theorem dX1_barsBelow_61 : decode cX1_barsBelow 61 = .ok (.if_icmp .ne 7, 3) := dk_160 0 7 (dk_at dksX1_barsBelow_2 13 rfl rfl)
theorem dX1_barsBelow_64 : decode cX1_barsBelow 64 = .ok (.iconst 4, 1) := dk_7 (dk_at dksX1_barsBelow_2 16 rfl rfl)
theorem dX1_barsBelow_65 : decode cX1_barsBelow 65 = .ok (.goto 4, 3) := dk_167 0 4 (dk_at dksX1_barsBelow_2 17 rfl rfl)
theorem dX1_barsBelow_68 : decode cX1_barsBelow 68 = .ok (.iconst 0, 1) := dk_3 (dk_at dksX1_barsBelow_2 20 rfl rfl)
theorem dX1_barsBelow_69 : decode cX1_barsBelow 69 = .ok (.iadd, 1) := dk_96 (dk_at dksX1_barsBelow_2 21 rfl rfl)
theorem dX1_barsBelow_70 : decode cX1_barsBelow 70 = .ok (.aload_n 0, 1) := dk_42 (dk_at dksX1_barsBelow_2 22 rfl rfl)
theorem dX1_barsBelow_71 : decode cX1_barsBelow 71 = .ok (.getfield 38, 3) := dk_180 0 38 (dk_at dksX1_barsBelow_3 0 rfl rfl)
theorem dX1_barsBelow_74 : decode cX1_barsBelow 74 = .ok (.iload_n 1, 1) := dk_27 (dk_at dksX1_barsBelow_3 3 rfl rfl)
theorem dX1_barsBelow_75 : decode cX1_barsBelow 75 = .ok (.iaload, 1) := dk_46 (dk_at dksX1_barsBelow_3 4 rfl rfl)
theorem dX1_barsBelow_76 : decode cX1_barsBelow 76 = .ok (.iconst 2, 1) := dk_5 (dk_at dksX1_barsBelow_3 5 rfl rfl)
theorem dX1_barsBelow_77 : decode cX1_barsBelow 77 = .ok (.if_icmp .ne 18, 3) := dk_160 0 18 (dk_at dksX1_barsBelow_3 6 rfl rfl)
theorem dX1_barsBelow_80 : decode cX1_barsBelow 80 = .ok (.aload_n 0, 1) := dk_42 (dk_at dksX1_barsBelow_3 9 rfl rfl)
theorem dX1_barsBelow_81 : decode cX1_barsBelow 81 = .ok (.getfield 38, 3) := dk_180 0 38 (dk_at dksX1_barsBelow_3 10 rfl rfl)
theorem dX1_barsBelow_84 : decode cX1_barsBelow 84 = .ok (.iload_n 2, 1) := dk_28 (dk_at dksX1_barsBelow_3 13 rfl rfl)
theorem dX1_barsBelow_85 : decode cX1_barsBelow 85 = .ok (.iaload, 1) := dk_46 (dk_at dksX1_barsBelow_3 14 rfl rfl)
theorem dX1_barsBelow_86 : decode cX1_barsBelow 86 = .ok (.iconst 2, 1) := dk_5 (dk_at dksX1_barsBelow_3 15 rfl rfl)
theorem dX1_barsBelow_87 : decode cX1_barsBelow 87 = .ok (.if_icmp .ne 8, 3) := dk_160 0 8 (dk_at dksX1_barsBelow_3 16 rfl rfl)
theorem dX1_barsBelow_90 : decode cX1_barsBelow 90 = .ok (.bipush 8, 2) := dk_16 8 (dk_at dksX1_barsBelow_3 19 rfl rfl)
theorem dX1_barsBelow_92 : decode cX1_barsBelow 92 = .ok (.goto 4, 3) := dk_167 0 4 (dk_at dksX1_barsBelow_3 21 rfl rfl)
theorem dX1_barsBelow_95 : decode cX1_barsBelow 95 = .ok (.iconst 0, 1) := dk_3 (dk_at dksX1_barsBelow_4 0 rfl rfl)
theorem dX1_barsBelow_96 : decode cX1_barsBelow 96 = .ok (.iadd, 1) := dk_96 (dk_at dksX1_barsBelow_4 1 rfl rfl)
theorem dX1_barsBelow_97 : decode cX1_barsBelow 97 = .ok (.ireturn, 1) := dk_172 (dk_at dksX1_barsBelow_4 2 rfl rfl)
abbrev cX1_leg : ByteArray := prog_12_method_36_code
def yX1_leg : MethodName := ⟨RX1, "leg", "(III)I"⟩
def dkwX1_leg_13 : List UInt8 := [167, 0, 5, 21, 4, 172]
abbrev dktX1_leg_13 : List UInt8 := dkwX1_leg_13 ++ []
def dkwX1_leg_12 : List UInt8 := [21, 8, 46, 79, 132, 8, 1, 167, 255, 232, 167, 255, 23, 42, 180, 0, 68, 156, 0, 8, 16, 247]
abbrev dktX1_leg_12 : List UInt8 := dkwX1_leg_12 ++ dktX1_leg_13
def dkwX1_leg_11 : List UInt8 := [181, 0, 165, 3, 54, 8, 21, 8, 21, 5, 163, 0, 23, 42, 180, 0, 65, 21, 8, 42, 180, 0, 62]
abbrev dktX1_leg_11 : List UInt8 := dkwX1_leg_11 ++ dktX1_leg_12
def dkwX1_leg_10 : List UInt8 := [21, 5, 4, 96, 181, 0, 68, 21, 7, 54, 4, 42, 42, 21, 5, 4, 96, 3, 182, 0, 162, 27, 100]
abbrev dktX1_leg_10 : List UInt8 := dkwX1_leg_10 ++ dktX1_leg_11
def dkwX1_leg_9 : List UInt8 := [21, 4, 161, 0, 21, 21, 7, 21, 4, 160, 0, 71, 21, 5, 4, 96, 42, 180, 0, 68, 162, 0, 60, 42]
abbrev dktX1_leg_9 : List UInt8 := dkwX1_leg_9 ++ dktX1_leg_10
def dkwX1_leg_8 : List UInt8 := [161, 0, 103, 42, 21, 5, 4, 96, 4, 182, 0, 162, 54, 7, 42, 180, 0, 68, 155, 0, 28, 21, 7]
abbrev dktX1_leg_8 : List UInt8 := dkwX1_leg_8 ++ dktX1_leg_9
def dkwX1_leg_7 : List UInt8 := [132, 5, 1, 42, 180, 0, 62, 21, 5, 2, 79, 167, 0, 116, 42, 21, 5, 4, 96, 3, 182, 0, 162, 27]
abbrev dktX1_leg_7 : List UInt8 := dkwX1_leg_7 ++ dktX1_leg_8
def dkwX1_leg_6 : List UInt8 := [181, 0, 155, 42, 180, 0, 62, 21, 5, 21, 6, 79, 42, 180, 0, 38, 21, 6, 46, 6, 159, 0, 17]
abbrev dktX1_leg_6 : List UInt8 := dkwX1_leg_6 ++ dktX1_leg_7
def dkwX1_leg_5 : List UInt8 := [42, 180, 0, 155, 29, 160, 0, 12, 42, 16, 247, 181, 0, 68, 16, 250, 172, 42, 89, 180, 0, 155, 4, 96]
abbrev dktX1_leg_5 : List UInt8 := dkwX1_leg_5 ++ dktX1_leg_6
def dkwX1_leg_4 : List UInt8 := [154, 0, 9, 132, 6, 1, 167, 255, 231, 21, 6, 42, 180, 0, 143, 160, 0, 9, 132, 5, 255, 167, 255, 200]
abbrev dktX1_leg_4 : List UInt8 := dkwX1_leg_4 ++ dktX1_leg_5
def dkwX1_leg_3 : List UInt8 := [4, 96, 54, 6, 21, 6, 42, 180, 0, 143, 162, 0, 22, 42, 21, 5, 21, 6, 27, 28, 182, 0, 158]
abbrev dktX1_leg_3 : List UInt8 := dkwX1_leg_3 ++ dktX1_leg_4
def dkwX1_leg_2 : List UInt8 := [54, 4, 3, 54, 5, 42, 180, 0, 62, 3, 2, 79, 21, 5, 155, 0, 234, 42, 180, 0, 62, 21, 5, 46]
abbrev dktX1_leg_2 : List UInt8 := dkwX1_leg_2 ++ dktX1_leg_3
def dkwX1_leg_1 : List UInt8 := [17, 78, 32, 184, 0, 93, 154, 0, 5, 2, 172, 42, 16, 247, 181, 0, 68, 42, 3, 181, 0, 155, 3]
abbrev dktX1_leg_1 : List UInt8 := dkwX1_leg_1 ++ dktX1_leg_2
def dkwX1_leg_0 : List UInt8 := [27, 4, 17, 11, 184, 184, 0, 93, 153, 0, 25, 28, 4, 17, 1, 44, 184, 0, 93, 153, 0, 14, 29, 4]
abbrev dktX1_leg_0 : List UInt8 := dkwX1_leg_0 ++ dktX1_leg_1
theorem dksX1_leg_0 : cX1_leg.data.toList.drop 0 = dktX1_leg_0 := by decide +kernel
theorem dksX1_leg_1 : cX1_leg.data.toList.drop 24 = dktX1_leg_1 := dk_seg dksX1_leg_0 24 rfl rfl
theorem dksX1_leg_2 : cX1_leg.data.toList.drop 47 = dktX1_leg_2 := dk_seg dksX1_leg_1 23 rfl rfl
theorem dksX1_leg_3 : cX1_leg.data.toList.drop 71 = dktX1_leg_3 := dk_seg dksX1_leg_2 24 rfl rfl
theorem dksX1_leg_4 : cX1_leg.data.toList.drop 94 = dktX1_leg_4 := dk_seg dksX1_leg_3 23 rfl rfl
theorem dksX1_leg_5 : cX1_leg.data.toList.drop 118 = dktX1_leg_5 := dk_seg dksX1_leg_4 24 rfl rfl
theorem dksX1_leg_6 : cX1_leg.data.toList.drop 142 = dktX1_leg_6 := dk_seg dksX1_leg_5 24 rfl rfl
theorem dksX1_leg_7 : cX1_leg.data.toList.drop 165 = dktX1_leg_7 := dk_seg dksX1_leg_6 23 rfl rfl
theorem dksX1_leg_8 : cX1_leg.data.toList.drop 189 = dktX1_leg_8 := dk_seg dksX1_leg_7 24 rfl rfl
theorem dksX1_leg_9 : cX1_leg.data.toList.drop 212 = dktX1_leg_9 := dk_seg dksX1_leg_8 23 rfl rfl
theorem dksX1_leg_10 : cX1_leg.data.toList.drop 236 = dktX1_leg_10 := dk_seg dksX1_leg_9 24 rfl rfl
theorem dksX1_leg_11 : cX1_leg.data.toList.drop 259 = dktX1_leg_11 := dk_seg dksX1_leg_10 23 rfl rfl
theorem dksX1_leg_12 : cX1_leg.data.toList.drop 282 = dktX1_leg_12 := dk_seg dksX1_leg_11 23 rfl rfl
theorem dksX1_leg_13 : cX1_leg.data.toList.drop 304 = dktX1_leg_13 := dk_seg dksX1_leg_12 22 rfl rfl
theorem dX1_leg_0 : decode cX1_leg 0 = .ok (.iload_n 1, 1) := dk_27 (dk_at dksX1_leg_0 0 rfl rfl)
theorem dX1_leg_1 : decode cX1_leg 1 = .ok (.iconst 1, 1) := dk_4 (dk_at dksX1_leg_0 1 rfl rfl)
theorem dX1_leg_2 : decode cX1_leg 2 = .ok (.sipush 3000, 3) := dk_17 11 184 (dk_at dksX1_leg_0 2 rfl rfl)
theorem dX1_leg_5 : decode cX1_leg 5 = .ok (.invokestatic 93, 3) := dk_184 0 93 (dk_at dksX1_leg_0 5 rfl rfl)
theorem dX1_leg_8 : decode cX1_leg 8 = .ok (.ifCond .eq 25, 3) := dk_153 0 25 (dk_at dksX1_leg_0 8 rfl rfl)
theorem dX1_leg_11 : decode cX1_leg 11 = .ok (.iload_n 2, 1) := dk_28 (dk_at dksX1_leg_0 11 rfl rfl)
theorem dX1_leg_12 : decode cX1_leg 12 = .ok (.iconst 1, 1) := dk_4 (dk_at dksX1_leg_0 12 rfl rfl)
theorem dX1_leg_13 : decode cX1_leg 13 = .ok (.sipush 300, 3) := dk_17 1 44 (dk_at dksX1_leg_0 13 rfl rfl)
theorem dX1_leg_16 : decode cX1_leg 16 = .ok (.invokestatic 93, 3) := dk_184 0 93 (dk_at dksX1_leg_0 16 rfl rfl)
theorem dX1_leg_19 : decode cX1_leg 19 = .ok (.ifCond .eq 14, 3) := dk_153 0 14 (dk_at dksX1_leg_0 19 rfl rfl)
theorem dX1_leg_22 : decode cX1_leg 22 = .ok (.iload_n 3, 1) := dk_29 (dk_at dksX1_leg_0 22 rfl rfl)
theorem dX1_leg_23 : decode cX1_leg 23 = .ok (.iconst 1, 1) := dk_4 (dk_at dksX1_leg_0 23 rfl rfl)
theorem dX1_leg_24 : decode cX1_leg 24 = .ok (.sipush 20000, 3) := dk_17 78 32 (dk_at dksX1_leg_1 0 rfl rfl)
theorem dX1_leg_27 : decode cX1_leg 27 = .ok (.invokestatic 93, 3) := dk_184 0 93 (dk_at dksX1_leg_1 3 rfl rfl)
theorem dX1_leg_30 : decode cX1_leg 30 = .ok (.ifCond .ne 5, 3) := dk_154 0 5 (dk_at dksX1_leg_1 6 rfl rfl)
theorem dX1_leg_33 : decode cX1_leg 33 = .ok (.iconst (-1), 1) := dk_2 (dk_at dksX1_leg_1 9 rfl rfl)
theorem dX1_leg_34 : decode cX1_leg 34 = .ok (.ireturn, 1) := dk_172 (dk_at dksX1_leg_1 10 rfl rfl)
theorem dX1_leg_35 : decode cX1_leg 35 = .ok (.aload_n 0, 1) := dk_42 (dk_at dksX1_leg_1 11 rfl rfl)
theorem dX1_leg_36 : decode cX1_leg 36 = .ok (.bipush (-9), 2) := dk_16 247 (dk_at dksX1_leg_1 12 rfl rfl)
theorem dX1_leg_38 : decode cX1_leg 38 = .ok (.putfield 68, 3) := dk_181 0 68 (dk_at dksX1_leg_1 14 rfl rfl)
theorem dX1_leg_41 : decode cX1_leg 41 = .ok (.aload_n 0, 1) := dk_42 (dk_at dksX1_leg_1 17 rfl rfl)
theorem dX1_leg_42 : decode cX1_leg 42 = .ok (.iconst 0, 1) := dk_3 (dk_at dksX1_leg_1 18 rfl rfl)
theorem dX1_leg_43 : decode cX1_leg 43 = .ok (.putfield 155, 3) := dk_181 0 155 (dk_at dksX1_leg_1 19 rfl rfl)
theorem dX1_leg_46 : decode cX1_leg 46 = .ok (.iconst 0, 1) := dk_3 (dk_at dksX1_leg_1 22 rfl rfl)
theorem dX1_leg_47 : decode cX1_leg 47 = .ok (.istore 4, 2) := dk_54 4 (dk_at dksX1_leg_2 0 rfl rfl)
theorem dX1_leg_49 : decode cX1_leg 49 = .ok (.iconst 0, 1) := dk_3 (dk_at dksX1_leg_2 2 rfl rfl)
theorem dX1_leg_50 : decode cX1_leg 50 = .ok (.istore 5, 2) := dk_54 5 (dk_at dksX1_leg_2 3 rfl rfl)
theorem dX1_leg_52 : decode cX1_leg 52 = .ok (.aload_n 0, 1) := dk_42 (dk_at dksX1_leg_2 5 rfl rfl)
theorem dX1_leg_53 : decode cX1_leg 53 = .ok (.getfield 62, 3) := dk_180 0 62 (dk_at dksX1_leg_2 6 rfl rfl)
theorem dX1_leg_56 : decode cX1_leg 56 = .ok (.iconst 0, 1) := dk_3 (dk_at dksX1_leg_2 9 rfl rfl)
theorem dX1_leg_57 : decode cX1_leg 57 = .ok (.iconst (-1), 1) := dk_2 (dk_at dksX1_leg_2 10 rfl rfl)
theorem dX1_leg_58 : decode cX1_leg 58 = .ok (.iastore, 1) := dk_79 (dk_at dksX1_leg_2 11 rfl rfl)
theorem dX1_leg_59 : decode cX1_leg 59 = .ok (.iload 5, 2) := dk_21 5 (dk_at dksX1_leg_2 12 rfl rfl)
theorem dX1_leg_61 : decode cX1_leg 61 = .ok (.ifCond .lt 234, 3) := dk_155 0 234 (dk_at dksX1_leg_2 14 rfl rfl)
theorem dX1_leg_64 : decode cX1_leg 64 = .ok (.aload_n 0, 1) := dk_42 (dk_at dksX1_leg_2 17 rfl rfl)
theorem dX1_leg_65 : decode cX1_leg 65 = .ok (.getfield 62, 3) := dk_180 0 62 (dk_at dksX1_leg_2 18 rfl rfl)
theorem dX1_leg_68 : decode cX1_leg 68 = .ok (.iload 5, 2) := dk_21 5 (dk_at dksX1_leg_2 21 rfl rfl)
theorem dX1_leg_70 : decode cX1_leg 70 = .ok (.iaload, 1) := dk_46 (dk_at dksX1_leg_2 23 rfl rfl)
theorem dX1_leg_71 : decode cX1_leg 71 = .ok (.iconst 1, 1) := dk_4 (dk_at dksX1_leg_3 0 rfl rfl)
theorem dX1_leg_72 : decode cX1_leg 72 = .ok (.iadd, 1) := dk_96 (dk_at dksX1_leg_3 1 rfl rfl)
theorem dX1_leg_73 : decode cX1_leg 73 = .ok (.istore 6, 2) := dk_54 6 (dk_at dksX1_leg_3 2 rfl rfl)
theorem dX1_leg_75 : decode cX1_leg 75 = .ok (.iload 6, 2) := dk_21 6 (dk_at dksX1_leg_3 4 rfl rfl)
theorem dX1_leg_77 : decode cX1_leg 77 = .ok (.aload_n 0, 1) := dk_42 (dk_at dksX1_leg_3 6 rfl rfl)
theorem dX1_leg_78 : decode cX1_leg 78 = .ok (.getfield 143, 3) := dk_180 0 143 (dk_at dksX1_leg_3 7 rfl rfl)
theorem dX1_leg_81 : decode cX1_leg 81 = .ok (.if_icmp .ge 22, 3) := dk_162 0 22 (dk_at dksX1_leg_3 10 rfl rfl)
theorem dX1_leg_84 : decode cX1_leg 84 = .ok (.aload_n 0, 1) := dk_42 (dk_at dksX1_leg_3 13 rfl rfl)
theorem dX1_leg_85 : decode cX1_leg 85 = .ok (.iload 5, 2) := dk_21 5 (dk_at dksX1_leg_3 14 rfl rfl)
theorem dX1_leg_87 : decode cX1_leg 87 = .ok (.iload 6, 2) := dk_21 6 (dk_at dksX1_leg_3 16 rfl rfl)
theorem dX1_leg_89 : decode cX1_leg 89 = .ok (.iload_n 1, 1) := dk_27 (dk_at dksX1_leg_3 18 rfl rfl)
theorem dX1_leg_90 : decode cX1_leg 90 = .ok (.iload_n 2, 1) := dk_28 (dk_at dksX1_leg_3 19 rfl rfl)
theorem dX1_leg_91 : decode cX1_leg 91 = .ok (.invokevirtual 158, 3) := dk_182 0 158 (dk_at dksX1_leg_3 20 rfl rfl)
theorem dX1_leg_94 : decode cX1_leg 94 = .ok (.ifCond .ne 9, 3) := dk_154 0 9 (dk_at dksX1_leg_4 0 rfl rfl)
theorem dX1_leg_97 : decode cX1_leg 97 = .ok (.iinc 6 1, 3) := dk_132 6 1 (dk_at dksX1_leg_4 3 rfl rfl)
theorem dX1_leg_100 : decode cX1_leg 100 = .ok (.goto (-25), 3) := dk_167 255 231 (dk_at dksX1_leg_4 6 rfl rfl)
theorem dX1_leg_103 : decode cX1_leg 103 = .ok (.iload 6, 2) := dk_21 6 (dk_at dksX1_leg_4 9 rfl rfl)
theorem dX1_leg_105 : decode cX1_leg 105 = .ok (.aload_n 0, 1) := dk_42 (dk_at dksX1_leg_4 11 rfl rfl)
theorem dX1_leg_106 : decode cX1_leg 106 = .ok (.getfield 143, 3) := dk_180 0 143 (dk_at dksX1_leg_4 12 rfl rfl)
theorem dX1_leg_109 : decode cX1_leg 109 = .ok (.if_icmp .ne 9, 3) := dk_160 0 9 (dk_at dksX1_leg_4 15 rfl rfl)
theorem dX1_leg_112 : decode cX1_leg 112 = .ok (.iinc 5 (-1), 3) := dk_132 5 255 (dk_at dksX1_leg_4 18 rfl rfl)
theorem dX1_leg_115 : decode cX1_leg 115 = .ok (.goto (-56), 3) := dk_167 255 200 (dk_at dksX1_leg_4 21 rfl rfl)
theorem dX1_leg_118 : decode cX1_leg 118 = .ok (.aload_n 0, 1) := dk_42 (dk_at dksX1_leg_5 0 rfl rfl)
theorem dX1_leg_119 : decode cX1_leg 119 = .ok (.getfield 155, 3) := dk_180 0 155 (dk_at dksX1_leg_5 1 rfl rfl)
theorem dX1_leg_122 : decode cX1_leg 122 = .ok (.iload_n 3, 1) := dk_29 (dk_at dksX1_leg_5 4 rfl rfl)
theorem dX1_leg_123 : decode cX1_leg 123 = .ok (.if_icmp .ne 12, 3) := dk_160 0 12 (dk_at dksX1_leg_5 5 rfl rfl)
theorem dX1_leg_126 : decode cX1_leg 126 = .ok (.aload_n 0, 1) := dk_42 (dk_at dksX1_leg_5 8 rfl rfl)
theorem dX1_leg_127 : decode cX1_leg 127 = .ok (.bipush (-9), 2) := dk_16 247 (dk_at dksX1_leg_5 9 rfl rfl)
theorem dX1_leg_129 : decode cX1_leg 129 = .ok (.putfield 68, 3) := dk_181 0 68 (dk_at dksX1_leg_5 11 rfl rfl)
theorem dX1_leg_132 : decode cX1_leg 132 = .ok (.bipush (-6), 2) := dk_16 250 (dk_at dksX1_leg_5 14 rfl rfl)
theorem dX1_leg_134 : decode cX1_leg 134 = .ok (.ireturn, 1) := dk_172 (dk_at dksX1_leg_5 16 rfl rfl)
theorem dX1_leg_135 : decode cX1_leg 135 = .ok (.aload_n 0, 1) := dk_42 (dk_at dksX1_leg_5 17 rfl rfl)
theorem dX1_leg_136 : decode cX1_leg 136 = .ok (.dup, 1) := dk_89 (dk_at dksX1_leg_5 18 rfl rfl)
theorem dX1_leg_137 : decode cX1_leg 137 = .ok (.getfield 155, 3) := dk_180 0 155 (dk_at dksX1_leg_5 19 rfl rfl)
theorem dX1_leg_140 : decode cX1_leg 140 = .ok (.iconst 1, 1) := dk_4 (dk_at dksX1_leg_5 22 rfl rfl)
theorem dX1_leg_141 : decode cX1_leg 141 = .ok (.iadd, 1) := dk_96 (dk_at dksX1_leg_5 23 rfl rfl)
theorem dX1_leg_142 : decode cX1_leg 142 = .ok (.putfield 155, 3) := dk_181 0 155 (dk_at dksX1_leg_6 0 rfl rfl)
theorem dX1_leg_145 : decode cX1_leg 145 = .ok (.aload_n 0, 1) := dk_42 (dk_at dksX1_leg_6 3 rfl rfl)
theorem dX1_leg_146 : decode cX1_leg 146 = .ok (.getfield 62, 3) := dk_180 0 62 (dk_at dksX1_leg_6 4 rfl rfl)
theorem dX1_leg_149 : decode cX1_leg 149 = .ok (.iload 5, 2) := dk_21 5 (dk_at dksX1_leg_6 7 rfl rfl)
theorem dX1_leg_151 : decode cX1_leg 151 = .ok (.iload 6, 2) := dk_21 6 (dk_at dksX1_leg_6 9 rfl rfl)
theorem dX1_leg_153 : decode cX1_leg 153 = .ok (.iastore, 1) := dk_79 (dk_at dksX1_leg_6 11 rfl rfl)
theorem dX1_leg_154 : decode cX1_leg 154 = .ok (.aload_n 0, 1) := dk_42 (dk_at dksX1_leg_6 12 rfl rfl)
theorem dX1_leg_155 : decode cX1_leg 155 = .ok (.getfield 38, 3) := dk_180 0 38 (dk_at dksX1_leg_6 13 rfl rfl)
theorem dX1_leg_158 : decode cX1_leg 158 = .ok (.iload 6, 2) := dk_21 6 (dk_at dksX1_leg_6 16 rfl rfl)
theorem dX1_leg_160 : decode cX1_leg 160 = .ok (.iaload, 1) := dk_46 (dk_at dksX1_leg_6 18 rfl rfl)
theorem dX1_leg_161 : decode cX1_leg 161 = .ok (.iconst 3, 1) := dk_6 (dk_at dksX1_leg_6 19 rfl rfl)
theorem dX1_leg_162 : decode cX1_leg 162 = .ok (.if_icmp .eq 17, 3) := dk_159 0 17 (dk_at dksX1_leg_6 20 rfl rfl)
theorem dX1_leg_165 : decode cX1_leg 165 = .ok (.iinc 5 1, 3) := dk_132 5 1 (dk_at dksX1_leg_7 0 rfl rfl)
theorem dX1_leg_168 : decode cX1_leg 168 = .ok (.aload_n 0, 1) := dk_42 (dk_at dksX1_leg_7 3 rfl rfl)
theorem dX1_leg_169 : decode cX1_leg 169 = .ok (.getfield 62, 3) := dk_180 0 62 (dk_at dksX1_leg_7 4 rfl rfl)
theorem dX1_leg_172 : decode cX1_leg 172 = .ok (.iload 5, 2) := dk_21 5 (dk_at dksX1_leg_7 7 rfl rfl)
theorem dX1_leg_174 : decode cX1_leg 174 = .ok (.iconst (-1), 1) := dk_2 (dk_at dksX1_leg_7 9 rfl rfl)
theorem dX1_leg_175 : decode cX1_leg 175 = .ok (.iastore, 1) := dk_79 (dk_at dksX1_leg_7 10 rfl rfl)
theorem dX1_leg_176 : decode cX1_leg 176 = .ok (.goto 116, 3) := dk_167 0 116 (dk_at dksX1_leg_7 11 rfl rfl)
theorem dX1_leg_179 : decode cX1_leg 179 = .ok (.aload_n 0, 1) := dk_42 (dk_at dksX1_leg_7 14 rfl rfl)
theorem dX1_leg_180 : decode cX1_leg 180 = .ok (.iload 5, 2) := dk_21 5 (dk_at dksX1_leg_7 15 rfl rfl)
theorem dX1_leg_182 : decode cX1_leg 182 = .ok (.iconst 1, 1) := dk_4 (dk_at dksX1_leg_7 17 rfl rfl)
theorem dX1_leg_183 : decode cX1_leg 183 = .ok (.iadd, 1) := dk_96 (dk_at dksX1_leg_7 18 rfl rfl)
theorem dX1_leg_184 : decode cX1_leg 184 = .ok (.iconst 0, 1) := dk_3 (dk_at dksX1_leg_7 19 rfl rfl)
theorem dX1_leg_185 : decode cX1_leg 185 = .ok (.invokevirtual 162, 3) := dk_182 0 162 (dk_at dksX1_leg_7 20 rfl rfl)
theorem dX1_leg_188 : decode cX1_leg 188 = .ok (.iload_n 1, 1) := dk_27 (dk_at dksX1_leg_7 23 rfl rfl)
theorem dX1_leg_189 : decode cX1_leg 189 = .ok (.if_icmp .lt 103, 3) := dk_161 0 103 (dk_at dksX1_leg_8 0 rfl rfl)
theorem dX1_leg_192 : decode cX1_leg 192 = .ok (.aload_n 0, 1) := dk_42 (dk_at dksX1_leg_8 3 rfl rfl)
theorem dX1_leg_193 : decode cX1_leg 193 = .ok (.iload 5, 2) := dk_21 5 (dk_at dksX1_leg_8 4 rfl rfl)
theorem dX1_leg_195 : decode cX1_leg 195 = .ok (.iconst 1, 1) := dk_4 (dk_at dksX1_leg_8 6 rfl rfl)
theorem dX1_leg_196 : decode cX1_leg 196 = .ok (.iadd, 1) := dk_96 (dk_at dksX1_leg_8 7 rfl rfl)
theorem dX1_leg_197 : decode cX1_leg 197 = .ok (.iconst 1, 1) := dk_4 (dk_at dksX1_leg_8 8 rfl rfl)
theorem dX1_leg_198 : decode cX1_leg 198 = .ok (.invokevirtual 162, 3) := dk_182 0 162 (dk_at dksX1_leg_8 9 rfl rfl)
theorem dX1_leg_201 : decode cX1_leg 201 = .ok (.istore 7, 2) := dk_54 7 (dk_at dksX1_leg_8 12 rfl rfl)
theorem dX1_leg_203 : decode cX1_leg 203 = .ok (.aload_n 0, 1) := dk_42 (dk_at dksX1_leg_8 14 rfl rfl)
theorem dX1_leg_204 : decode cX1_leg 204 = .ok (.getfield 68, 3) := dk_180 0 68 (dk_at dksX1_leg_8 15 rfl rfl)
theorem dX1_leg_207 : decode cX1_leg 207 = .ok (.ifCond .lt 28, 3) := dk_155 0 28 (dk_at dksX1_leg_8 18 rfl rfl)
theorem dX1_leg_210 : decode cX1_leg 210 = .ok (.iload 7, 2) := dk_21 7 (dk_at dksX1_leg_8 21 rfl rfl)
theorem dX1_leg_212 : decode cX1_leg 212 = .ok (.iload 4, 2) := dk_21 4 (dk_at dksX1_leg_9 0 rfl rfl)
theorem dX1_leg_214 : decode cX1_leg 214 = .ok (.if_icmp .lt 21, 3) := dk_161 0 21 (dk_at dksX1_leg_9 2 rfl rfl)
theorem dX1_leg_217 : decode cX1_leg 217 = .ok (.iload 7, 2) := dk_21 7 (dk_at dksX1_leg_9 5 rfl rfl)
theorem dX1_leg_219 : decode cX1_leg 219 = .ok (.iload 4, 2) := dk_21 4 (dk_at dksX1_leg_9 7 rfl rfl)
theorem dX1_leg_221 : decode cX1_leg 221 = .ok (.if_icmp .ne 71, 3) := dk_160 0 71 (dk_at dksX1_leg_9 9 rfl rfl)
theorem dX1_leg_224 : decode cX1_leg 224 = .ok (.iload 5, 2) := dk_21 5 (dk_at dksX1_leg_9 12 rfl rfl)
theorem dX1_leg_226 : decode cX1_leg 226 = .ok (.iconst 1, 1) := dk_4 (dk_at dksX1_leg_9 14 rfl rfl)
theorem dX1_leg_227 : decode cX1_leg 227 = .ok (.iadd, 1) := dk_96 (dk_at dksX1_leg_9 15 rfl rfl)
theorem dX1_leg_228 : decode cX1_leg 228 = .ok (.aload_n 0, 1) := dk_42 (dk_at dksX1_leg_9 16 rfl rfl)
theorem dX1_leg_229 : decode cX1_leg 229 = .ok (.getfield 68, 3) := dk_180 0 68 (dk_at dksX1_leg_9 17 rfl rfl)
theorem dX1_leg_232 : decode cX1_leg 232 = .ok (.if_icmp .ge 60, 3) := dk_162 0 60 (dk_at dksX1_leg_9 20 rfl rfl)
theorem dX1_leg_235 : decode cX1_leg 235 = .ok (.aload_n 0, 1) := dk_42 (dk_at dksX1_leg_9 23 rfl rfl)
theorem dX1_leg_236 : decode cX1_leg 236 = .ok (.iload 5, 2) := dk_21 5 (dk_at dksX1_leg_10 0 rfl rfl)
theorem dX1_leg_238 : decode cX1_leg 238 = .ok (.iconst 1, 1) := dk_4 (dk_at dksX1_leg_10 2 rfl rfl)
theorem dX1_leg_239 : decode cX1_leg 239 = .ok (.iadd, 1) := dk_96 (dk_at dksX1_leg_10 3 rfl rfl)
theorem dX1_leg_240 : decode cX1_leg 240 = .ok (.putfield 68, 3) := dk_181 0 68 (dk_at dksX1_leg_10 4 rfl rfl)
theorem dX1_leg_243 : decode cX1_leg 243 = .ok (.iload 7, 2) := dk_21 7 (dk_at dksX1_leg_10 7 rfl rfl)
theorem dX1_leg_245 : decode cX1_leg 245 = .ok (.istore 4, 2) := dk_54 4 (dk_at dksX1_leg_10 9 rfl rfl)
theorem dX1_leg_247 : decode cX1_leg 247 = .ok (.aload_n 0, 1) := dk_42 (dk_at dksX1_leg_10 11 rfl rfl)
theorem dX1_leg_248 : decode cX1_leg 248 = .ok (.aload_n 0, 1) := dk_42 (dk_at dksX1_leg_10 12 rfl rfl)
theorem dX1_leg_249 : decode cX1_leg 249 = .ok (.iload 5, 2) := dk_21 5 (dk_at dksX1_leg_10 13 rfl rfl)
theorem dX1_leg_251 : decode cX1_leg 251 = .ok (.iconst 1, 1) := dk_4 (dk_at dksX1_leg_10 15 rfl rfl)
theorem dX1_leg_252 : decode cX1_leg 252 = .ok (.iadd, 1) := dk_96 (dk_at dksX1_leg_10 16 rfl rfl)
theorem dX1_leg_253 : decode cX1_leg 253 = .ok (.iconst 0, 1) := dk_3 (dk_at dksX1_leg_10 17 rfl rfl)
theorem dX1_leg_254 : decode cX1_leg 254 = .ok (.invokevirtual 162, 3) := dk_182 0 162 (dk_at dksX1_leg_10 18 rfl rfl)
theorem dX1_leg_257 : decode cX1_leg 257 = .ok (.iload_n 1, 1) := dk_27 (dk_at dksX1_leg_10 21 rfl rfl)
theorem dX1_leg_258 : decode cX1_leg 258 = .ok (.isub, 1) := dk_100 (dk_at dksX1_leg_10 22 rfl rfl)
theorem dX1_leg_259 : decode cX1_leg 259 = .ok (.putfield 165, 3) := dk_181 0 165 (dk_at dksX1_leg_11 0 rfl rfl)
theorem dX1_leg_262 : decode cX1_leg 262 = .ok (.iconst 0, 1) := dk_3 (dk_at dksX1_leg_11 3 rfl rfl)
theorem dX1_leg_263 : decode cX1_leg 263 = .ok (.istore 8, 2) := dk_54 8 (dk_at dksX1_leg_11 4 rfl rfl)
theorem dX1_leg_265 : decode cX1_leg 265 = .ok (.iload 8, 2) := dk_21 8 (dk_at dksX1_leg_11 6 rfl rfl)
theorem dX1_leg_267 : decode cX1_leg 267 = .ok (.iload 5, 2) := dk_21 5 (dk_at dksX1_leg_11 8 rfl rfl)
theorem dX1_leg_269 : decode cX1_leg 269 = .ok (.if_icmp .gt 23, 3) := dk_163 0 23 (dk_at dksX1_leg_11 10 rfl rfl)
theorem dX1_leg_272 : decode cX1_leg 272 = .ok (.aload_n 0, 1) := dk_42 (dk_at dksX1_leg_11 13 rfl rfl)
theorem dX1_leg_273 : decode cX1_leg 273 = .ok (.getfield 65, 3) := dk_180 0 65 (dk_at dksX1_leg_11 14 rfl rfl)
theorem dX1_leg_276 : decode cX1_leg 276 = .ok (.iload 8, 2) := dk_21 8 (dk_at dksX1_leg_11 17 rfl rfl)
theorem dX1_leg_278 : decode cX1_leg 278 = .ok (.aload_n 0, 1) := dk_42 (dk_at dksX1_leg_11 19 rfl rfl)
theorem dX1_leg_279 : decode cX1_leg 279 = .ok (.getfield 62, 3) := dk_180 0 62 (dk_at dksX1_leg_11 20 rfl rfl)
theorem dX1_leg_282 : decode cX1_leg 282 = .ok (.iload 8, 2) := dk_21 8 (dk_at dksX1_leg_12 0 rfl rfl)
theorem dX1_leg_284 : decode cX1_leg 284 = .ok (.iaload, 1) := dk_46 (dk_at dksX1_leg_12 2 rfl rfl)
theorem dX1_leg_285 : decode cX1_leg 285 = .ok (.iastore, 1) := dk_79 (dk_at dksX1_leg_12 3 rfl rfl)
theorem dX1_leg_286 : decode cX1_leg 286 = .ok (.iinc 8 1, 3) := dk_132 8 1 (dk_at dksX1_leg_12 4 rfl rfl)
theorem dX1_leg_289 : decode cX1_leg 289 = .ok (.goto (-24), 3) := dk_167 255 232 (dk_at dksX1_leg_12 7 rfl rfl)
theorem dX1_leg_292 : decode cX1_leg 292 = .ok (.goto (-233), 3) := dk_167 255 23 (dk_at dksX1_leg_12 10 rfl rfl)
theorem dX1_leg_295 : decode cX1_leg 295 = .ok (.aload_n 0, 1) := dk_42 (dk_at dksX1_leg_12 13 rfl rfl)
theorem dX1_leg_296 : decode cX1_leg 296 = .ok (.getfield 68, 3) := dk_180 0 68 (dk_at dksX1_leg_12 14 rfl rfl)
theorem dX1_leg_299 : decode cX1_leg 299 = .ok (.ifCond .ge 8, 3) := dk_156 0 8 (dk_at dksX1_leg_12 17 rfl rfl)
theorem dX1_leg_302 : decode cX1_leg 302 = .ok (.bipush (-9), 2) := dk_16 247 (dk_at dksX1_leg_12 20 rfl rfl)
theorem dX1_leg_304 : decode cX1_leg 304 = .ok (.goto 5, 3) := dk_167 0 5 (dk_at dksX1_leg_13 0 rfl rfl)
theorem dX1_leg_307 : decode cX1_leg 307 = .ok (.iload 4, 2) := dk_21 4 (dk_at dksX1_leg_13 3 rfl rfl)
theorem dX1_leg_309 : decode cX1_leg 309 = .ok (.ireturn, 1) := dk_172 (dk_at dksX1_leg_13 5 rfl rfl)
abbrev cX1_mayCome : ByteArray := prog_12_method_34_code
def yX1_mayCome : MethodName := ⟨RX1, "mayCome", "(IIII)Z"⟩
def dkwX1_mayCome_7 : List UInt8 := [132, 7, 1, 167, 255, 168, 21, 5, 153, 0, 13, 21, 6, 29, 163, 0, 7, 4, 167, 0, 4, 3, 172]
abbrev dktX1_mayCome_7 : List UInt8 := dkwX1_mayCome_7 ++ []
def dkwX1_mayCome_6 : List UInt8 := [180, 0, 62, 21, 7, 46, 46, 42, 180, 0, 56, 42, 180, 0, 62, 21, 7, 46, 46, 100, 96, 54, 6]
abbrev dktX1_mayCome_6 : List UInt8 := dkwX1_mayCome_6 ++ dktX1_mayCome_7
def dkwX1_mayCome_5 : List UInt8 := [180, 0, 38, 28, 46, 5, 159, 0, 7, 4, 167, 0, 4, 3, 54, 5, 21, 6, 42, 180, 0, 41, 42]
abbrev dktX1_mayCome_5 : List UInt8 := dkwX1_mayCome_5 ++ dktX1_mayCome_6
def dkwX1_mayCome_4 : List UInt8 := [46, 28, 159, 0, 33, 42, 180, 0, 38, 42, 180, 0, 62, 21, 7, 46, 46, 5, 160, 0, 13, 42]
abbrev dktX1_mayCome_4 : List UInt8 := dkwX1_mayCome_4 ++ dktX1_mayCome_5
def dkwX1_mayCome_3 : List UInt8 := [46, 100, 54, 6, 3, 54, 7, 21, 7, 27, 162, 0, 88, 21, 5, 153, 0, 44, 42, 180, 0, 62, 21, 7]
abbrev dktX1_mayCome_3 : List UInt8 := dkwX1_mayCome_3 ++ dktX1_mayCome_4
def dkwX1_mayCome_2 : List UInt8 := [182, 0, 152, 154, 0, 7, 4, 167, 0, 4, 3, 54, 5, 42, 180, 0, 41, 28, 46, 42, 180, 0, 56, 28]
abbrev dktX1_mayCome_2 : List UInt8 := dkwX1_mayCome_2 ++ dktX1_mayCome_3
def dkwX1_mayCome_1 : List UInt8 := [42, 180, 0, 38, 28, 46, 4, 160, 0, 26, 167, 0, 19, 42, 42, 180, 0, 62, 27, 4, 100, 46, 28]
abbrev dktX1_mayCome_1 : List UInt8 := dkwX1_mayCome_1 ++ dktX1_mayCome_2
def dkwX1_mayCome_0 : List UInt8 := [42, 180, 0, 44, 28, 46, 21, 4, 161, 0, 49, 42, 180, 0, 59, 28, 51, 154, 0, 40, 27, 154, 0, 16]
abbrev dktX1_mayCome_0 : List UInt8 := dkwX1_mayCome_0 ++ dktX1_mayCome_1
theorem dksX1_mayCome_0 : cX1_mayCome.data.toList.drop 0 = dktX1_mayCome_0 := by decide +kernel
theorem dksX1_mayCome_1 : cX1_mayCome.data.toList.drop 24 = dktX1_mayCome_1 := dk_seg dksX1_mayCome_0 24 rfl rfl
theorem dksX1_mayCome_2 : cX1_mayCome.data.toList.drop 47 = dktX1_mayCome_2 := dk_seg dksX1_mayCome_1 23 rfl rfl
theorem dksX1_mayCome_3 : cX1_mayCome.data.toList.drop 71 = dktX1_mayCome_3 := dk_seg dksX1_mayCome_2 24 rfl rfl
theorem dksX1_mayCome_4 : cX1_mayCome.data.toList.drop 95 = dktX1_mayCome_4 := dk_seg dksX1_mayCome_3 24 rfl rfl
theorem dksX1_mayCome_5 : cX1_mayCome.data.toList.drop 117 = dktX1_mayCome_5 := dk_seg dksX1_mayCome_4 22 rfl rfl
theorem dksX1_mayCome_6 : cX1_mayCome.data.toList.drop 140 = dktX1_mayCome_6 := dk_seg dksX1_mayCome_5 23 rfl rfl
theorem dksX1_mayCome_7 : cX1_mayCome.data.toList.drop 163 = dktX1_mayCome_7 := dk_seg dksX1_mayCome_6 23 rfl rfl
theorem dX1_mayCome_0 : decode cX1_mayCome 0 = .ok (.aload_n 0, 1) := dk_42 (dk_at dksX1_mayCome_0 0 rfl rfl)
theorem dX1_mayCome_1 : decode cX1_mayCome 1 = .ok (.getfield 44, 3) := dk_180 0 44 (dk_at dksX1_mayCome_0 1 rfl rfl)
theorem dX1_mayCome_4 : decode cX1_mayCome 4 = .ok (.iload_n 2, 1) := dk_28 (dk_at dksX1_mayCome_0 4 rfl rfl)
theorem dX1_mayCome_5 : decode cX1_mayCome 5 = .ok (.iaload, 1) := dk_46 (dk_at dksX1_mayCome_0 5 rfl rfl)
theorem dX1_mayCome_6 : decode cX1_mayCome 6 = .ok (.iload 4, 2) := dk_21 4 (dk_at dksX1_mayCome_0 6 rfl rfl)
theorem dX1_mayCome_8 : decode cX1_mayCome 8 = .ok (.if_icmp .lt 49, 3) := dk_161 0 49 (dk_at dksX1_mayCome_0 8 rfl rfl)
theorem dX1_mayCome_11 : decode cX1_mayCome 11 = .ok (.aload_n 0, 1) := dk_42 (dk_at dksX1_mayCome_0 11 rfl rfl)
theorem dX1_mayCome_12 : decode cX1_mayCome 12 = .ok (.getfield 59, 3) := dk_180 0 59 (dk_at dksX1_mayCome_0 12 rfl rfl)
theorem dX1_mayCome_15 : decode cX1_mayCome 15 = .ok (.iload_n 2, 1) := dk_28 (dk_at dksX1_mayCome_0 15 rfl rfl)
theorem dX1_mayCome_16 : decode cX1_mayCome 16 = .ok (.baload, 1) := dk_51 (dk_at dksX1_mayCome_0 16 rfl rfl)
theorem dX1_mayCome_17 : decode cX1_mayCome 17 = .ok (.ifCond .ne 40, 3) := dk_154 0 40 (dk_at dksX1_mayCome_0 17 rfl rfl)
theorem dX1_mayCome_20 : decode cX1_mayCome 20 = .ok (.iload_n 1, 1) := dk_27 (dk_at dksX1_mayCome_0 20 rfl rfl)
theorem dX1_mayCome_21 : decode cX1_mayCome 21 = .ok (.ifCond .ne 16, 3) := dk_154 0 16 (dk_at dksX1_mayCome_0 21 rfl rfl)
theorem dX1_mayCome_24 : decode cX1_mayCome 24 = .ok (.aload_n 0, 1) := dk_42 (dk_at dksX1_mayCome_1 0 rfl rfl)
theorem dX1_mayCome_25 : decode cX1_mayCome 25 = .ok (.getfield 38, 3) := dk_180 0 38 (dk_at dksX1_mayCome_1 1 rfl rfl)
theorem dX1_mayCome_28 : decode cX1_mayCome 28 = .ok (.iload_n 2, 1) := dk_28 (dk_at dksX1_mayCome_1 4 rfl rfl)
theorem dX1_mayCome_29 : decode cX1_mayCome 29 = .ok (.iaload, 1) := dk_46 (dk_at dksX1_mayCome_1 5 rfl rfl)
theorem dX1_mayCome_30 : decode cX1_mayCome 30 = .ok (.iconst 1, 1) := dk_4 (dk_at dksX1_mayCome_1 6 rfl rfl)
theorem dX1_mayCome_31 : decode cX1_mayCome 31 = .ok (.if_icmp .ne 26, 3) := dk_160 0 26 (dk_at dksX1_mayCome_1 7 rfl rfl)
theorem dX1_mayCome_34 : decode cX1_mayCome 34 = .ok (.goto 19, 3) := dk_167 0 19 (dk_at dksX1_mayCome_1 10 rfl rfl)
theorem dX1_mayCome_37 : decode cX1_mayCome 37 = .ok (.aload_n 0, 1) := dk_42 (dk_at dksX1_mayCome_1 13 rfl rfl)
theorem dX1_mayCome_38 : decode cX1_mayCome 38 = .ok (.aload_n 0, 1) := dk_42 (dk_at dksX1_mayCome_1 14 rfl rfl)
theorem dX1_mayCome_39 : decode cX1_mayCome 39 = .ok (.getfield 62, 3) := dk_180 0 62 (dk_at dksX1_mayCome_1 15 rfl rfl)
theorem dX1_mayCome_42 : decode cX1_mayCome 42 = .ok (.iload_n 1, 1) := dk_27 (dk_at dksX1_mayCome_1 18 rfl rfl)
theorem dX1_mayCome_43 : decode cX1_mayCome 43 = .ok (.iconst 1, 1) := dk_4 (dk_at dksX1_mayCome_1 19 rfl rfl)
theorem dX1_mayCome_44 : decode cX1_mayCome 44 = .ok (.isub, 1) := dk_100 (dk_at dksX1_mayCome_1 20 rfl rfl)
theorem dX1_mayCome_45 : decode cX1_mayCome 45 = .ok (.iaload, 1) := dk_46 (dk_at dksX1_mayCome_1 21 rfl rfl)
theorem dX1_mayCome_46 : decode cX1_mayCome 46 = .ok (.iload_n 2, 1) := dk_28 (dk_at dksX1_mayCome_1 22 rfl rfl)
theorem dX1_mayCome_47 : decode cX1_mayCome 47 = .ok (.invokevirtual 152, 3) := dk_182 0 152 (dk_at dksX1_mayCome_2 0 rfl rfl)
theorem dX1_mayCome_50 : decode cX1_mayCome 50 = .ok (.ifCond .ne 7, 3) := dk_154 0 7 (dk_at dksX1_mayCome_2 3 rfl rfl)
theorem dX1_mayCome_53 : decode cX1_mayCome 53 = .ok (.iconst 1, 1) := dk_4 (dk_at dksX1_mayCome_2 6 rfl rfl)
theorem dX1_mayCome_54 : decode cX1_mayCome 54 = .ok (.goto 4, 3) := dk_167 0 4 (dk_at dksX1_mayCome_2 7 rfl rfl)
theorem dX1_mayCome_57 : decode cX1_mayCome 57 = .ok (.iconst 0, 1) := dk_3 (dk_at dksX1_mayCome_2 10 rfl rfl)
theorem dX1_mayCome_58 : decode cX1_mayCome 58 = .ok (.istore 5, 2) := dk_54 5 (dk_at dksX1_mayCome_2 11 rfl rfl)
theorem dX1_mayCome_60 : decode cX1_mayCome 60 = .ok (.aload_n 0, 1) := dk_42 (dk_at dksX1_mayCome_2 13 rfl rfl)
theorem dX1_mayCome_61 : decode cX1_mayCome 61 = .ok (.getfield 41, 3) := dk_180 0 41 (dk_at dksX1_mayCome_2 14 rfl rfl)
theorem dX1_mayCome_64 : decode cX1_mayCome 64 = .ok (.iload_n 2, 1) := dk_28 (dk_at dksX1_mayCome_2 17 rfl rfl)
theorem dX1_mayCome_65 : decode cX1_mayCome 65 = .ok (.iaload, 1) := dk_46 (dk_at dksX1_mayCome_2 18 rfl rfl)
theorem dX1_mayCome_66 : decode cX1_mayCome 66 = .ok (.aload_n 0, 1) := dk_42 (dk_at dksX1_mayCome_2 19 rfl rfl)
theorem dX1_mayCome_67 : decode cX1_mayCome 67 = .ok (.getfield 56, 3) := dk_180 0 56 (dk_at dksX1_mayCome_2 20 rfl rfl)
theorem dX1_mayCome_70 : decode cX1_mayCome 70 = .ok (.iload_n 2, 1) := dk_28 (dk_at dksX1_mayCome_2 23 rfl rfl)
theorem dX1_mayCome_71 : decode cX1_mayCome 71 = .ok (.iaload, 1) := dk_46 (dk_at dksX1_mayCome_3 0 rfl rfl)
theorem dX1_mayCome_72 : decode cX1_mayCome 72 = .ok (.isub, 1) := dk_100 (dk_at dksX1_mayCome_3 1 rfl rfl)
theorem dX1_mayCome_73 : decode cX1_mayCome 73 = .ok (.istore 6, 2) := dk_54 6 (dk_at dksX1_mayCome_3 2 rfl rfl)
theorem dX1_mayCome_75 : decode cX1_mayCome 75 = .ok (.iconst 0, 1) := dk_3 (dk_at dksX1_mayCome_3 4 rfl rfl)
theorem dX1_mayCome_76 : decode cX1_mayCome 76 = .ok (.istore 7, 2) := dk_54 7 (dk_at dksX1_mayCome_3 5 rfl rfl)
theorem dX1_mayCome_78 : decode cX1_mayCome 78 = .ok (.iload 7, 2) := dk_21 7 (dk_at dksX1_mayCome_3 7 rfl rfl)
theorem dX1_mayCome_80 : decode cX1_mayCome 80 = .ok (.iload_n 1, 1) := dk_27 (dk_at dksX1_mayCome_3 9 rfl rfl)
theorem dX1_mayCome_81 : decode cX1_mayCome 81 = .ok (.if_icmp .ge 88, 3) := dk_162 0 88 (dk_at dksX1_mayCome_3 10 rfl rfl)
theorem dX1_mayCome_84 : decode cX1_mayCome 84 = .ok (.iload 5, 2) := dk_21 5 (dk_at dksX1_mayCome_3 13 rfl rfl)
theorem dX1_mayCome_86 : decode cX1_mayCome 86 = .ok (.ifCond .eq 44, 3) := dk_153 0 44 (dk_at dksX1_mayCome_3 15 rfl rfl)
theorem dX1_mayCome_89 : decode cX1_mayCome 89 = .ok (.aload_n 0, 1) := dk_42 (dk_at dksX1_mayCome_3 18 rfl rfl)
theorem dX1_mayCome_90 : decode cX1_mayCome 90 = .ok (.getfield 62, 3) := dk_180 0 62 (dk_at dksX1_mayCome_3 19 rfl rfl)
theorem dX1_mayCome_93 : decode cX1_mayCome 93 = .ok (.iload 7, 2) := dk_21 7 (dk_at dksX1_mayCome_3 22 rfl rfl)
theorem dX1_mayCome_95 : decode cX1_mayCome 95 = .ok (.iaload, 1) := dk_46 (dk_at dksX1_mayCome_4 0 rfl rfl)
theorem dX1_mayCome_96 : decode cX1_mayCome 96 = .ok (.iload_n 2, 1) := dk_28 (dk_at dksX1_mayCome_4 1 rfl rfl)
theorem dX1_mayCome_97 : decode cX1_mayCome 97 = .ok (.if_icmp .eq 33, 3) := dk_159 0 33 (dk_at dksX1_mayCome_4 2 rfl rfl)
theorem dX1_mayCome_100 : decode cX1_mayCome 100 = .ok (.aload_n 0, 1) := dk_42 (dk_at dksX1_mayCome_4 5 rfl rfl)
theorem dX1_mayCome_101 : decode cX1_mayCome 101 = .ok (.getfield 38, 3) := dk_180 0 38 (dk_at dksX1_mayCome_4 6 rfl rfl)
theorem dX1_mayCome_104 : decode cX1_mayCome 104 = .ok (.aload_n 0, 1) := dk_42 (dk_at dksX1_mayCome_4 9 rfl rfl)
theorem dX1_mayCome_105 : decode cX1_mayCome 105 = .ok (.getfield 62, 3) := dk_180 0 62 (dk_at dksX1_mayCome_4 10 rfl rfl)
theorem dX1_mayCome_108 : decode cX1_mayCome 108 = .ok (.iload 7, 2) := dk_21 7 (dk_at dksX1_mayCome_4 13 rfl rfl)
theorem dX1_mayCome_110 : decode cX1_mayCome 110 = .ok (.iaload, 1) := dk_46 (dk_at dksX1_mayCome_4 15 rfl rfl)
theorem dX1_mayCome_111 : decode cX1_mayCome 111 = .ok (.iaload, 1) := dk_46 (dk_at dksX1_mayCome_4 16 rfl rfl)
theorem dX1_mayCome_112 : decode cX1_mayCome 112 = .ok (.iconst 2, 1) := dk_5 (dk_at dksX1_mayCome_4 17 rfl rfl)
theorem dX1_mayCome_113 : decode cX1_mayCome 113 = .ok (.if_icmp .ne 13, 3) := dk_160 0 13 (dk_at dksX1_mayCome_4 18 rfl rfl)
theorem dX1_mayCome_116 : decode cX1_mayCome 116 = .ok (.aload_n 0, 1) := dk_42 (dk_at dksX1_mayCome_4 21 rfl rfl)
theorem dX1_mayCome_117 : decode cX1_mayCome 117 = .ok (.getfield 38, 3) := dk_180 0 38 (dk_at dksX1_mayCome_5 0 rfl rfl)
theorem dX1_mayCome_120 : decode cX1_mayCome 120 = .ok (.iload_n 2, 1) := dk_28 (dk_at dksX1_mayCome_5 3 rfl rfl)
theorem dX1_mayCome_121 : decode cX1_mayCome 121 = .ok (.iaload, 1) := dk_46 (dk_at dksX1_mayCome_5 4 rfl rfl)
theorem dX1_mayCome_122 : decode cX1_mayCome 122 = .ok (.iconst 2, 1) := dk_5 (dk_at dksX1_mayCome_5 5 rfl rfl)
theorem dX1_mayCome_123 : decode cX1_mayCome 123 = .ok (.if_icmp .eq 7, 3) := dk_159 0 7 (dk_at dksX1_mayCome_5 6 rfl rfl)
theorem dX1_mayCome_126 : decode cX1_mayCome 126 = .ok (.iconst 1, 1) := dk_4 (dk_at dksX1_mayCome_5 9 rfl rfl)
theorem dX1_mayCome_127 : decode cX1_mayCome 127 = .ok (.goto 4, 3) := dk_167 0 4 (dk_at dksX1_mayCome_5 10 rfl rfl)
theorem dX1_mayCome_130 : decode cX1_mayCome 130 = .ok (.iconst 0, 1) := dk_3 (dk_at dksX1_mayCome_5 13 rfl rfl)
theorem dX1_mayCome_131 : decode cX1_mayCome 131 = .ok (.istore 5, 2) := dk_54 5 (dk_at dksX1_mayCome_5 14 rfl rfl)
theorem dX1_mayCome_133 : decode cX1_mayCome 133 = .ok (.iload 6, 2) := dk_21 6 (dk_at dksX1_mayCome_5 16 rfl rfl)
theorem dX1_mayCome_135 : decode cX1_mayCome 135 = .ok (.aload_n 0, 1) := dk_42 (dk_at dksX1_mayCome_5 18 rfl rfl)
theorem dX1_mayCome_136 : decode cX1_mayCome 136 = .ok (.getfield 41, 3) := dk_180 0 41 (dk_at dksX1_mayCome_5 19 rfl rfl)
theorem dX1_mayCome_139 : decode cX1_mayCome 139 = .ok (.aload_n 0, 1) := dk_42 (dk_at dksX1_mayCome_5 22 rfl rfl)
theorem dX1_mayCome_140 : decode cX1_mayCome 140 = .ok (.getfield 62, 3) := dk_180 0 62 (dk_at dksX1_mayCome_6 0 rfl rfl)
theorem dX1_mayCome_143 : decode cX1_mayCome 143 = .ok (.iload 7, 2) := dk_21 7 (dk_at dksX1_mayCome_6 3 rfl rfl)
theorem dX1_mayCome_145 : decode cX1_mayCome 145 = .ok (.iaload, 1) := dk_46 (dk_at dksX1_mayCome_6 5 rfl rfl)
theorem dX1_mayCome_146 : decode cX1_mayCome 146 = .ok (.iaload, 1) := dk_46 (dk_at dksX1_mayCome_6 6 rfl rfl)
theorem dX1_mayCome_147 : decode cX1_mayCome 147 = .ok (.aload_n 0, 1) := dk_42 (dk_at dksX1_mayCome_6 7 rfl rfl)
theorem dX1_mayCome_148 : decode cX1_mayCome 148 = .ok (.getfield 56, 3) := dk_180 0 56 (dk_at dksX1_mayCome_6 8 rfl rfl)
theorem dX1_mayCome_151 : decode cX1_mayCome 151 = .ok (.aload_n 0, 1) := dk_42 (dk_at dksX1_mayCome_6 11 rfl rfl)
theorem dX1_mayCome_152 : decode cX1_mayCome 152 = .ok (.getfield 62, 3) := dk_180 0 62 (dk_at dksX1_mayCome_6 12 rfl rfl)
theorem dX1_mayCome_155 : decode cX1_mayCome 155 = .ok (.iload 7, 2) := dk_21 7 (dk_at dksX1_mayCome_6 15 rfl rfl)
theorem dX1_mayCome_157 : decode cX1_mayCome 157 = .ok (.iaload, 1) := dk_46 (dk_at dksX1_mayCome_6 17 rfl rfl)
theorem dX1_mayCome_158 : decode cX1_mayCome 158 = .ok (.iaload, 1) := dk_46 (dk_at dksX1_mayCome_6 18 rfl rfl)
theorem dX1_mayCome_159 : decode cX1_mayCome 159 = .ok (.isub, 1) := dk_100 (dk_at dksX1_mayCome_6 19 rfl rfl)
theorem dX1_mayCome_160 : decode cX1_mayCome 160 = .ok (.iadd, 1) := dk_96 (dk_at dksX1_mayCome_6 20 rfl rfl)
theorem dX1_mayCome_161 : decode cX1_mayCome 161 = .ok (.istore 6, 2) := dk_54 6 (dk_at dksX1_mayCome_6 21 rfl rfl)
theorem dX1_mayCome_163 : decode cX1_mayCome 163 = .ok (.iinc 7 1, 3) := dk_132 7 1 (dk_at dksX1_mayCome_7 0 rfl rfl)
theorem dX1_mayCome_166 : decode cX1_mayCome 166 = .ok (.goto (-88), 3) := dk_167 255 168 (dk_at dksX1_mayCome_7 3 rfl rfl)
theorem dX1_mayCome_169 : decode cX1_mayCome 169 = .ok (.iload 5, 2) := dk_21 5 (dk_at dksX1_mayCome_7 6 rfl rfl)
theorem dX1_mayCome_171 : decode cX1_mayCome 171 = .ok (.ifCond .eq 13, 3) := dk_153 0 13 (dk_at dksX1_mayCome_7 8 rfl rfl)
theorem dX1_mayCome_174 : decode cX1_mayCome 174 = .ok (.iload 6, 2) := dk_21 6 (dk_at dksX1_mayCome_7 11 rfl rfl)
theorem dX1_mayCome_176 : decode cX1_mayCome 176 = .ok (.iload_n 3, 1) := dk_29 (dk_at dksX1_mayCome_7 13 rfl rfl)
theorem dX1_mayCome_177 : decode cX1_mayCome 177 = .ok (.if_icmp .gt 7, 3) := dk_163 0 7 (dk_at dksX1_mayCome_7 14 rfl rfl)
theorem dX1_mayCome_180 : decode cX1_mayCome 180 = .ok (.iconst 1, 1) := dk_4 (dk_at dksX1_mayCome_7 17 rfl rfl)
theorem dX1_mayCome_181 : decode cX1_mayCome 181 = .ok (.goto 4, 3) := dk_167 0 4 (dk_at dksX1_mayCome_7 18 rfl rfl)
theorem dX1_mayCome_184 : decode cX1_mayCome 184 = .ok (.iconst 0, 1) := dk_3 (dk_at dksX1_mayCome_7 21 rfl rfl)
theorem dX1_mayCome_185 : decode cX1_mayCome 185 = .ok (.ireturn, 1) := dk_172 (dk_at dksX1_mayCome_7 22 rfl rfl)
abbrev cX1_sumOf : ByteArray := prog_12_method_35_code
def yX1_sumOf : MethodName := ⟨RX1, "sumOf", "(IZ)I"⟩
def dkwX1_sumOf_2 : List UInt8 := [167, 255, 213, 29, 172]
abbrev dktX1_sumOf_2 : List UInt8 := dkwX1_sumOf_2 ++ []
def dkwX1_sumOf_1 : List UInt8 := [21, 4, 46, 46, 167, 0, 15, 42, 180, 0, 41, 42, 180, 0, 62, 21, 4, 46, 46, 96, 62, 132, 4, 1]
abbrev dktX1_sumOf_1 : List UInt8 := dkwX1_sumOf_1 ++ dktX1_sumOf_2
def dkwX1_sumOf_0 : List UInt8 := [3, 62, 3, 54, 4, 21, 4, 27, 162, 0, 43, 29, 28, 153, 0, 18, 42, 180, 0, 47, 42, 180, 0, 62]
abbrev dktX1_sumOf_0 : List UInt8 := dkwX1_sumOf_0 ++ dktX1_sumOf_1
theorem dksX1_sumOf_0 : cX1_sumOf.data.toList.drop 0 = dktX1_sumOf_0 := by decide +kernel
theorem dksX1_sumOf_1 : cX1_sumOf.data.toList.drop 24 = dktX1_sumOf_1 := dk_seg dksX1_sumOf_0 24 rfl rfl
theorem dksX1_sumOf_2 : cX1_sumOf.data.toList.drop 48 = dktX1_sumOf_2 := dk_seg dksX1_sumOf_1 24 rfl rfl
theorem dX1_sumOf_0 : decode cX1_sumOf 0 = .ok (.iconst 0, 1) := dk_3 (dk_at dksX1_sumOf_0 0 rfl rfl)
theorem dX1_sumOf_1 : decode cX1_sumOf 1 = .ok (.istore_n 3, 1) := dk_62 (dk_at dksX1_sumOf_0 1 rfl rfl)
theorem dX1_sumOf_2 : decode cX1_sumOf 2 = .ok (.iconst 0, 1) := dk_3 (dk_at dksX1_sumOf_0 2 rfl rfl)
theorem dX1_sumOf_3 : decode cX1_sumOf 3 = .ok (.istore 4, 2) := dk_54 4 (dk_at dksX1_sumOf_0 3 rfl rfl)
theorem dX1_sumOf_5 : decode cX1_sumOf 5 = .ok (.iload 4, 2) := dk_21 4 (dk_at dksX1_sumOf_0 5 rfl rfl)
theorem dX1_sumOf_7 : decode cX1_sumOf 7 = .ok (.iload_n 1, 1) := dk_27 (dk_at dksX1_sumOf_0 7 rfl rfl)
theorem dX1_sumOf_8 : decode cX1_sumOf 8 = .ok (.if_icmp .ge 43, 3) := dk_162 0 43 (dk_at dksX1_sumOf_0 8 rfl rfl)
theorem dX1_sumOf_11 : decode cX1_sumOf 11 = .ok (.iload_n 3, 1) := dk_29 (dk_at dksX1_sumOf_0 11 rfl rfl)
theorem dX1_sumOf_12 : decode cX1_sumOf 12 = .ok (.iload_n 2, 1) := dk_28 (dk_at dksX1_sumOf_0 12 rfl rfl)
theorem dX1_sumOf_13 : decode cX1_sumOf 13 = .ok (.ifCond .eq 18, 3) := dk_153 0 18 (dk_at dksX1_sumOf_0 13 rfl rfl)
theorem dX1_sumOf_16 : decode cX1_sumOf 16 = .ok (.aload_n 0, 1) := dk_42 (dk_at dksX1_sumOf_0 16 rfl rfl)
theorem dX1_sumOf_17 : decode cX1_sumOf 17 = .ok (.getfield 47, 3) := dk_180 0 47 (dk_at dksX1_sumOf_0 17 rfl rfl)
theorem dX1_sumOf_20 : decode cX1_sumOf 20 = .ok (.aload_n 0, 1) := dk_42 (dk_at dksX1_sumOf_0 20 rfl rfl)
theorem dX1_sumOf_21 : decode cX1_sumOf 21 = .ok (.getfield 62, 3) := dk_180 0 62 (dk_at dksX1_sumOf_0 21 rfl rfl)
theorem dX1_sumOf_24 : decode cX1_sumOf 24 = .ok (.iload 4, 2) := dk_21 4 (dk_at dksX1_sumOf_1 0 rfl rfl)
theorem dX1_sumOf_26 : decode cX1_sumOf 26 = .ok (.iaload, 1) := dk_46 (dk_at dksX1_sumOf_1 2 rfl rfl)
theorem dX1_sumOf_27 : decode cX1_sumOf 27 = .ok (.iaload, 1) := dk_46 (dk_at dksX1_sumOf_1 3 rfl rfl)
theorem dX1_sumOf_28 : decode cX1_sumOf 28 = .ok (.goto 15, 3) := dk_167 0 15 (dk_at dksX1_sumOf_1 4 rfl rfl)
theorem dX1_sumOf_31 : decode cX1_sumOf 31 = .ok (.aload_n 0, 1) := dk_42 (dk_at dksX1_sumOf_1 7 rfl rfl)
theorem dX1_sumOf_32 : decode cX1_sumOf 32 = .ok (.getfield 41, 3) := dk_180 0 41 (dk_at dksX1_sumOf_1 8 rfl rfl)
theorem dX1_sumOf_35 : decode cX1_sumOf 35 = .ok (.aload_n 0, 1) := dk_42 (dk_at dksX1_sumOf_1 11 rfl rfl)
theorem dX1_sumOf_36 : decode cX1_sumOf 36 = .ok (.getfield 62, 3) := dk_180 0 62 (dk_at dksX1_sumOf_1 12 rfl rfl)
theorem dX1_sumOf_39 : decode cX1_sumOf 39 = .ok (.iload 4, 2) := dk_21 4 (dk_at dksX1_sumOf_1 15 rfl rfl)
theorem dX1_sumOf_41 : decode cX1_sumOf 41 = .ok (.iaload, 1) := dk_46 (dk_at dksX1_sumOf_1 17 rfl rfl)
theorem dX1_sumOf_42 : decode cX1_sumOf 42 = .ok (.iaload, 1) := dk_46 (dk_at dksX1_sumOf_1 18 rfl rfl)
theorem dX1_sumOf_43 : decode cX1_sumOf 43 = .ok (.iadd, 1) := dk_96 (dk_at dksX1_sumOf_1 19 rfl rfl)
theorem dX1_sumOf_44 : decode cX1_sumOf 44 = .ok (.istore_n 3, 1) := dk_62 (dk_at dksX1_sumOf_1 20 rfl rfl)
theorem dX1_sumOf_45 : decode cX1_sumOf 45 = .ok (.iinc 4 1, 3) := dk_132 4 1 (dk_at dksX1_sumOf_1 21 rfl rfl)
theorem dX1_sumOf_48 : decode cX1_sumOf 48 = .ok (.goto (-43), 3) := dk_167 255 213 (dk_at dksX1_sumOf_2 0 rfl rfl)
theorem dX1_sumOf_51 : decode cX1_sumOf 51 = .ok (.iload_n 3, 1) := dk_29 (dk_at dksX1_sumOf_2 3 rfl rfl)
theorem dX1_sumOf_52 : decode cX1_sumOf 52 = .ok (.ireturn, 1) := dk_172 (dk_at dksX1_sumOf_2 4 rfl rfl)
abbrev cX1_legAt : ByteArray := prog_12_method_37_code
def yX1_legAt : MethodName := ⟨RX1, "legAt", "(I)I"⟩
def dkwX1_legAt_2 : List UInt8 := [16, 247, 172]
abbrev dktX1_legAt_2 : List UInt8 := dkwX1_legAt_2 ++ []
def dkwX1_legAt_1 : List UInt8 := [27, 3, 42, 180, 0, 68, 4, 100, 184, 0, 93, 153, 0, 12, 42, 180, 0, 65, 27, 46, 167, 0, 5]
abbrev dktX1_legAt_1 : List UInt8 := dkwX1_legAt_1 ++ dktX1_legAt_2
def dkwX1_legAt_0 : List UInt8 := [42, 180, 0, 68, 156, 0, 8, 16, 247, 167, 0, 40, 27, 2, 160, 0, 10, 42, 180, 0, 68, 167, 0, 28]
abbrev dktX1_legAt_0 : List UInt8 := dkwX1_legAt_0 ++ dktX1_legAt_1
theorem dksX1_legAt_0 : cX1_legAt.data.toList.drop 0 = dktX1_legAt_0 := by decide +kernel
theorem dksX1_legAt_1 : cX1_legAt.data.toList.drop 24 = dktX1_legAt_1 := dk_seg dksX1_legAt_0 24 rfl rfl
theorem dksX1_legAt_2 : cX1_legAt.data.toList.drop 47 = dktX1_legAt_2 := dk_seg dksX1_legAt_1 23 rfl rfl
theorem dX1_legAt_0 : decode cX1_legAt 0 = .ok (.aload_n 0, 1) := dk_42 (dk_at dksX1_legAt_0 0 rfl rfl)
theorem dX1_legAt_1 : decode cX1_legAt 1 = .ok (.getfield 68, 3) := dk_180 0 68 (dk_at dksX1_legAt_0 1 rfl rfl)
theorem dX1_legAt_4 : decode cX1_legAt 4 = .ok (.ifCond .ge 8, 3) := dk_156 0 8 (dk_at dksX1_legAt_0 4 rfl rfl)
theorem dX1_legAt_7 : decode cX1_legAt 7 = .ok (.bipush (-9), 2) := dk_16 247 (dk_at dksX1_legAt_0 7 rfl rfl)
theorem dX1_legAt_9 : decode cX1_legAt 9 = .ok (.goto 40, 3) := dk_167 0 40 (dk_at dksX1_legAt_0 9 rfl rfl)
theorem dX1_legAt_12 : decode cX1_legAt 12 = .ok (.iload_n 1, 1) := dk_27 (dk_at dksX1_legAt_0 12 rfl rfl)
theorem dX1_legAt_13 : decode cX1_legAt 13 = .ok (.iconst (-1), 1) := dk_2 (dk_at dksX1_legAt_0 13 rfl rfl)
theorem dX1_legAt_14 : decode cX1_legAt 14 = .ok (.if_icmp .ne 10, 3) := dk_160 0 10 (dk_at dksX1_legAt_0 14 rfl rfl)
theorem dX1_legAt_17 : decode cX1_legAt 17 = .ok (.aload_n 0, 1) := dk_42 (dk_at dksX1_legAt_0 17 rfl rfl)
theorem dX1_legAt_18 : decode cX1_legAt 18 = .ok (.getfield 68, 3) := dk_180 0 68 (dk_at dksX1_legAt_0 18 rfl rfl)
theorem dX1_legAt_21 : decode cX1_legAt 21 = .ok (.goto 28, 3) := dk_167 0 28 (dk_at dksX1_legAt_0 21 rfl rfl)
theorem dX1_legAt_24 : decode cX1_legAt 24 = .ok (.iload_n 1, 1) := dk_27 (dk_at dksX1_legAt_1 0 rfl rfl)
theorem dX1_legAt_25 : decode cX1_legAt 25 = .ok (.iconst 0, 1) := dk_3 (dk_at dksX1_legAt_1 1 rfl rfl)
theorem dX1_legAt_26 : decode cX1_legAt 26 = .ok (.aload_n 0, 1) := dk_42 (dk_at dksX1_legAt_1 2 rfl rfl)
theorem dX1_legAt_27 : decode cX1_legAt 27 = .ok (.getfield 68, 3) := dk_180 0 68 (dk_at dksX1_legAt_1 3 rfl rfl)
theorem dX1_legAt_30 : decode cX1_legAt 30 = .ok (.iconst 1, 1) := dk_4 (dk_at dksX1_legAt_1 6 rfl rfl)
theorem dX1_legAt_31 : decode cX1_legAt 31 = .ok (.isub, 1) := dk_100 (dk_at dksX1_legAt_1 7 rfl rfl)
theorem dX1_legAt_32 : decode cX1_legAt 32 = .ok (.invokestatic 93, 3) := dk_184 0 93 (dk_at dksX1_legAt_1 8 rfl rfl)
theorem dX1_legAt_35 : decode cX1_legAt 35 = .ok (.ifCond .eq 12, 3) := dk_153 0 12 (dk_at dksX1_legAt_1 11 rfl rfl)
theorem dX1_legAt_38 : decode cX1_legAt 38 = .ok (.aload_n 0, 1) := dk_42 (dk_at dksX1_legAt_1 14 rfl rfl)
theorem dX1_legAt_39 : decode cX1_legAt 39 = .ok (.getfield 65, 3) := dk_180 0 65 (dk_at dksX1_legAt_1 15 rfl rfl)
theorem dX1_legAt_42 : decode cX1_legAt 42 = .ok (.iload_n 1, 1) := dk_27 (dk_at dksX1_legAt_1 18 rfl rfl)
theorem dX1_legAt_43 : decode cX1_legAt 43 = .ok (.iaload, 1) := dk_46 (dk_at dksX1_legAt_1 19 rfl rfl)
theorem dX1_legAt_44 : decode cX1_legAt 44 = .ok (.goto 5, 3) := dk_167 0 5 (dk_at dksX1_legAt_1 20 rfl rfl)
theorem dX1_legAt_47 : decode cX1_legAt 47 = .ok (.bipush (-9), 2) := dk_16 247 (dk_at dksX1_legAt_2 0 rfl rfl)
theorem dX1_legAt_49 : decode cX1_legAt 49 = .ok (.ireturn, 1) := dk_172 (dk_at dksX1_legAt_2 2 rfl rfl)
abbrev cX1_cuts : ByteArray := prog_12_method_38_code
def yX1_cuts : MethodName := ⟨RX1, "cuts", "()I"⟩
def dkwX1_cuts_0 : List UInt8 := [42, 180, 0, 68, 156, 0, 8, 16, 247, 167, 0, 7, 42, 180, 0, 165, 172]
abbrev dktX1_cuts_0 : List UInt8 := dkwX1_cuts_0 ++ []
theorem dksX1_cuts_0 : cX1_cuts.data.toList.drop 0 = dktX1_cuts_0 := by decide +kernel
theorem dX1_cuts_0 : decode cX1_cuts 0 = .ok (.aload_n 0, 1) := dk_42 (dk_at dksX1_cuts_0 0 rfl rfl)
theorem dX1_cuts_1 : decode cX1_cuts 1 = .ok (.getfield 68, 3) := dk_180 0 68 (dk_at dksX1_cuts_0 1 rfl rfl)
theorem dX1_cuts_4 : decode cX1_cuts 4 = .ok (.ifCond .ge 8, 3) := dk_156 0 8 (dk_at dksX1_cuts_0 4 rfl rfl)
theorem dX1_cuts_7 : decode cX1_cuts 7 = .ok (.bipush (-9), 2) := dk_16 247 (dk_at dksX1_cuts_0 7 rfl rfl)
theorem dX1_cuts_9 : decode cX1_cuts 9 = .ok (.goto 7, 3) := dk_167 0 7 (dk_at dksX1_cuts_0 9 rfl rfl)
theorem dX1_cuts_12 : decode cX1_cuts 12 = .ok (.aload_n 0, 1) := dk_42 (dk_at dksX1_cuts_0 12 rfl rfl)
theorem dX1_cuts_13 : decode cX1_cuts 13 = .ok (.getfield 165, 3) := dk_180 0 165 (dk_at dksX1_cuts_0 13 rfl rfl)
theorem dX1_cuts_16 : decode cX1_cuts 16 = .ok (.ireturn, 1) := dk_172 (dk_at dksX1_cuts_0 16 rfl rfl)
abbrev cX1_tries : ByteArray := prog_12_method_39_code
def yX1_tries : MethodName := ⟨RX1, "tries", "()I"⟩
theorem dX1_tries_0 : decode cX1_tries 0 = .ok (.aload_n 0, 1) := by decide +kernel
theorem dX1_tries_1 : decode cX1_tries 1 = .ok (.getfield 155, 3) := by decide +kernel
theorem dX1_tries_4 : decode cX1_tries 4 = .ok (.ireturn, 1) := by decide +kernel
abbrev cX1_shift : ByteArray := prog_12_method_40_code
def yX1_shift : MethodName := ⟨RX1, "shift", "(III)I"⟩
def dkwX1_shift_4 : List UInt8 := [96, 29, 79, 42, 89, 180, 0, 168, 4, 96, 181, 0, 168, 42, 180, 0, 168, 172]
abbrev dktX1_shift_4 : List UInt8 := dkwX1_shift_4 ++ []
def dkwX1_shift_3 : List UInt8 := [180, 0, 75, 6, 42, 180, 0, 168, 104, 4, 96, 28, 79, 42, 180, 0, 75, 6, 42, 180, 0, 168, 104, 5]
abbrev dktX1_shift_3 : List UInt8 := dkwX1_shift_3 ++ dktX1_shift_4
def dkwX1_shift_2 : List UInt8 := [42, 180, 0, 72, 42, 180, 0, 168, 3, 84, 42, 180, 0, 75, 6, 42, 180, 0, 168, 104, 27, 79, 42]
abbrev dktX1_shift_2 : List UInt8 := dkwX1_shift_2 ++ dktX1_shift_3
def dkwX1_shift_1 : List UInt8 := [16, 206, 16, 50, 184, 0, 93, 154, 0, 5, 2, 172, 42, 180, 0, 168, 16, 20, 160, 0, 6, 16, 254, 172]
abbrev dktX1_shift_1 : List UInt8 := dkwX1_shift_1 ++ dktX1_shift_2
def dkwX1_shift_0 : List UInt8 := [27, 16, 206, 16, 50, 184, 0, 93, 153, 0, 25, 28, 16, 206, 16, 50, 184, 0, 93, 153, 0, 14, 29]
abbrev dktX1_shift_0 : List UInt8 := dkwX1_shift_0 ++ dktX1_shift_1
theorem dksX1_shift_0 : cX1_shift.data.toList.drop 0 = dktX1_shift_0 := by decide +kernel
theorem dksX1_shift_1 : cX1_shift.data.toList.drop 23 = dktX1_shift_1 := dk_seg dksX1_shift_0 23 rfl rfl
theorem dksX1_shift_2 : cX1_shift.data.toList.drop 47 = dktX1_shift_2 := dk_seg dksX1_shift_1 24 rfl rfl
theorem dksX1_shift_3 : cX1_shift.data.toList.drop 70 = dktX1_shift_3 := dk_seg dksX1_shift_2 23 rfl rfl
theorem dksX1_shift_4 : cX1_shift.data.toList.drop 94 = dktX1_shift_4 := dk_seg dksX1_shift_3 24 rfl rfl
theorem dX1_shift_0 : decode cX1_shift 0 = .ok (.iload_n 1, 1) := dk_27 (dk_at dksX1_shift_0 0 rfl rfl)
theorem dX1_shift_1 : decode cX1_shift 1 = .ok (.bipush (-50), 2) := dk_16 206 (dk_at dksX1_shift_0 1 rfl rfl)
theorem dX1_shift_3 : decode cX1_shift 3 = .ok (.bipush 50, 2) := dk_16 50 (dk_at dksX1_shift_0 3 rfl rfl)
theorem dX1_shift_5 : decode cX1_shift 5 = .ok (.invokestatic 93, 3) := dk_184 0 93 (dk_at dksX1_shift_0 5 rfl rfl)
theorem dX1_shift_8 : decode cX1_shift 8 = .ok (.ifCond .eq 25, 3) := dk_153 0 25 (dk_at dksX1_shift_0 8 rfl rfl)
theorem dX1_shift_11 : decode cX1_shift 11 = .ok (.iload_n 2, 1) := dk_28 (dk_at dksX1_shift_0 11 rfl rfl)
theorem dX1_shift_12 : decode cX1_shift 12 = .ok (.bipush (-50), 2) := dk_16 206 (dk_at dksX1_shift_0 12 rfl rfl)
theorem dX1_shift_14 : decode cX1_shift 14 = .ok (.bipush 50, 2) := dk_16 50 (dk_at dksX1_shift_0 14 rfl rfl)
theorem dX1_shift_16 : decode cX1_shift 16 = .ok (.invokestatic 93, 3) := dk_184 0 93 (dk_at dksX1_shift_0 16 rfl rfl)
theorem dX1_shift_19 : decode cX1_shift 19 = .ok (.ifCond .eq 14, 3) := dk_153 0 14 (dk_at dksX1_shift_0 19 rfl rfl)
theorem dX1_shift_22 : decode cX1_shift 22 = .ok (.iload_n 3, 1) := dk_29 (dk_at dksX1_shift_0 22 rfl rfl)
theorem dX1_shift_23 : decode cX1_shift 23 = .ok (.bipush (-50), 2) := dk_16 206 (dk_at dksX1_shift_1 0 rfl rfl)
theorem dX1_shift_25 : decode cX1_shift 25 = .ok (.bipush 50, 2) := dk_16 50 (dk_at dksX1_shift_1 2 rfl rfl)
theorem dX1_shift_27 : decode cX1_shift 27 = .ok (.invokestatic 93, 3) := dk_184 0 93 (dk_at dksX1_shift_1 4 rfl rfl)
theorem dX1_shift_30 : decode cX1_shift 30 = .ok (.ifCond .ne 5, 3) := dk_154 0 5 (dk_at dksX1_shift_1 7 rfl rfl)
theorem dX1_shift_33 : decode cX1_shift 33 = .ok (.iconst (-1), 1) := dk_2 (dk_at dksX1_shift_1 10 rfl rfl)
theorem dX1_shift_34 : decode cX1_shift 34 = .ok (.ireturn, 1) := dk_172 (dk_at dksX1_shift_1 11 rfl rfl)
theorem dX1_shift_35 : decode cX1_shift 35 = .ok (.aload_n 0, 1) := dk_42 (dk_at dksX1_shift_1 12 rfl rfl)
theorem dX1_shift_36 : decode cX1_shift 36 = .ok (.getfield 168, 3) := dk_180 0 168 (dk_at dksX1_shift_1 13 rfl rfl)
theorem dX1_shift_39 : decode cX1_shift 39 = .ok (.bipush 20, 2) := dk_16 20 (dk_at dksX1_shift_1 16 rfl rfl)
theorem dX1_shift_41 : decode cX1_shift 41 = .ok (.if_icmp .ne 6, 3) := dk_160 0 6 (dk_at dksX1_shift_1 18 rfl rfl)
theorem dX1_shift_44 : decode cX1_shift 44 = .ok (.bipush (-2), 2) := dk_16 254 (dk_at dksX1_shift_1 21 rfl rfl)
theorem dX1_shift_46 : decode cX1_shift 46 = .ok (.ireturn, 1) := dk_172 (dk_at dksX1_shift_1 23 rfl rfl)
theorem dX1_shift_47 : decode cX1_shift 47 = .ok (.aload_n 0, 1) := dk_42 (dk_at dksX1_shift_2 0 rfl rfl)
theorem dX1_shift_48 : decode cX1_shift 48 = .ok (.getfield 72, 3) := dk_180 0 72 (dk_at dksX1_shift_2 1 rfl rfl)
theorem dX1_shift_51 : decode cX1_shift 51 = .ok (.aload_n 0, 1) := dk_42 (dk_at dksX1_shift_2 4 rfl rfl)
theorem dX1_shift_52 : decode cX1_shift 52 = .ok (.getfield 168, 3) := dk_180 0 168 (dk_at dksX1_shift_2 5 rfl rfl)
theorem dX1_shift_55 : decode cX1_shift 55 = .ok (.iconst 0, 1) := dk_3 (dk_at dksX1_shift_2 8 rfl rfl)
theorem dX1_shift_56 : decode cX1_shift 56 = .ok (.bastore, 1) := dk_84 (dk_at dksX1_shift_2 9 rfl rfl)
theorem dX1_shift_57 : decode cX1_shift 57 = .ok (.aload_n 0, 1) := dk_42 (dk_at dksX1_shift_2 10 rfl rfl)
theorem dX1_shift_58 : decode cX1_shift 58 = .ok (.getfield 75, 3) := dk_180 0 75 (dk_at dksX1_shift_2 11 rfl rfl)
theorem dX1_shift_61 : decode cX1_shift 61 = .ok (.iconst 3, 1) := dk_6 (dk_at dksX1_shift_2 14 rfl rfl)
theorem dX1_shift_62 : decode cX1_shift 62 = .ok (.aload_n 0, 1) := dk_42 (dk_at dksX1_shift_2 15 rfl rfl)
theorem dX1_shift_63 : decode cX1_shift 63 = .ok (.getfield 168, 3) := dk_180 0 168 (dk_at dksX1_shift_2 16 rfl rfl)
theorem dX1_shift_66 : decode cX1_shift 66 = .ok (.imul, 1) := dk_104 (dk_at dksX1_shift_2 19 rfl rfl)
theorem dX1_shift_67 : decode cX1_shift 67 = .ok (.iload_n 1, 1) := dk_27 (dk_at dksX1_shift_2 20 rfl rfl)
theorem dX1_shift_68 : decode cX1_shift 68 = .ok (.iastore, 1) := dk_79 (dk_at dksX1_shift_2 21 rfl rfl)
theorem dX1_shift_69 : decode cX1_shift 69 = .ok (.aload_n 0, 1) := dk_42 (dk_at dksX1_shift_2 22 rfl rfl)
theorem dX1_shift_70 : decode cX1_shift 70 = .ok (.getfield 75, 3) := dk_180 0 75 (dk_at dksX1_shift_3 0 rfl rfl)
theorem dX1_shift_73 : decode cX1_shift 73 = .ok (.iconst 3, 1) := dk_6 (dk_at dksX1_shift_3 3 rfl rfl)
theorem dX1_shift_74 : decode cX1_shift 74 = .ok (.aload_n 0, 1) := dk_42 (dk_at dksX1_shift_3 4 rfl rfl)
theorem dX1_shift_75 : decode cX1_shift 75 = .ok (.getfield 168, 3) := dk_180 0 168 (dk_at dksX1_shift_3 5 rfl rfl)
theorem dX1_shift_78 : decode cX1_shift 78 = .ok (.imul, 1) := dk_104 (dk_at dksX1_shift_3 8 rfl rfl)
theorem dX1_shift_79 : decode cX1_shift 79 = .ok (.iconst 1, 1) := dk_4 (dk_at dksX1_shift_3 9 rfl rfl)
theorem dX1_shift_80 : decode cX1_shift 80 = .ok (.iadd, 1) := dk_96 (dk_at dksX1_shift_3 10 rfl rfl)
theorem dX1_shift_81 : decode cX1_shift 81 = .ok (.iload_n 2, 1) := dk_28 (dk_at dksX1_shift_3 11 rfl rfl)
theorem dX1_shift_82 : decode cX1_shift 82 = .ok (.iastore, 1) := dk_79 (dk_at dksX1_shift_3 12 rfl rfl)
theorem dX1_shift_83 : decode cX1_shift 83 = .ok (.aload_n 0, 1) := dk_42 (dk_at dksX1_shift_3 13 rfl rfl)
theorem dX1_shift_84 : decode cX1_shift 84 = .ok (.getfield 75, 3) := dk_180 0 75 (dk_at dksX1_shift_3 14 rfl rfl)
theorem dX1_shift_87 : decode cX1_shift 87 = .ok (.iconst 3, 1) := dk_6 (dk_at dksX1_shift_3 17 rfl rfl)
theorem dX1_shift_88 : decode cX1_shift 88 = .ok (.aload_n 0, 1) := dk_42 (dk_at dksX1_shift_3 18 rfl rfl)
theorem dX1_shift_89 : decode cX1_shift 89 = .ok (.getfield 168, 3) := dk_180 0 168 (dk_at dksX1_shift_3 19 rfl rfl)
theorem dX1_shift_92 : decode cX1_shift 92 = .ok (.imul, 1) := dk_104 (dk_at dksX1_shift_3 22 rfl rfl)
theorem dX1_shift_93 : decode cX1_shift 93 = .ok (.iconst 2, 1) := dk_5 (dk_at dksX1_shift_3 23 rfl rfl)
theorem dX1_shift_94 : decode cX1_shift 94 = .ok (.iadd, 1) := dk_96 (dk_at dksX1_shift_4 0 rfl rfl)
theorem dX1_shift_95 : decode cX1_shift 95 = .ok (.iload_n 3, 1) := dk_29 (dk_at dksX1_shift_4 1 rfl rfl)
theorem dX1_shift_96 : decode cX1_shift 96 = .ok (.iastore, 1) := dk_79 (dk_at dksX1_shift_4 2 rfl rfl)
theorem dX1_shift_97 : decode cX1_shift 97 = .ok (.aload_n 0, 1) := dk_42 (dk_at dksX1_shift_4 3 rfl rfl)
theorem dX1_shift_98 : decode cX1_shift 98 = .ok (.dup, 1) := dk_89 (dk_at dksX1_shift_4 4 rfl rfl)
theorem dX1_shift_99 : decode cX1_shift 99 = .ok (.getfield 168, 3) := dk_180 0 168 (dk_at dksX1_shift_4 5 rfl rfl)
theorem dX1_shift_102 : decode cX1_shift 102 = .ok (.iconst 1, 1) := dk_4 (dk_at dksX1_shift_4 8 rfl rfl)
theorem dX1_shift_103 : decode cX1_shift 103 = .ok (.iadd, 1) := dk_96 (dk_at dksX1_shift_4 9 rfl rfl)
theorem dX1_shift_104 : decode cX1_shift 104 = .ok (.putfield 168, 3) := dk_181 0 168 (dk_at dksX1_shift_4 10 rfl rfl)
theorem dX1_shift_107 : decode cX1_shift 107 = .ok (.aload_n 0, 1) := dk_42 (dk_at dksX1_shift_4 13 rfl rfl)
theorem dX1_shift_108 : decode cX1_shift 108 = .ok (.getfield 168, 3) := dk_180 0 168 (dk_at dksX1_shift_4 14 rfl rfl)
theorem dX1_shift_111 : decode cX1_shift 111 = .ok (.ireturn, 1) := dk_172 (dk_at dksX1_shift_4 17 rfl rfl)
abbrev cX1_turn : ByteArray := prog_12_method_41_code
def yX1_turn : MethodName := ⟨RX1, "turn", "(IZ)I"⟩
def dkwX1_turn_3 : List UInt8 := [180, 0, 168, 4, 96, 181, 0, 168, 42, 180, 0, 168, 172]
abbrev dktX1_turn_3 : List UInt8 := dkwX1_turn_3 ++ []
def dkwX1_turn_2 : List UInt8 := [180, 0, 75, 6, 42, 180, 0, 168, 104, 4, 96, 28, 153, 0, 7, 4, 167, 0, 4, 2, 79, 42, 89]
abbrev dktX1_turn_2 : List UInt8 := dkwX1_turn_2 ++ dktX1_turn_3
def dkwX1_turn_1 : List UInt8 := [180, 0, 72, 42, 180, 0, 168, 4, 84, 42, 180, 0, 75, 6, 42, 180, 0, 168, 104, 27, 79, 42]
abbrev dktX1_turn_1 : List UInt8 := dkwX1_turn_1 ++ dktX1_turn_2
def dkwX1_turn_0 : List UInt8 := [27, 3, 5, 184, 0, 93, 154, 0, 5, 2, 172, 42, 180, 0, 168, 16, 20, 160, 0, 6, 16, 254, 172, 42]
abbrev dktX1_turn_0 : List UInt8 := dkwX1_turn_0 ++ dktX1_turn_1
theorem dksX1_turn_0 : cX1_turn.data.toList.drop 0 = dktX1_turn_0 := by decide +kernel
theorem dksX1_turn_1 : cX1_turn.data.toList.drop 24 = dktX1_turn_1 := dk_seg dksX1_turn_0 24 rfl rfl
theorem dksX1_turn_2 : cX1_turn.data.toList.drop 46 = dktX1_turn_2 := dk_seg dksX1_turn_1 22 rfl rfl
theorem dksX1_turn_3 : cX1_turn.data.toList.drop 69 = dktX1_turn_3 := dk_seg dksX1_turn_2 23 rfl rfl
theorem dX1_turn_0 : decode cX1_turn 0 = .ok (.iload_n 1, 1) := dk_27 (dk_at dksX1_turn_0 0 rfl rfl)
theorem dX1_turn_1 : decode cX1_turn 1 = .ok (.iconst 0, 1) := dk_3 (dk_at dksX1_turn_0 1 rfl rfl)
theorem dX1_turn_2 : decode cX1_turn 2 = .ok (.iconst 2, 1) := dk_5 (dk_at dksX1_turn_0 2 rfl rfl)
theorem dX1_turn_3 : decode cX1_turn 3 = .ok (.invokestatic 93, 3) := dk_184 0 93 (dk_at dksX1_turn_0 3 rfl rfl)
theorem dX1_turn_6 : decode cX1_turn 6 = .ok (.ifCond .ne 5, 3) := dk_154 0 5 (dk_at dksX1_turn_0 6 rfl rfl)
theorem dX1_turn_9 : decode cX1_turn 9 = .ok (.iconst (-1), 1) := dk_2 (dk_at dksX1_turn_0 9 rfl rfl)
theorem dX1_turn_10 : decode cX1_turn 10 = .ok (.ireturn, 1) := dk_172 (dk_at dksX1_turn_0 10 rfl rfl)
theorem dX1_turn_11 : decode cX1_turn 11 = .ok (.aload_n 0, 1) := dk_42 (dk_at dksX1_turn_0 11 rfl rfl)
theorem dX1_turn_12 : decode cX1_turn 12 = .ok (.getfield 168, 3) := dk_180 0 168 (dk_at dksX1_turn_0 12 rfl rfl)
theorem dX1_turn_15 : decode cX1_turn 15 = .ok (.bipush 20, 2) := dk_16 20 (dk_at dksX1_turn_0 15 rfl rfl)
theorem dX1_turn_17 : decode cX1_turn 17 = .ok (.if_icmp .ne 6, 3) := dk_160 0 6 (dk_at dksX1_turn_0 17 rfl rfl)
theorem dX1_turn_20 : decode cX1_turn 20 = .ok (.bipush (-2), 2) := dk_16 254 (dk_at dksX1_turn_0 20 rfl rfl)
theorem dX1_turn_22 : decode cX1_turn 22 = .ok (.ireturn, 1) := dk_172 (dk_at dksX1_turn_0 22 rfl rfl)
theorem dX1_turn_23 : decode cX1_turn 23 = .ok (.aload_n 0, 1) := dk_42 (dk_at dksX1_turn_0 23 rfl rfl)
theorem dX1_turn_24 : decode cX1_turn 24 = .ok (.getfield 72, 3) := dk_180 0 72 (dk_at dksX1_turn_1 0 rfl rfl)
theorem dX1_turn_27 : decode cX1_turn 27 = .ok (.aload_n 0, 1) := dk_42 (dk_at dksX1_turn_1 3 rfl rfl)
theorem dX1_turn_28 : decode cX1_turn 28 = .ok (.getfield 168, 3) := dk_180 0 168 (dk_at dksX1_turn_1 4 rfl rfl)
theorem dX1_turn_31 : decode cX1_turn 31 = .ok (.iconst 1, 1) := dk_4 (dk_at dksX1_turn_1 7 rfl rfl)
theorem dX1_turn_32 : decode cX1_turn 32 = .ok (.bastore, 1) := dk_84 (dk_at dksX1_turn_1 8 rfl rfl)
theorem dX1_turn_33 : decode cX1_turn 33 = .ok (.aload_n 0, 1) := dk_42 (dk_at dksX1_turn_1 9 rfl rfl)
theorem dX1_turn_34 : decode cX1_turn 34 = .ok (.getfield 75, 3) := dk_180 0 75 (dk_at dksX1_turn_1 10 rfl rfl)
theorem dX1_turn_37 : decode cX1_turn 37 = .ok (.iconst 3, 1) := dk_6 (dk_at dksX1_turn_1 13 rfl rfl)
theorem dX1_turn_38 : decode cX1_turn 38 = .ok (.aload_n 0, 1) := dk_42 (dk_at dksX1_turn_1 14 rfl rfl)
theorem dX1_turn_39 : decode cX1_turn 39 = .ok (.getfield 168, 3) := dk_180 0 168 (dk_at dksX1_turn_1 15 rfl rfl)
theorem dX1_turn_42 : decode cX1_turn 42 = .ok (.imul, 1) := dk_104 (dk_at dksX1_turn_1 18 rfl rfl)
theorem dX1_turn_43 : decode cX1_turn 43 = .ok (.iload_n 1, 1) := dk_27 (dk_at dksX1_turn_1 19 rfl rfl)
theorem dX1_turn_44 : decode cX1_turn 44 = .ok (.iastore, 1) := dk_79 (dk_at dksX1_turn_1 20 rfl rfl)
theorem dX1_turn_45 : decode cX1_turn 45 = .ok (.aload_n 0, 1) := dk_42 (dk_at dksX1_turn_1 21 rfl rfl)
theorem dX1_turn_46 : decode cX1_turn 46 = .ok (.getfield 75, 3) := dk_180 0 75 (dk_at dksX1_turn_2 0 rfl rfl)
theorem dX1_turn_49 : decode cX1_turn 49 = .ok (.iconst 3, 1) := dk_6 (dk_at dksX1_turn_2 3 rfl rfl)
theorem dX1_turn_50 : decode cX1_turn 50 = .ok (.aload_n 0, 1) := dk_42 (dk_at dksX1_turn_2 4 rfl rfl)
theorem dX1_turn_51 : decode cX1_turn 51 = .ok (.getfield 168, 3) := dk_180 0 168 (dk_at dksX1_turn_2 5 rfl rfl)
theorem dX1_turn_54 : decode cX1_turn 54 = .ok (.imul, 1) := dk_104 (dk_at dksX1_turn_2 8 rfl rfl)
theorem dX1_turn_55 : decode cX1_turn 55 = .ok (.iconst 1, 1) := dk_4 (dk_at dksX1_turn_2 9 rfl rfl)
theorem dX1_turn_56 : decode cX1_turn 56 = .ok (.iadd, 1) := dk_96 (dk_at dksX1_turn_2 10 rfl rfl)
theorem dX1_turn_57 : decode cX1_turn 57 = .ok (.iload_n 2, 1) := dk_28 (dk_at dksX1_turn_2 11 rfl rfl)
theorem dX1_turn_58 : decode cX1_turn 58 = .ok (.ifCond .eq 7, 3) := dk_153 0 7 (dk_at dksX1_turn_2 12 rfl rfl)
theorem dX1_turn_61 : decode cX1_turn 61 = .ok (.iconst 1, 1) := dk_4 (dk_at dksX1_turn_2 15 rfl rfl)
theorem dX1_turn_62 : decode cX1_turn 62 = .ok (.goto 4, 3) := dk_167 0 4 (dk_at dksX1_turn_2 16 rfl rfl)
theorem dX1_turn_65 : decode cX1_turn 65 = .ok (.iconst (-1), 1) := dk_2 (dk_at dksX1_turn_2 19 rfl rfl)
theorem dX1_turn_66 : decode cX1_turn 66 = .ok (.iastore, 1) := dk_79 (dk_at dksX1_turn_2 20 rfl rfl)
theorem dX1_turn_67 : decode cX1_turn 67 = .ok (.aload_n 0, 1) := dk_42 (dk_at dksX1_turn_2 21 rfl rfl)
theorem dX1_turn_68 : decode cX1_turn 68 = .ok (.dup, 1) := dk_89 (dk_at dksX1_turn_2 22 rfl rfl)
theorem dX1_turn_69 : decode cX1_turn 69 = .ok (.getfield 168, 3) := dk_180 0 168 (dk_at dksX1_turn_3 0 rfl rfl)
theorem dX1_turn_72 : decode cX1_turn 72 = .ok (.iconst 1, 1) := dk_4 (dk_at dksX1_turn_3 3 rfl rfl)
theorem dX1_turn_73 : decode cX1_turn 73 = .ok (.iadd, 1) := dk_96 (dk_at dksX1_turn_3 4 rfl rfl)
theorem dX1_turn_74 : decode cX1_turn 74 = .ok (.putfield 168, 3) := dk_181 0 168 (dk_at dksX1_turn_3 5 rfl rfl)
theorem dX1_turn_77 : decode cX1_turn 77 = .ok (.aload_n 0, 1) := dk_42 (dk_at dksX1_turn_3 8 rfl rfl)
theorem dX1_turn_78 : decode cX1_turn 78 = .ok (.getfield 168, 3) := dk_180 0 168 (dk_at dksX1_turn_3 9 rfl rfl)
theorem dX1_turn_81 : decode cX1_turn 81 = .ok (.ireturn, 1) := dk_172 (dk_at dksX1_turn_3 12 rfl rfl)
abbrev cX1_undo : ByteArray := prog_12_method_42_code
def yX1_undo : MethodName := ⟨RX1, "undo", "()I"⟩
def dkwX1_undo_1 : List UInt8 := [172]
abbrev dktX1_undo_1 : List UInt8 := dkwX1_undo_1 ++ []
def dkwX1_undo_0 : List UInt8 := [42, 180, 0, 168, 154, 0, 6, 16, 252, 172, 42, 89, 180, 0, 168, 4, 100, 181, 0, 168, 42, 180, 0, 168]
abbrev dktX1_undo_0 : List UInt8 := dkwX1_undo_0 ++ dktX1_undo_1
theorem dksX1_undo_0 : cX1_undo.data.toList.drop 0 = dktX1_undo_0 := by decide +kernel
theorem dksX1_undo_1 : cX1_undo.data.toList.drop 24 = dktX1_undo_1 := dk_seg dksX1_undo_0 24 rfl rfl
theorem dX1_undo_0 : decode cX1_undo 0 = .ok (.aload_n 0, 1) := dk_42 (dk_at dksX1_undo_0 0 rfl rfl)
theorem dX1_undo_1 : decode cX1_undo 1 = .ok (.getfield 168, 3) := dk_180 0 168 (dk_at dksX1_undo_0 1 rfl rfl)
theorem dX1_undo_4 : decode cX1_undo 4 = .ok (.ifCond .ne 6, 3) := dk_154 0 6 (dk_at dksX1_undo_0 4 rfl rfl)
theorem dX1_undo_7 : decode cX1_undo 7 = .ok (.bipush (-4), 2) := dk_16 252 (dk_at dksX1_undo_0 7 rfl rfl)
theorem dX1_undo_9 : decode cX1_undo 9 = .ok (.ireturn, 1) := dk_172 (dk_at dksX1_undo_0 9 rfl rfl)
theorem dX1_undo_10 : decode cX1_undo 10 = .ok (.aload_n 0, 1) := dk_42 (dk_at dksX1_undo_0 10 rfl rfl)
theorem dX1_undo_11 : decode cX1_undo 11 = .ok (.dup, 1) := dk_89 (dk_at dksX1_undo_0 11 rfl rfl)
theorem dX1_undo_12 : decode cX1_undo 12 = .ok (.getfield 168, 3) := dk_180 0 168 (dk_at dksX1_undo_0 12 rfl rfl)
theorem dX1_undo_15 : decode cX1_undo 15 = .ok (.iconst 1, 1) := dk_4 (dk_at dksX1_undo_0 15 rfl rfl)
theorem dX1_undo_16 : decode cX1_undo 16 = .ok (.isub, 1) := dk_100 (dk_at dksX1_undo_0 16 rfl rfl)
theorem dX1_undo_17 : decode cX1_undo 17 = .ok (.putfield 168, 3) := dk_181 0 168 (dk_at dksX1_undo_0 17 rfl rfl)
theorem dX1_undo_20 : decode cX1_undo 20 = .ok (.aload_n 0, 1) := dk_42 (dk_at dksX1_undo_0 20 rfl rfl)
theorem dX1_undo_21 : decode cX1_undo 21 = .ok (.getfield 168, 3) := dk_180 0 168 (dk_at dksX1_undo_0 21 rfl rfl)
theorem dX1_undo_24 : decode cX1_undo 24 = .ok (.ireturn, 1) := dk_172 (dk_at dksX1_undo_1 0 rfl rfl)
abbrev cX1_where : ByteArray := prog_12_method_45_code
def yX1_where : MethodName := ⟨RX1, "where", "(II)I"⟩
def dkwX1_where_1 : List UInt8 := [182, 0, 175, 4, 182, 0, 178, 167, 0, 4, 2, 172]
abbrev dktX1_where_1 : List UInt8 := dkwX1_where_1 ++ []
def dkwX1_where_0 : List UInt8 := [27, 3, 6, 184, 0, 93, 153, 0, 26, 28, 3, 5, 184, 0, 93, 153, 0, 17, 42, 42, 27, 28]
abbrev dktX1_where_0 : List UInt8 := dkwX1_where_0 ++ dktX1_where_1
theorem dksX1_where_0 : cX1_where.data.toList.drop 0 = dktX1_where_0 := by decide +kernel
theorem dksX1_where_1 : cX1_where.data.toList.drop 22 = dktX1_where_1 := dk_seg dksX1_where_0 22 rfl rfl
theorem dX1_where_0 : decode cX1_where 0 = .ok (.iload_n 1, 1) := dk_27 (dk_at dksX1_where_0 0 rfl rfl)
theorem dX1_where_1 : decode cX1_where 1 = .ok (.iconst 0, 1) := dk_3 (dk_at dksX1_where_0 1 rfl rfl)
theorem dX1_where_2 : decode cX1_where 2 = .ok (.iconst 3, 1) := dk_6 (dk_at dksX1_where_0 2 rfl rfl)
theorem dX1_where_3 : decode cX1_where 3 = .ok (.invokestatic 93, 3) := dk_184 0 93 (dk_at dksX1_where_0 3 rfl rfl)
theorem dX1_where_6 : decode cX1_where 6 = .ok (.ifCond .eq 26, 3) := dk_153 0 26 (dk_at dksX1_where_0 6 rfl rfl)
theorem dX1_where_9 : decode cX1_where 9 = .ok (.iload_n 2, 1) := dk_28 (dk_at dksX1_where_0 9 rfl rfl)
theorem dX1_where_10 : decode cX1_where 10 = .ok (.iconst 0, 1) := dk_3 (dk_at dksX1_where_0 10 rfl rfl)
theorem dX1_where_11 : decode cX1_where 11 = .ok (.iconst 2, 1) := dk_5 (dk_at dksX1_where_0 11 rfl rfl)
theorem dX1_where_12 : decode cX1_where 12 = .ok (.invokestatic 93, 3) := dk_184 0 93 (dk_at dksX1_where_0 12 rfl rfl)
theorem dX1_where_15 : decode cX1_where 15 = .ok (.ifCond .eq 17, 3) := dk_153 0 17 (dk_at dksX1_where_0 15 rfl rfl)
theorem dX1_where_18 : decode cX1_where 18 = .ok (.aload_n 0, 1) := dk_42 (dk_at dksX1_where_0 18 rfl rfl)
theorem dX1_where_19 : decode cX1_where 19 = .ok (.aload_n 0, 1) := dk_42 (dk_at dksX1_where_0 19 rfl rfl)
theorem dX1_where_20 : decode cX1_where 20 = .ok (.iload_n 1, 1) := dk_27 (dk_at dksX1_where_0 20 rfl rfl)
theorem dX1_where_21 : decode cX1_where 21 = .ok (.iload_n 2, 1) := dk_28 (dk_at dksX1_where_0 21 rfl rfl)
theorem dX1_where_22 : decode cX1_where 22 = .ok (.invokevirtual 175, 3) := dk_182 0 175 (dk_at dksX1_where_1 0 rfl rfl)
theorem dX1_where_25 : decode cX1_where 25 = .ok (.iconst 1, 1) := dk_4 (dk_at dksX1_where_1 3 rfl rfl)
theorem dX1_where_26 : decode cX1_where 26 = .ok (.invokevirtual 178, 3) := dk_182 0 178 (dk_at dksX1_where_1 4 rfl rfl)
theorem dX1_where_29 : decode cX1_where 29 = .ok (.goto 4, 3) := dk_167 0 4 (dk_at dksX1_where_1 7 rfl rfl)
theorem dX1_where_32 : decode cX1_where 32 = .ok (.iconst (-1), 1) := dk_2 (dk_at dksX1_where_1 10 rfl rfl)
theorem dX1_where_33 : decode cX1_where 33 = .ok (.ireturn, 1) := dk_172 (dk_at dksX1_where_1 11 rfl rfl)
abbrev cX1_whereOf : ByteArray := prog_12_method_44_code
def yX1_whereOf : MethodName := ⟨RX1, "whereOf", "(II)I"⟩
def dkwX1_whereOf_2 : List UInt8 := [167, 0, 4, 3, 182, 0, 171, 42, 180, 0, 78, 28, 46, 29, 100, 172]
abbrev dktX1_whereOf_2 : List UInt8 := dkwX1_whereOf_2 ++ []
def dkwX1_whereOf_1 : List UInt8 := [160, 0, 7, 4, 167, 0, 4, 3, 27, 5, 160, 0, 7, 4, 167, 0, 4, 3, 27, 6, 160, 0, 7, 4]
abbrev dktX1_whereOf_1 : List UInt8 := dkwX1_whereOf_1 ++ dktX1_whereOf_2
def dkwX1_whereOf_0 : List UInt8 := [42, 3, 3, 3, 182, 0, 171, 42, 180, 0, 78, 28, 46, 62, 27, 154, 0, 5, 29, 172, 42, 27, 4]
abbrev dktX1_whereOf_0 : List UInt8 := dkwX1_whereOf_0 ++ dktX1_whereOf_1
theorem dksX1_whereOf_0 : cX1_whereOf.data.toList.drop 0 = dktX1_whereOf_0 := by decide +kernel
theorem dksX1_whereOf_1 : cX1_whereOf.data.toList.drop 23 = dktX1_whereOf_1 := dk_seg dksX1_whereOf_0 23 rfl rfl
theorem dksX1_whereOf_2 : cX1_whereOf.data.toList.drop 47 = dktX1_whereOf_2 := dk_seg dksX1_whereOf_1 24 rfl rfl
theorem dX1_whereOf_0 : decode cX1_whereOf 0 = .ok (.aload_n 0, 1) := dk_42 (dk_at dksX1_whereOf_0 0 rfl rfl)
theorem dX1_whereOf_1 : decode cX1_whereOf 1 = .ok (.iconst 0, 1) := dk_3 (dk_at dksX1_whereOf_0 1 rfl rfl)
theorem dX1_whereOf_2 : decode cX1_whereOf 2 = .ok (.iconst 0, 1) := dk_3 (dk_at dksX1_whereOf_0 2 rfl rfl)
theorem dX1_whereOf_3 : decode cX1_whereOf 3 = .ok (.iconst 0, 1) := dk_3 (dk_at dksX1_whereOf_0 3 rfl rfl)
theorem dX1_whereOf_4 : decode cX1_whereOf 4 = .ok (.invokevirtual 171, 3) := dk_182 0 171 (dk_at dksX1_whereOf_0 4 rfl rfl)
theorem dX1_whereOf_7 : decode cX1_whereOf 7 = .ok (.aload_n 0, 1) := dk_42 (dk_at dksX1_whereOf_0 7 rfl rfl)
theorem dX1_whereOf_8 : decode cX1_whereOf 8 = .ok (.getfield 78, 3) := dk_180 0 78 (dk_at dksX1_whereOf_0 8 rfl rfl)
theorem dX1_whereOf_11 : decode cX1_whereOf 11 = .ok (.iload_n 2, 1) := dk_28 (dk_at dksX1_whereOf_0 11 rfl rfl)
theorem dX1_whereOf_12 : decode cX1_whereOf 12 = .ok (.iaload, 1) := dk_46 (dk_at dksX1_whereOf_0 12 rfl rfl)
theorem dX1_whereOf_13 : decode cX1_whereOf 13 = .ok (.istore_n 3, 1) := dk_62 (dk_at dksX1_whereOf_0 13 rfl rfl)
theorem dX1_whereOf_14 : decode cX1_whereOf 14 = .ok (.iload_n 1, 1) := dk_27 (dk_at dksX1_whereOf_0 14 rfl rfl)
theorem dX1_whereOf_15 : decode cX1_whereOf 15 = .ok (.ifCond .ne 5, 3) := dk_154 0 5 (dk_at dksX1_whereOf_0 15 rfl rfl)
theorem dX1_whereOf_18 : decode cX1_whereOf 18 = .ok (.iload_n 3, 1) := dk_29 (dk_at dksX1_whereOf_0 18 rfl rfl)
theorem dX1_whereOf_19 : decode cX1_whereOf 19 = .ok (.ireturn, 1) := dk_172 (dk_at dksX1_whereOf_0 19 rfl rfl)
theorem dX1_whereOf_20 : decode cX1_whereOf 20 = .ok (.aload_n 0, 1) := dk_42 (dk_at dksX1_whereOf_0 20 rfl rfl)
theorem dX1_whereOf_21 : decode cX1_whereOf 21 = .ok (.iload_n 1, 1) := dk_27 (dk_at dksX1_whereOf_0 21 rfl rfl)
theorem dX1_whereOf_22 : decode cX1_whereOf 22 = .ok (.iconst 1, 1) := dk_4 (dk_at dksX1_whereOf_0 22 rfl rfl)
theorem dX1_whereOf_23 : decode cX1_whereOf 23 = .ok (.if_icmp .ne 7, 3) := dk_160 0 7 (dk_at dksX1_whereOf_1 0 rfl rfl)
theorem dX1_whereOf_26 : decode cX1_whereOf 26 = .ok (.iconst 1, 1) := dk_4 (dk_at dksX1_whereOf_1 3 rfl rfl)
theorem dX1_whereOf_27 : decode cX1_whereOf 27 = .ok (.goto 4, 3) := dk_167 0 4 (dk_at dksX1_whereOf_1 4 rfl rfl)
theorem dX1_whereOf_30 : decode cX1_whereOf 30 = .ok (.iconst 0, 1) := dk_3 (dk_at dksX1_whereOf_1 7 rfl rfl)
theorem dX1_whereOf_31 : decode cX1_whereOf 31 = .ok (.iload_n 1, 1) := dk_27 (dk_at dksX1_whereOf_1 8 rfl rfl)
theorem dX1_whereOf_32 : decode cX1_whereOf 32 = .ok (.iconst 2, 1) := dk_5 (dk_at dksX1_whereOf_1 9 rfl rfl)
theorem dX1_whereOf_33 : decode cX1_whereOf 33 = .ok (.if_icmp .ne 7, 3) := dk_160 0 7 (dk_at dksX1_whereOf_1 10 rfl rfl)
theorem dX1_whereOf_36 : decode cX1_whereOf 36 = .ok (.iconst 1, 1) := dk_4 (dk_at dksX1_whereOf_1 13 rfl rfl)
theorem dX1_whereOf_37 : decode cX1_whereOf 37 = .ok (.goto 4, 3) := dk_167 0 4 (dk_at dksX1_whereOf_1 14 rfl rfl)
theorem dX1_whereOf_40 : decode cX1_whereOf 40 = .ok (.iconst 0, 1) := dk_3 (dk_at dksX1_whereOf_1 17 rfl rfl)
theorem dX1_whereOf_41 : decode cX1_whereOf 41 = .ok (.iload_n 1, 1) := dk_27 (dk_at dksX1_whereOf_1 18 rfl rfl)
theorem dX1_whereOf_42 : decode cX1_whereOf 42 = .ok (.iconst 3, 1) := dk_6 (dk_at dksX1_whereOf_1 19 rfl rfl)
theorem dX1_whereOf_43 : decode cX1_whereOf 43 = .ok (.if_icmp .ne 7, 3) := dk_160 0 7 (dk_at dksX1_whereOf_1 20 rfl rfl)
theorem dX1_whereOf_46 : decode cX1_whereOf 46 = .ok (.iconst 1, 1) := dk_4 (dk_at dksX1_whereOf_1 23 rfl rfl)
theorem dX1_whereOf_47 : decode cX1_whereOf 47 = .ok (.goto 4, 3) := dk_167 0 4 (dk_at dksX1_whereOf_2 0 rfl rfl)
theorem dX1_whereOf_50 : decode cX1_whereOf 50 = .ok (.iconst 0, 1) := dk_3 (dk_at dksX1_whereOf_2 3 rfl rfl)
theorem dX1_whereOf_51 : decode cX1_whereOf 51 = .ok (.invokevirtual 171, 3) := dk_182 0 171 (dk_at dksX1_whereOf_2 4 rfl rfl)
theorem dX1_whereOf_54 : decode cX1_whereOf 54 = .ok (.aload_n 0, 1) := dk_42 (dk_at dksX1_whereOf_2 7 rfl rfl)
theorem dX1_whereOf_55 : decode cX1_whereOf 55 = .ok (.getfield 78, 3) := dk_180 0 78 (dk_at dksX1_whereOf_2 8 rfl rfl)
theorem dX1_whereOf_58 : decode cX1_whereOf 58 = .ok (.iload_n 2, 1) := dk_28 (dk_at dksX1_whereOf_2 11 rfl rfl)
theorem dX1_whereOf_59 : decode cX1_whereOf 59 = .ok (.iaload, 1) := dk_46 (dk_at dksX1_whereOf_2 12 rfl rfl)
theorem dX1_whereOf_60 : decode cX1_whereOf 60 = .ok (.iload_n 3, 1) := dk_29 (dk_at dksX1_whereOf_2 13 rfl rfl)
theorem dX1_whereOf_61 : decode cX1_whereOf 61 = .ok (.isub, 1) := dk_100 (dk_at dksX1_whereOf_2 14 rfl rfl)
theorem dX1_whereOf_62 : decode cX1_whereOf 62 = .ok (.ireturn, 1) := dk_172 (dk_at dksX1_whereOf_2 15 rfl rfl)
abbrev cX1_go : ByteArray := prog_12_method_43_code
def yX1_go : MethodName := ⟨RX1, "go", "(III)V"⟩
def dkwX1_go_7 : List UInt8 := [132, 4, 1, 167, 255, 112, 177]
abbrev dktX1_go_7 : List UInt8 := dkwX1_go_7 ++ []
def dkwX1_go_6 : List UInt8 := [92, 46, 42, 180, 0, 75, 6, 21, 4, 104, 21, 5, 96, 46, 96, 79, 132, 5, 1, 167, 255, 225]
abbrev dktX1_go_6 : List UInt8 := dkwX1_go_6 ++ dktX1_go_7
def dkwX1_go_5 : List UInt8 := [21, 7, 21, 8, 104, 79, 167, 0, 40, 3, 54, 5, 21, 5, 6, 162, 0, 31, 42, 180, 0, 78, 21, 5]
abbrev dktX1_go_5 : List UInt8 := dkwX1_go_5 ++ dktX1_go_6
def dkwX1_go_4 : List UInt8 := [42, 180, 0, 78, 21, 5, 21, 7, 116, 42, 180, 0, 78, 21, 6, 46, 104, 79, 42, 180, 0, 78, 21, 6]
abbrev dktX1_go_4 : List UInt8 := dkwX1_go_4 ++ dktX1_go_5
def dkwX1_go_3 : List UInt8 := [54, 6, 42, 180, 0, 75, 6, 21, 4, 104, 4, 96, 46, 54, 7, 42, 180, 0, 78, 21, 5, 46, 54, 8]
abbrev dktX1_go_3 : List UInt8 := dkwX1_go_3 ++ dktX1_go_4
def dkwX1_go_2 : List UInt8 := [21, 4, 104, 46, 4, 96, 6, 112, 54, 5, 42, 180, 0, 75, 6, 21, 4, 104, 46, 5, 96, 6, 112]
abbrev dktX1_go_2 : List UInt8 := dkwX1_go_2 ++ dktX1_go_3
def dkwX1_go_1 : List UInt8 := [21, 4, 42, 180, 0, 168, 162, 0, 141, 42, 180, 0, 72, 21, 4, 51, 153, 0, 88, 42, 180, 0, 75, 6]
abbrev dktX1_go_1 : List UInt8 := dkwX1_go_1 ++ dktX1_go_2
def dkwX1_go_0 : List UInt8 := [42, 180, 0, 78, 3, 27, 79, 42, 180, 0, 78, 4, 28, 79, 42, 180, 0, 78, 5, 29, 79, 3, 54, 4]
abbrev dktX1_go_0 : List UInt8 := dkwX1_go_0 ++ dktX1_go_1
theorem dksX1_go_0 : cX1_go.data.toList.drop 0 = dktX1_go_0 := by decide +kernel
theorem dksX1_go_1 : cX1_go.data.toList.drop 24 = dktX1_go_1 := dk_seg dksX1_go_0 24 rfl rfl
theorem dksX1_go_2 : cX1_go.data.toList.drop 48 = dktX1_go_2 := dk_seg dksX1_go_1 24 rfl rfl
theorem dksX1_go_3 : cX1_go.data.toList.drop 71 = dktX1_go_3 := dk_seg dksX1_go_2 23 rfl rfl
theorem dksX1_go_4 : cX1_go.data.toList.drop 95 = dktX1_go_4 := dk_seg dksX1_go_3 24 rfl rfl
theorem dksX1_go_5 : cX1_go.data.toList.drop 119 = dktX1_go_5 := dk_seg dksX1_go_4 24 rfl rfl
theorem dksX1_go_6 : cX1_go.data.toList.drop 143 = dktX1_go_6 := dk_seg dksX1_go_5 24 rfl rfl
theorem dksX1_go_7 : cX1_go.data.toList.drop 165 = dktX1_go_7 := dk_seg dksX1_go_6 22 rfl rfl
theorem dX1_go_0 : decode cX1_go 0 = .ok (.aload_n 0, 1) := dk_42 (dk_at dksX1_go_0 0 rfl rfl)
theorem dX1_go_1 : decode cX1_go 1 = .ok (.getfield 78, 3) := dk_180 0 78 (dk_at dksX1_go_0 1 rfl rfl)
theorem dX1_go_4 : decode cX1_go 4 = .ok (.iconst 0, 1) := dk_3 (dk_at dksX1_go_0 4 rfl rfl)
theorem dX1_go_5 : decode cX1_go 5 = .ok (.iload_n 1, 1) := dk_27 (dk_at dksX1_go_0 5 rfl rfl)
theorem dX1_go_6 : decode cX1_go 6 = .ok (.iastore, 1) := dk_79 (dk_at dksX1_go_0 6 rfl rfl)
theorem dX1_go_7 : decode cX1_go 7 = .ok (.aload_n 0, 1) := dk_42 (dk_at dksX1_go_0 7 rfl rfl)
theorem dX1_go_8 : decode cX1_go 8 = .ok (.getfield 78, 3) := dk_180 0 78 (dk_at dksX1_go_0 8 rfl rfl)
theorem dX1_go_11 : decode cX1_go 11 = .ok (.iconst 1, 1) := dk_4 (dk_at dksX1_go_0 11 rfl rfl)
theorem dX1_go_12 : decode cX1_go 12 = .ok (.iload_n 2, 1) := dk_28 (dk_at dksX1_go_0 12 rfl rfl)
theorem dX1_go_13 : decode cX1_go 13 = .ok (.iastore, 1) := dk_79 (dk_at dksX1_go_0 13 rfl rfl)
theorem dX1_go_14 : decode cX1_go 14 = .ok (.aload_n 0, 1) := dk_42 (dk_at dksX1_go_0 14 rfl rfl)
theorem dX1_go_15 : decode cX1_go 15 = .ok (.getfield 78, 3) := dk_180 0 78 (dk_at dksX1_go_0 15 rfl rfl)
theorem dX1_go_18 : decode cX1_go 18 = .ok (.iconst 2, 1) := dk_5 (dk_at dksX1_go_0 18 rfl rfl)
theorem dX1_go_19 : decode cX1_go 19 = .ok (.iload_n 3, 1) := dk_29 (dk_at dksX1_go_0 19 rfl rfl)
theorem dX1_go_20 : decode cX1_go 20 = .ok (.iastore, 1) := dk_79 (dk_at dksX1_go_0 20 rfl rfl)
theorem dX1_go_21 : decode cX1_go 21 = .ok (.iconst 0, 1) := dk_3 (dk_at dksX1_go_0 21 rfl rfl)
theorem dX1_go_22 : decode cX1_go 22 = .ok (.istore 4, 2) := dk_54 4 (dk_at dksX1_go_0 22 rfl rfl)
theorem dX1_go_24 : decode cX1_go 24 = .ok (.iload 4, 2) := dk_21 4 (dk_at dksX1_go_1 0 rfl rfl)
theorem dX1_go_26 : decode cX1_go 26 = .ok (.aload_n 0, 1) := dk_42 (dk_at dksX1_go_1 2 rfl rfl)
theorem dX1_go_27 : decode cX1_go 27 = .ok (.getfield 168, 3) := dk_180 0 168 (dk_at dksX1_go_1 3 rfl rfl)
theorem dX1_go_30 : decode cX1_go 30 = .ok (.if_icmp .ge 141, 3) := dk_162 0 141 (dk_at dksX1_go_1 6 rfl rfl)
theorem dX1_go_33 : decode cX1_go 33 = .ok (.aload_n 0, 1) := dk_42 (dk_at dksX1_go_1 9 rfl rfl)
theorem dX1_go_34 : decode cX1_go 34 = .ok (.getfield 72, 3) := dk_180 0 72 (dk_at dksX1_go_1 10 rfl rfl)
theorem dX1_go_37 : decode cX1_go 37 = .ok (.iload 4, 2) := dk_21 4 (dk_at dksX1_go_1 13 rfl rfl)
theorem dX1_go_39 : decode cX1_go 39 = .ok (.baload, 1) := dk_51 (dk_at dksX1_go_1 15 rfl rfl)
theorem dX1_go_40 : decode cX1_go 40 = .ok (.ifCond .eq 88, 3) := dk_153 0 88 (dk_at dksX1_go_1 16 rfl rfl)
theorem dX1_go_43 : decode cX1_go 43 = .ok (.aload_n 0, 1) := dk_42 (dk_at dksX1_go_1 19 rfl rfl)
theorem dX1_go_44 : decode cX1_go 44 = .ok (.getfield 75, 3) := dk_180 0 75 (dk_at dksX1_go_1 20 rfl rfl)
theorem dX1_go_47 : decode cX1_go 47 = .ok (.iconst 3, 1) := dk_6 (dk_at dksX1_go_1 23 rfl rfl)
theorem dX1_go_48 : decode cX1_go 48 = .ok (.iload 4, 2) := dk_21 4 (dk_at dksX1_go_2 0 rfl rfl)
theorem dX1_go_50 : decode cX1_go 50 = .ok (.imul, 1) := dk_104 (dk_at dksX1_go_2 2 rfl rfl)
theorem dX1_go_51 : decode cX1_go 51 = .ok (.iaload, 1) := dk_46 (dk_at dksX1_go_2 3 rfl rfl)
theorem dX1_go_52 : decode cX1_go 52 = .ok (.iconst 1, 1) := dk_4 (dk_at dksX1_go_2 4 rfl rfl)
theorem dX1_go_53 : decode cX1_go 53 = .ok (.iadd, 1) := dk_96 (dk_at dksX1_go_2 5 rfl rfl)
theorem dX1_go_54 : decode cX1_go 54 = .ok (.iconst 3, 1) := dk_6 (dk_at dksX1_go_2 6 rfl rfl)
theorem dX1_go_55 : decode cX1_go 55 = .ok (.irem, 1) := dk_112 (dk_at dksX1_go_2 7 rfl rfl)
theorem dX1_go_56 : decode cX1_go 56 = .ok (.istore 5, 2) := dk_54 5 (dk_at dksX1_go_2 8 rfl rfl)
theorem dX1_go_58 : decode cX1_go 58 = .ok (.aload_n 0, 1) := dk_42 (dk_at dksX1_go_2 10 rfl rfl)
theorem dX1_go_59 : decode cX1_go 59 = .ok (.getfield 75, 3) := dk_180 0 75 (dk_at dksX1_go_2 11 rfl rfl)
theorem dX1_go_62 : decode cX1_go 62 = .ok (.iconst 3, 1) := dk_6 (dk_at dksX1_go_2 14 rfl rfl)
theorem dX1_go_63 : decode cX1_go 63 = .ok (.iload 4, 2) := dk_21 4 (dk_at dksX1_go_2 15 rfl rfl)
theorem dX1_go_65 : decode cX1_go 65 = .ok (.imul, 1) := dk_104 (dk_at dksX1_go_2 17 rfl rfl)
theorem dX1_go_66 : decode cX1_go 66 = .ok (.iaload, 1) := dk_46 (dk_at dksX1_go_2 18 rfl rfl)
theorem dX1_go_67 : decode cX1_go 67 = .ok (.iconst 2, 1) := dk_5 (dk_at dksX1_go_2 19 rfl rfl)
theorem dX1_go_68 : decode cX1_go 68 = .ok (.iadd, 1) := dk_96 (dk_at dksX1_go_2 20 rfl rfl)
theorem dX1_go_69 : decode cX1_go 69 = .ok (.iconst 3, 1) := dk_6 (dk_at dksX1_go_2 21 rfl rfl)
theorem dX1_go_70 : decode cX1_go 70 = .ok (.irem, 1) := dk_112 (dk_at dksX1_go_2 22 rfl rfl)
theorem dX1_go_71 : decode cX1_go 71 = .ok (.istore 6, 2) := dk_54 6 (dk_at dksX1_go_3 0 rfl rfl)
theorem dX1_go_73 : decode cX1_go 73 = .ok (.aload_n 0, 1) := dk_42 (dk_at dksX1_go_3 2 rfl rfl)
theorem dX1_go_74 : decode cX1_go 74 = .ok (.getfield 75, 3) := dk_180 0 75 (dk_at dksX1_go_3 3 rfl rfl)
theorem dX1_go_77 : decode cX1_go 77 = .ok (.iconst 3, 1) := dk_6 (dk_at dksX1_go_3 6 rfl rfl)
theorem dX1_go_78 : decode cX1_go 78 = .ok (.iload 4, 2) := dk_21 4 (dk_at dksX1_go_3 7 rfl rfl)
theorem dX1_go_80 : decode cX1_go 80 = .ok (.imul, 1) := dk_104 (dk_at dksX1_go_3 9 rfl rfl)
theorem dX1_go_81 : decode cX1_go 81 = .ok (.iconst 1, 1) := dk_4 (dk_at dksX1_go_3 10 rfl rfl)
theorem dX1_go_82 : decode cX1_go 82 = .ok (.iadd, 1) := dk_96 (dk_at dksX1_go_3 11 rfl rfl)
theorem dX1_go_83 : decode cX1_go 83 = .ok (.iaload, 1) := dk_46 (dk_at dksX1_go_3 12 rfl rfl)
theorem dX1_go_84 : decode cX1_go 84 = .ok (.istore 7, 2) := dk_54 7 (dk_at dksX1_go_3 13 rfl rfl)
theorem dX1_go_86 : decode cX1_go 86 = .ok (.aload_n 0, 1) := dk_42 (dk_at dksX1_go_3 15 rfl rfl)
theorem dX1_go_87 : decode cX1_go 87 = .ok (.getfield 78, 3) := dk_180 0 78 (dk_at dksX1_go_3 16 rfl rfl)
theorem dX1_go_90 : decode cX1_go 90 = .ok (.iload 5, 2) := dk_21 5 (dk_at dksX1_go_3 19 rfl rfl)
theorem dX1_go_92 : decode cX1_go 92 = .ok (.iaload, 1) := dk_46 (dk_at dksX1_go_3 21 rfl rfl)
theorem dX1_go_93 : decode cX1_go 93 = .ok (.istore 8, 2) := dk_54 8 (dk_at dksX1_go_3 22 rfl rfl)
theorem dX1_go_95 : decode cX1_go 95 = .ok (.aload_n 0, 1) := dk_42 (dk_at dksX1_go_4 0 rfl rfl)
theorem dX1_go_96 : decode cX1_go 96 = .ok (.getfield 78, 3) := dk_180 0 78 (dk_at dksX1_go_4 1 rfl rfl)
theorem dX1_go_99 : decode cX1_go 99 = .ok (.iload 5, 2) := dk_21 5 (dk_at dksX1_go_4 4 rfl rfl)
theorem dX1_go_101 : decode cX1_go 101 = .ok (.iload 7, 2) := dk_21 7 (dk_at dksX1_go_4 6 rfl rfl)
theorem dX1_go_103 : decode cX1_go 103 = .ok (.ineg, 1) := dk_116 (dk_at dksX1_go_4 8 rfl rfl)
theorem dX1_go_104 : decode cX1_go 104 = .ok (.aload_n 0, 1) := dk_42 (dk_at dksX1_go_4 9 rfl rfl)
theorem dX1_go_105 : decode cX1_go 105 = .ok (.getfield 78, 3) := dk_180 0 78 (dk_at dksX1_go_4 10 rfl rfl)
theorem dX1_go_108 : decode cX1_go 108 = .ok (.iload 6, 2) := dk_21 6 (dk_at dksX1_go_4 13 rfl rfl)
theorem dX1_go_110 : decode cX1_go 110 = .ok (.iaload, 1) := dk_46 (dk_at dksX1_go_4 15 rfl rfl)
theorem dX1_go_111 : decode cX1_go 111 = .ok (.imul, 1) := dk_104 (dk_at dksX1_go_4 16 rfl rfl)
theorem dX1_go_112 : decode cX1_go 112 = .ok (.iastore, 1) := dk_79 (dk_at dksX1_go_4 17 rfl rfl)
theorem dX1_go_113 : decode cX1_go 113 = .ok (.aload_n 0, 1) := dk_42 (dk_at dksX1_go_4 18 rfl rfl)
theorem dX1_go_114 : decode cX1_go 114 = .ok (.getfield 78, 3) := dk_180 0 78 (dk_at dksX1_go_4 19 rfl rfl)
theorem dX1_go_117 : decode cX1_go 117 = .ok (.iload 6, 2) := dk_21 6 (dk_at dksX1_go_4 22 rfl rfl)
theorem dX1_go_119 : decode cX1_go 119 = .ok (.iload 7, 2) := dk_21 7 (dk_at dksX1_go_5 0 rfl rfl)
theorem dX1_go_121 : decode cX1_go 121 = .ok (.iload 8, 2) := dk_21 8 (dk_at dksX1_go_5 2 rfl rfl)
theorem dX1_go_123 : decode cX1_go 123 = .ok (.imul, 1) := dk_104 (dk_at dksX1_go_5 4 rfl rfl)
theorem dX1_go_124 : decode cX1_go 124 = .ok (.iastore, 1) := dk_79 (dk_at dksX1_go_5 5 rfl rfl)
theorem dX1_go_125 : decode cX1_go 125 = .ok (.goto 40, 3) := dk_167 0 40 (dk_at dksX1_go_5 6 rfl rfl)
theorem dX1_go_128 : decode cX1_go 128 = .ok (.iconst 0, 1) := dk_3 (dk_at dksX1_go_5 9 rfl rfl)
theorem dX1_go_129 : decode cX1_go 129 = .ok (.istore 5, 2) := dk_54 5 (dk_at dksX1_go_5 10 rfl rfl)
theorem dX1_go_131 : decode cX1_go 131 = .ok (.iload 5, 2) := dk_21 5 (dk_at dksX1_go_5 12 rfl rfl)
theorem dX1_go_133 : decode cX1_go 133 = .ok (.iconst 3, 1) := dk_6 (dk_at dksX1_go_5 14 rfl rfl)
theorem dX1_go_134 : decode cX1_go 134 = .ok (.if_icmp .ge 31, 3) := dk_162 0 31 (dk_at dksX1_go_5 15 rfl rfl)
theorem dX1_go_137 : decode cX1_go 137 = .ok (.aload_n 0, 1) := dk_42 (dk_at dksX1_go_5 18 rfl rfl)
theorem dX1_go_138 : decode cX1_go 138 = .ok (.getfield 78, 3) := dk_180 0 78 (dk_at dksX1_go_5 19 rfl rfl)
theorem dX1_go_141 : decode cX1_go 141 = .ok (.iload 5, 2) := dk_21 5 (dk_at dksX1_go_5 22 rfl rfl)
theorem dX1_go_143 : decode cX1_go 143 = .ok (.dup2, 1) := dk_92 (dk_at dksX1_go_6 0 rfl rfl)
theorem dX1_go_144 : decode cX1_go 144 = .ok (.iaload, 1) := dk_46 (dk_at dksX1_go_6 1 rfl rfl)
theorem dX1_go_145 : decode cX1_go 145 = .ok (.aload_n 0, 1) := dk_42 (dk_at dksX1_go_6 2 rfl rfl)
theorem dX1_go_146 : decode cX1_go 146 = .ok (.getfield 75, 3) := dk_180 0 75 (dk_at dksX1_go_6 3 rfl rfl)
theorem dX1_go_149 : decode cX1_go 149 = .ok (.iconst 3, 1) := dk_6 (dk_at dksX1_go_6 6 rfl rfl)
theorem dX1_go_150 : decode cX1_go 150 = .ok (.iload 4, 2) := dk_21 4 (dk_at dksX1_go_6 7 rfl rfl)
theorem dX1_go_152 : decode cX1_go 152 = .ok (.imul, 1) := dk_104 (dk_at dksX1_go_6 9 rfl rfl)
theorem dX1_go_153 : decode cX1_go 153 = .ok (.iload 5, 2) := dk_21 5 (dk_at dksX1_go_6 10 rfl rfl)
theorem dX1_go_155 : decode cX1_go 155 = .ok (.iadd, 1) := dk_96 (dk_at dksX1_go_6 12 rfl rfl)
theorem dX1_go_156 : decode cX1_go 156 = .ok (.iaload, 1) := dk_46 (dk_at dksX1_go_6 13 rfl rfl)
theorem dX1_go_157 : decode cX1_go 157 = .ok (.iadd, 1) := dk_96 (dk_at dksX1_go_6 14 rfl rfl)
theorem dX1_go_158 : decode cX1_go 158 = .ok (.iastore, 1) := dk_79 (dk_at dksX1_go_6 15 rfl rfl)
theorem dX1_go_159 : decode cX1_go 159 = .ok (.iinc 5 1, 3) := dk_132 5 1 (dk_at dksX1_go_6 16 rfl rfl)
theorem dX1_go_162 : decode cX1_go 162 = .ok (.goto (-31), 3) := dk_167 255 225 (dk_at dksX1_go_6 19 rfl rfl)
theorem dX1_go_165 : decode cX1_go 165 = .ok (.iinc 4 1, 3) := dk_132 4 1 (dk_at dksX1_go_7 0 rfl rfl)
theorem dX1_go_168 : decode cX1_go 168 = .ok (.goto (-144), 3) := dk_167 255 112 (dk_at dksX1_go_7 3 rfl rfl)
theorem dX1_go_171 : decode cX1_go 171 = .ok (.return_, 1) := dk_177 (dk_at dksX1_go_7 6 rfl rfl)
abbrev cX1_tell : ByteArray := prog_12_method_5_code
def yX1_tell : MethodName := ⟨RX1, "tell", "(II)I"⟩
def dkwX1_tell_0 : List UInt8 := [42, 27, 181, 0, 90, 28, 172]
abbrev dktX1_tell_0 : List UInt8 := dkwX1_tell_0 ++ []
theorem dksX1_tell_0 : cX1_tell.data.toList.drop 0 = dktX1_tell_0 := by decide +kernel
theorem dX1_tell_0 : decode cX1_tell 0 = .ok (.aload_n 0, 1) := dk_42 (dk_at dksX1_tell_0 0 rfl rfl)
theorem dX1_tell_1 : decode cX1_tell 1 = .ok (.iload_n 1, 1) := dk_27 (dk_at dksX1_tell_0 1 rfl rfl)
theorem dX1_tell_2 : decode cX1_tell 2 = .ok (.putfield 90, 3) := dk_181 0 90 (dk_at dksX1_tell_0 2 rfl rfl)
theorem dX1_tell_5 : decode cX1_tell 5 = .ok (.iload_n 2, 1) := dk_28 (dk_at dksX1_tell_0 5 rfl rfl)
theorem dX1_tell_6 : decode cX1_tell 6 = .ok (.ireturn, 1) := dk_172 (dk_at dksX1_tell_0 6 rfl rfl)
abbrev cX1_step : ByteArray := prog_12_method_46_code
def yX1_step : MethodName := ⟨RX1, "step", "(II)I"⟩
def dkwX1_step_3 : List UInt8 := [172]
abbrev dktX1_step_3 : List UInt8 := dkwX1_step_3 ++ []
def dkwX1_step_2 : List UInt8 := [180, 0, 81, 27, 46, 96, 28, 79, 42, 180, 0, 81, 27, 92, 46, 4, 96, 79, 42, 180, 0, 81, 27, 46]
abbrev dktX1_step_2 : List UInt8 := dkwX1_step_2 ++ dktX1_step_3
def dkwX1_step_1 : List UInt8 := [180, 0, 81, 27, 46, 16, 40, 160, 0, 6, 16, 254, 172, 42, 180, 0, 84, 16, 40, 27, 104, 42]
abbrev dktX1_step_1 : List UInt8 := dkwX1_step_1 ++ dktX1_step_2
def dkwX1_step_0 : List UInt8 := [27, 3, 4, 184, 0, 93, 153, 0, 14, 28, 3, 17, 7, 208, 184, 0, 93, 154, 0, 5, 2, 172, 42]
abbrev dktX1_step_0 : List UInt8 := dkwX1_step_0 ++ dktX1_step_1
theorem dksX1_step_0 : cX1_step.data.toList.drop 0 = dktX1_step_0 := by decide +kernel
theorem dksX1_step_1 : cX1_step.data.toList.drop 23 = dktX1_step_1 := dk_seg dksX1_step_0 23 rfl rfl
theorem dksX1_step_2 : cX1_step.data.toList.drop 45 = dktX1_step_2 := dk_seg dksX1_step_1 22 rfl rfl
theorem dksX1_step_3 : cX1_step.data.toList.drop 69 = dktX1_step_3 := dk_seg dksX1_step_2 24 rfl rfl
theorem dX1_step_0 : decode cX1_step 0 = .ok (.iload_n 1, 1) := dk_27 (dk_at dksX1_step_0 0 rfl rfl)
theorem dX1_step_1 : decode cX1_step 1 = .ok (.iconst 0, 1) := dk_3 (dk_at dksX1_step_0 1 rfl rfl)
theorem dX1_step_2 : decode cX1_step 2 = .ok (.iconst 1, 1) := dk_4 (dk_at dksX1_step_0 2 rfl rfl)
theorem dX1_step_3 : decode cX1_step 3 = .ok (.invokestatic 93, 3) := dk_184 0 93 (dk_at dksX1_step_0 3 rfl rfl)
theorem dX1_step_6 : decode cX1_step 6 = .ok (.ifCond .eq 14, 3) := dk_153 0 14 (dk_at dksX1_step_0 6 rfl rfl)
theorem dX1_step_9 : decode cX1_step 9 = .ok (.iload_n 2, 1) := dk_28 (dk_at dksX1_step_0 9 rfl rfl)
theorem dX1_step_10 : decode cX1_step 10 = .ok (.iconst 0, 1) := dk_3 (dk_at dksX1_step_0 10 rfl rfl)
theorem dX1_step_11 : decode cX1_step 11 = .ok (.sipush 2000, 3) := dk_17 7 208 (dk_at dksX1_step_0 11 rfl rfl)
theorem dX1_step_14 : decode cX1_step 14 = .ok (.invokestatic 93, 3) := dk_184 0 93 (dk_at dksX1_step_0 14 rfl rfl)
theorem dX1_step_17 : decode cX1_step 17 = .ok (.ifCond .ne 5, 3) := dk_154 0 5 (dk_at dksX1_step_0 17 rfl rfl)
theorem dX1_step_20 : decode cX1_step 20 = .ok (.iconst (-1), 1) := dk_2 (dk_at dksX1_step_0 20 rfl rfl)
theorem dX1_step_21 : decode cX1_step 21 = .ok (.ireturn, 1) := dk_172 (dk_at dksX1_step_0 21 rfl rfl)
theorem dX1_step_22 : decode cX1_step 22 = .ok (.aload_n 0, 1) := dk_42 (dk_at dksX1_step_0 22 rfl rfl)
theorem dX1_step_23 : decode cX1_step 23 = .ok (.getfield 81, 3) := dk_180 0 81 (dk_at dksX1_step_1 0 rfl rfl)
theorem dX1_step_26 : decode cX1_step 26 = .ok (.iload_n 1, 1) := dk_27 (dk_at dksX1_step_1 3 rfl rfl)
theorem dX1_step_27 : decode cX1_step 27 = .ok (.iaload, 1) := dk_46 (dk_at dksX1_step_1 4 rfl rfl)
theorem dX1_step_28 : decode cX1_step 28 = .ok (.bipush 40, 2) := dk_16 40 (dk_at dksX1_step_1 5 rfl rfl)
theorem dX1_step_30 : decode cX1_step 30 = .ok (.if_icmp .ne 6, 3) := dk_160 0 6 (dk_at dksX1_step_1 7 rfl rfl)
theorem dX1_step_33 : decode cX1_step 33 = .ok (.bipush (-2), 2) := dk_16 254 (dk_at dksX1_step_1 10 rfl rfl)
theorem dX1_step_35 : decode cX1_step 35 = .ok (.ireturn, 1) := dk_172 (dk_at dksX1_step_1 12 rfl rfl)
theorem dX1_step_36 : decode cX1_step 36 = .ok (.aload_n 0, 1) := dk_42 (dk_at dksX1_step_1 13 rfl rfl)
theorem dX1_step_37 : decode cX1_step 37 = .ok (.getfield 84, 3) := dk_180 0 84 (dk_at dksX1_step_1 14 rfl rfl)
theorem dX1_step_40 : decode cX1_step 40 = .ok (.bipush 40, 2) := dk_16 40 (dk_at dksX1_step_1 17 rfl rfl)
theorem dX1_step_42 : decode cX1_step 42 = .ok (.iload_n 1, 1) := dk_27 (dk_at dksX1_step_1 19 rfl rfl)
theorem dX1_step_43 : decode cX1_step 43 = .ok (.imul, 1) := dk_104 (dk_at dksX1_step_1 20 rfl rfl)
theorem dX1_step_44 : decode cX1_step 44 = .ok (.aload_n 0, 1) := dk_42 (dk_at dksX1_step_1 21 rfl rfl)
theorem dX1_step_45 : decode cX1_step 45 = .ok (.getfield 81, 3) := dk_180 0 81 (dk_at dksX1_step_2 0 rfl rfl)
theorem dX1_step_48 : decode cX1_step 48 = .ok (.iload_n 1, 1) := dk_27 (dk_at dksX1_step_2 3 rfl rfl)
theorem dX1_step_49 : decode cX1_step 49 = .ok (.iaload, 1) := dk_46 (dk_at dksX1_step_2 4 rfl rfl)
theorem dX1_step_50 : decode cX1_step 50 = .ok (.iadd, 1) := dk_96 (dk_at dksX1_step_2 5 rfl rfl)
theorem dX1_step_51 : decode cX1_step 51 = .ok (.iload_n 2, 1) := dk_28 (dk_at dksX1_step_2 6 rfl rfl)
theorem dX1_step_52 : decode cX1_step 52 = .ok (.iastore, 1) := dk_79 (dk_at dksX1_step_2 7 rfl rfl)
theorem dX1_step_53 : decode cX1_step 53 = .ok (.aload_n 0, 1) := dk_42 (dk_at dksX1_step_2 8 rfl rfl)
theorem dX1_step_54 : decode cX1_step 54 = .ok (.getfield 81, 3) := dk_180 0 81 (dk_at dksX1_step_2 9 rfl rfl)
theorem dX1_step_57 : decode cX1_step 57 = .ok (.iload_n 1, 1) := dk_27 (dk_at dksX1_step_2 12 rfl rfl)
theorem dX1_step_58 : decode cX1_step 58 = .ok (.dup2, 1) := dk_92 (dk_at dksX1_step_2 13 rfl rfl)
theorem dX1_step_59 : decode cX1_step 59 = .ok (.iaload, 1) := dk_46 (dk_at dksX1_step_2 14 rfl rfl)
theorem dX1_step_60 : decode cX1_step 60 = .ok (.iconst 1, 1) := dk_4 (dk_at dksX1_step_2 15 rfl rfl)
theorem dX1_step_61 : decode cX1_step 61 = .ok (.iadd, 1) := dk_96 (dk_at dksX1_step_2 16 rfl rfl)
theorem dX1_step_62 : decode cX1_step 62 = .ok (.iastore, 1) := dk_79 (dk_at dksX1_step_2 17 rfl rfl)
theorem dX1_step_63 : decode cX1_step 63 = .ok (.aload_n 0, 1) := dk_42 (dk_at dksX1_step_2 18 rfl rfl)
theorem dX1_step_64 : decode cX1_step 64 = .ok (.getfield 81, 3) := dk_180 0 81 (dk_at dksX1_step_2 19 rfl rfl)
theorem dX1_step_67 : decode cX1_step 67 = .ok (.iload_n 1, 1) := dk_27 (dk_at dksX1_step_2 22 rfl rfl)
theorem dX1_step_68 : decode cX1_step 68 = .ok (.iaload, 1) := dk_46 (dk_at dksX1_step_2 23 rfl rfl)
theorem dX1_step_69 : decode cX1_step 69 = .ok (.ireturn, 1) := dk_172 (dk_at dksX1_step_3 0 rfl rfl)
abbrev cX1_clear : ByteArray := prog_12_method_47_code
def yX1_clear : MethodName := ⟨RX1, "clear", "(I)I"⟩
def dkwX1_clear_1 : List UInt8 := [79, 28, 172]
abbrev dktX1_clear_1 : List UInt8 := dkwX1_clear_1 ++ []
def dkwX1_clear_0 : List UInt8 := [27, 3, 4, 184, 0, 93, 154, 0, 5, 2, 172, 42, 180, 0, 81, 27, 46, 61, 42, 180, 0, 81, 27, 3]
abbrev dktX1_clear_0 : List UInt8 := dkwX1_clear_0 ++ dktX1_clear_1
theorem dksX1_clear_0 : cX1_clear.data.toList.drop 0 = dktX1_clear_0 := by decide +kernel
theorem dksX1_clear_1 : cX1_clear.data.toList.drop 24 = dktX1_clear_1 := dk_seg dksX1_clear_0 24 rfl rfl
theorem dX1_clear_0 : decode cX1_clear 0 = .ok (.iload_n 1, 1) := dk_27 (dk_at dksX1_clear_0 0 rfl rfl)
theorem dX1_clear_1 : decode cX1_clear 1 = .ok (.iconst 0, 1) := dk_3 (dk_at dksX1_clear_0 1 rfl rfl)
theorem dX1_clear_2 : decode cX1_clear 2 = .ok (.iconst 1, 1) := dk_4 (dk_at dksX1_clear_0 2 rfl rfl)
theorem dX1_clear_3 : decode cX1_clear 3 = .ok (.invokestatic 93, 3) := dk_184 0 93 (dk_at dksX1_clear_0 3 rfl rfl)
theorem dX1_clear_6 : decode cX1_clear 6 = .ok (.ifCond .ne 5, 3) := dk_154 0 5 (dk_at dksX1_clear_0 6 rfl rfl)
theorem dX1_clear_9 : decode cX1_clear 9 = .ok (.iconst (-1), 1) := dk_2 (dk_at dksX1_clear_0 9 rfl rfl)
theorem dX1_clear_10 : decode cX1_clear 10 = .ok (.ireturn, 1) := dk_172 (dk_at dksX1_clear_0 10 rfl rfl)
theorem dX1_clear_11 : decode cX1_clear 11 = .ok (.aload_n 0, 1) := dk_42 (dk_at dksX1_clear_0 11 rfl rfl)
theorem dX1_clear_12 : decode cX1_clear 12 = .ok (.getfield 81, 3) := dk_180 0 81 (dk_at dksX1_clear_0 12 rfl rfl)
theorem dX1_clear_15 : decode cX1_clear 15 = .ok (.iload_n 1, 1) := dk_27 (dk_at dksX1_clear_0 15 rfl rfl)
theorem dX1_clear_16 : decode cX1_clear 16 = .ok (.iaload, 1) := dk_46 (dk_at dksX1_clear_0 16 rfl rfl)
theorem dX1_clear_17 : decode cX1_clear 17 = .ok (.istore_n 2, 1) := dk_61 (dk_at dksX1_clear_0 17 rfl rfl)
theorem dX1_clear_18 : decode cX1_clear 18 = .ok (.aload_n 0, 1) := dk_42 (dk_at dksX1_clear_0 18 rfl rfl)
theorem dX1_clear_19 : decode cX1_clear 19 = .ok (.getfield 81, 3) := dk_180 0 81 (dk_at dksX1_clear_0 19 rfl rfl)
theorem dX1_clear_22 : decode cX1_clear 22 = .ok (.iload_n 1, 1) := dk_27 (dk_at dksX1_clear_0 22 rfl rfl)
theorem dX1_clear_23 : decode cX1_clear 23 = .ok (.iconst 0, 1) := dk_3 (dk_at dksX1_clear_0 23 rfl rfl)
theorem dX1_clear_24 : decode cX1_clear 24 = .ok (.iastore, 1) := dk_79 (dk_at dksX1_clear_1 0 rfl rfl)
theorem dX1_clear_25 : decode cX1_clear 25 = .ok (.iload_n 2, 1) := dk_28 (dk_at dksX1_clear_1 1 rfl rfl)
theorem dX1_clear_26 : decode cX1_clear 26 = .ok (.ireturn, 1) := dk_172 (dk_at dksX1_clear_1 2 rfl rfl)
abbrev cX1_even : ByteArray := prog_12_method_48_code
def yX1_even : MethodName := ⟨RX1, "even", "()I"⟩
def dkwX1_even_5 : List UInt8 := [132, 4, 1, 167, 255, 170, 42, 29, 28, 182, 0, 178, 172]
abbrev dktX1_even_5 : List UInt8 := dkwX1_even_5 ++ []
def dkwX1_even_4 : List UInt8 := [132, 6, 1, 167, 255, 204, 28, 155, 0, 9, 21, 5, 29, 162, 0, 9, 21, 4, 61, 21, 5, 62]
abbrev dktX1_even_4 : List UInt8 := dkwX1_even_4 ++ dktX1_even_5
def dkwX1_even_3 : List UInt8 := [46, 100, 54, 7, 21, 5, 21, 7, 156, 0, 9, 21, 7, 116, 167, 0, 5, 21, 7, 96, 54, 5]
abbrev dktX1_even_3 : List UInt8 := dkwX1_even_3 ++ dktX1_even_4
def dkwX1_even_2 : List UInt8 := [162, 0, 52, 42, 180, 0, 84, 21, 6, 46, 42, 180, 0, 84, 16, 40, 21, 6, 21, 4, 96, 27, 112, 96]
abbrev dktX1_even_2 : List UInt8 := dkwX1_even_2 ++ dktX1_even_3
def dkwX1_even_1 : List UInt8 := [16, 247, 61, 3, 62, 3, 54, 4, 21, 4, 27, 162, 0, 86, 3, 54, 5, 3, 54, 6, 21, 6, 27]
abbrev dktX1_even_1 : List UInt8 := dkwX1_even_1 ++ dktX1_even_2
def dkwX1_even_0 : List UInt8 := [42, 180, 0, 81, 3, 46, 60, 27, 153, 0, 13, 27, 42, 180, 0, 81, 4, 46, 159, 0, 6, 16, 252, 172]
abbrev dktX1_even_0 : List UInt8 := dkwX1_even_0 ++ dktX1_even_1
theorem dksX1_even_0 : cX1_even.data.toList.drop 0 = dktX1_even_0 := by decide +kernel
theorem dksX1_even_1 : cX1_even.data.toList.drop 24 = dktX1_even_1 := dk_seg dksX1_even_0 24 rfl rfl
theorem dksX1_even_2 : cX1_even.data.toList.drop 47 = dktX1_even_2 := dk_seg dksX1_even_1 23 rfl rfl
theorem dksX1_even_3 : cX1_even.data.toList.drop 71 = dktX1_even_3 := dk_seg dksX1_even_2 24 rfl rfl
theorem dksX1_even_4 : cX1_even.data.toList.drop 93 = dktX1_even_4 := dk_seg dksX1_even_3 22 rfl rfl
theorem dksX1_even_5 : cX1_even.data.toList.drop 115 = dktX1_even_5 := dk_seg dksX1_even_4 22 rfl rfl
theorem dX1_even_0 : decode cX1_even 0 = .ok (.aload_n 0, 1) := dk_42 (dk_at dksX1_even_0 0 rfl rfl)
theorem dX1_even_1 : decode cX1_even 1 = .ok (.getfield 81, 3) := dk_180 0 81 (dk_at dksX1_even_0 1 rfl rfl)
theorem dX1_even_4 : decode cX1_even 4 = .ok (.iconst 0, 1) := dk_3 (dk_at dksX1_even_0 4 rfl rfl)
theorem dX1_even_5 : decode cX1_even 5 = .ok (.iaload, 1) := dk_46 (dk_at dksX1_even_0 5 rfl rfl)
theorem dX1_even_6 : decode cX1_even 6 = .ok (.istore_n 1, 1) := dk_60 (dk_at dksX1_even_0 6 rfl rfl)
theorem dX1_even_7 : decode cX1_even 7 = .ok (.iload_n 1, 1) := dk_27 (dk_at dksX1_even_0 7 rfl rfl)
theorem dX1_even_8 : decode cX1_even 8 = .ok (.ifCond .eq 13, 3) := dk_153 0 13 (dk_at dksX1_even_0 8 rfl rfl)
theorem dX1_even_11 : decode cX1_even 11 = .ok (.iload_n 1, 1) := dk_27 (dk_at dksX1_even_0 11 rfl rfl)
theorem dX1_even_12 : decode cX1_even 12 = .ok (.aload_n 0, 1) := dk_42 (dk_at dksX1_even_0 12 rfl rfl)
theorem dX1_even_13 : decode cX1_even 13 = .ok (.getfield 81, 3) := dk_180 0 81 (dk_at dksX1_even_0 13 rfl rfl)
theorem dX1_even_16 : decode cX1_even 16 = .ok (.iconst 1, 1) := dk_4 (dk_at dksX1_even_0 16 rfl rfl)
theorem dX1_even_17 : decode cX1_even 17 = .ok (.iaload, 1) := dk_46 (dk_at dksX1_even_0 17 rfl rfl)
theorem dX1_even_18 : decode cX1_even 18 = .ok (.if_icmp .eq 6, 3) := dk_159 0 6 (dk_at dksX1_even_0 18 rfl rfl)
theorem dX1_even_21 : decode cX1_even 21 = .ok (.bipush (-4), 2) := dk_16 252 (dk_at dksX1_even_0 21 rfl rfl)
theorem dX1_even_23 : decode cX1_even 23 = .ok (.ireturn, 1) := dk_172 (dk_at dksX1_even_0 23 rfl rfl)
theorem dX1_even_24 : decode cX1_even 24 = .ok (.bipush (-9), 2) := dk_16 247 (dk_at dksX1_even_1 0 rfl rfl)
theorem dX1_even_26 : decode cX1_even 26 = .ok (.istore_n 2, 1) := dk_61 (dk_at dksX1_even_1 2 rfl rfl)
theorem dX1_even_27 : decode cX1_even 27 = .ok (.iconst 0, 1) := dk_3 (dk_at dksX1_even_1 3 rfl rfl)
theorem dX1_even_28 : decode cX1_even 28 = .ok (.istore_n 3, 1) := dk_62 (dk_at dksX1_even_1 4 rfl rfl)
theorem dX1_even_29 : decode cX1_even 29 = .ok (.iconst 0, 1) := dk_3 (dk_at dksX1_even_1 5 rfl rfl)
theorem dX1_even_30 : decode cX1_even 30 = .ok (.istore 4, 2) := dk_54 4 (dk_at dksX1_even_1 6 rfl rfl)
theorem dX1_even_32 : decode cX1_even 32 = .ok (.iload 4, 2) := dk_21 4 (dk_at dksX1_even_1 8 rfl rfl)
theorem dX1_even_34 : decode cX1_even 34 = .ok (.iload_n 1, 1) := dk_27 (dk_at dksX1_even_1 10 rfl rfl)
theorem dX1_even_35 : decode cX1_even 35 = .ok (.if_icmp .ge 86, 3) := dk_162 0 86 (dk_at dksX1_even_1 11 rfl rfl)
theorem dX1_even_38 : decode cX1_even 38 = .ok (.iconst 0, 1) := dk_3 (dk_at dksX1_even_1 14 rfl rfl)
theorem dX1_even_39 : decode cX1_even 39 = .ok (.istore 5, 2) := dk_54 5 (dk_at dksX1_even_1 15 rfl rfl)
theorem dX1_even_41 : decode cX1_even 41 = .ok (.iconst 0, 1) := dk_3 (dk_at dksX1_even_1 17 rfl rfl)
theorem dX1_even_42 : decode cX1_even 42 = .ok (.istore 6, 2) := dk_54 6 (dk_at dksX1_even_1 18 rfl rfl)
theorem dX1_even_44 : decode cX1_even 44 = .ok (.iload 6, 2) := dk_21 6 (dk_at dksX1_even_1 20 rfl rfl)
theorem dX1_even_46 : decode cX1_even 46 = .ok (.iload_n 1, 1) := dk_27 (dk_at dksX1_even_1 22 rfl rfl)
theorem dX1_even_47 : decode cX1_even 47 = .ok (.if_icmp .ge 52, 3) := dk_162 0 52 (dk_at dksX1_even_2 0 rfl rfl)
theorem dX1_even_50 : decode cX1_even 50 = .ok (.aload_n 0, 1) := dk_42 (dk_at dksX1_even_2 3 rfl rfl)
theorem dX1_even_51 : decode cX1_even 51 = .ok (.getfield 84, 3) := dk_180 0 84 (dk_at dksX1_even_2 4 rfl rfl)
theorem dX1_even_54 : decode cX1_even 54 = .ok (.iload 6, 2) := dk_21 6 (dk_at dksX1_even_2 7 rfl rfl)
theorem dX1_even_56 : decode cX1_even 56 = .ok (.iaload, 1) := dk_46 (dk_at dksX1_even_2 9 rfl rfl)
theorem dX1_even_57 : decode cX1_even 57 = .ok (.aload_n 0, 1) := dk_42 (dk_at dksX1_even_2 10 rfl rfl)
theorem dX1_even_58 : decode cX1_even 58 = .ok (.getfield 84, 3) := dk_180 0 84 (dk_at dksX1_even_2 11 rfl rfl)
theorem dX1_even_61 : decode cX1_even 61 = .ok (.bipush 40, 2) := dk_16 40 (dk_at dksX1_even_2 14 rfl rfl)
theorem dX1_even_63 : decode cX1_even 63 = .ok (.iload 6, 2) := dk_21 6 (dk_at dksX1_even_2 16 rfl rfl)
theorem dX1_even_65 : decode cX1_even 65 = .ok (.iload 4, 2) := dk_21 4 (dk_at dksX1_even_2 18 rfl rfl)
theorem dX1_even_67 : decode cX1_even 67 = .ok (.iadd, 1) := dk_96 (dk_at dksX1_even_2 20 rfl rfl)
theorem dX1_even_68 : decode cX1_even 68 = .ok (.iload_n 1, 1) := dk_27 (dk_at dksX1_even_2 21 rfl rfl)
theorem dX1_even_69 : decode cX1_even 69 = .ok (.irem, 1) := dk_112 (dk_at dksX1_even_2 22 rfl rfl)
theorem dX1_even_70 : decode cX1_even 70 = .ok (.iadd, 1) := dk_96 (dk_at dksX1_even_2 23 rfl rfl)
theorem dX1_even_71 : decode cX1_even 71 = .ok (.iaload, 1) := dk_46 (dk_at dksX1_even_3 0 rfl rfl)
theorem dX1_even_72 : decode cX1_even 72 = .ok (.isub, 1) := dk_100 (dk_at dksX1_even_3 1 rfl rfl)
theorem dX1_even_73 : decode cX1_even 73 = .ok (.istore 7, 2) := dk_54 7 (dk_at dksX1_even_3 2 rfl rfl)
theorem dX1_even_75 : decode cX1_even 75 = .ok (.iload 5, 2) := dk_21 5 (dk_at dksX1_even_3 4 rfl rfl)
theorem dX1_even_77 : decode cX1_even 77 = .ok (.iload 7, 2) := dk_21 7 (dk_at dksX1_even_3 6 rfl rfl)
theorem dX1_even_79 : decode cX1_even 79 = .ok (.ifCond .ge 9, 3) := dk_156 0 9 (dk_at dksX1_even_3 8 rfl rfl)
theorem dX1_even_82 : decode cX1_even 82 = .ok (.iload 7, 2) := dk_21 7 (dk_at dksX1_even_3 11 rfl rfl)
theorem dX1_even_84 : decode cX1_even 84 = .ok (.ineg, 1) := dk_116 (dk_at dksX1_even_3 13 rfl rfl)
theorem dX1_even_85 : decode cX1_even 85 = .ok (.goto 5, 3) := dk_167 0 5 (dk_at dksX1_even_3 14 rfl rfl)
theorem dX1_even_88 : decode cX1_even 88 = .ok (.iload 7, 2) := dk_21 7 (dk_at dksX1_even_3 17 rfl rfl)
theorem dX1_even_90 : decode cX1_even 90 = .ok (.iadd, 1) := dk_96 (dk_at dksX1_even_3 19 rfl rfl)
theorem dX1_even_91 : decode cX1_even 91 = .ok (.istore 5, 2) := dk_54 5 (dk_at dksX1_even_3 20 rfl rfl)
theorem dX1_even_93 : decode cX1_even 93 = .ok (.iinc 6 1, 3) := dk_132 6 1 (dk_at dksX1_even_4 0 rfl rfl)
theorem dX1_even_96 : decode cX1_even 96 = .ok (.goto (-52), 3) := dk_167 255 204 (dk_at dksX1_even_4 3 rfl rfl)
theorem dX1_even_99 : decode cX1_even 99 = .ok (.iload_n 2, 1) := dk_28 (dk_at dksX1_even_4 6 rfl rfl)
theorem dX1_even_100 : decode cX1_even 100 = .ok (.ifCond .lt 9, 3) := dk_155 0 9 (dk_at dksX1_even_4 7 rfl rfl)
theorem dX1_even_103 : decode cX1_even 103 = .ok (.iload 5, 2) := dk_21 5 (dk_at dksX1_even_4 10 rfl rfl)
theorem dX1_even_105 : decode cX1_even 105 = .ok (.iload_n 3, 1) := dk_29 (dk_at dksX1_even_4 12 rfl rfl)
theorem dX1_even_106 : decode cX1_even 106 = .ok (.if_icmp .ge 9, 3) := dk_162 0 9 (dk_at dksX1_even_4 13 rfl rfl)
theorem dX1_even_109 : decode cX1_even 109 = .ok (.iload 4, 2) := dk_21 4 (dk_at dksX1_even_4 16 rfl rfl)
theorem dX1_even_111 : decode cX1_even 111 = .ok (.istore_n 2, 1) := dk_61 (dk_at dksX1_even_4 18 rfl rfl)
theorem dX1_even_112 : decode cX1_even 112 = .ok (.iload 5, 2) := dk_21 5 (dk_at dksX1_even_4 19 rfl rfl)
theorem dX1_even_114 : decode cX1_even 114 = .ok (.istore_n 3, 1) := dk_62 (dk_at dksX1_even_4 21 rfl rfl)
theorem dX1_even_115 : decode cX1_even 115 = .ok (.iinc 4 1, 3) := dk_132 4 1 (dk_at dksX1_even_5 0 rfl rfl)
theorem dX1_even_118 : decode cX1_even 118 = .ok (.goto (-86), 3) := dk_167 255 170 (dk_at dksX1_even_5 3 rfl rfl)
theorem dX1_even_121 : decode cX1_even 121 = .ok (.aload_n 0, 1) := dk_42 (dk_at dksX1_even_5 6 rfl rfl)
theorem dX1_even_122 : decode cX1_even 122 = .ok (.iload_n 3, 1) := dk_29 (dk_at dksX1_even_5 7 rfl rfl)
theorem dX1_even_123 : decode cX1_even 123 = .ok (.iload_n 2, 1) := dk_28 (dk_at dksX1_even_5 8 rfl rfl)
theorem dX1_even_124 : decode cX1_even 124 = .ok (.invokevirtual 178, 3) := dk_182 0 178 (dk_at dksX1_even_5 9 rfl rfl)
theorem dX1_even_127 : decode cX1_even 127 = .ok (.ireturn, 1) := dk_172 (dk_at dksX1_even_5 12 rfl rfl)
abbrev cX1_meanLoad : ByteArray := prog_12_method_49_code
def yX1_meanLoad : MethodName := ⟨RX1, "meanLoad", "(I)I"⟩
def dkwX1_meanLoad_3 : List UInt8 := [172]
abbrev dktX1_meanLoad_3 : List UInt8 := dkwX1_meanLoad_3 ++ []
def dkwX1_meanLoad_2 : List UInt8 := [180, 0, 81, 27, 46, 154, 0, 11, 42, 7, 182, 0, 101, 167, 0, 11, 28, 42, 180, 0, 81, 27, 46, 108]
abbrev dktX1_meanLoad_2 : List UInt8 := dkwX1_meanLoad_2 ++ dktX1_meanLoad_3
def dkwX1_meanLoad_1 : List UInt8 := [162, 0, 23, 28, 42, 180, 0, 84, 16, 40, 27, 104, 29, 96, 46, 96, 61, 132, 3, 1, 167, 255, 229, 42]
abbrev dktX1_meanLoad_1 : List UInt8 := dkwX1_meanLoad_1 ++ dktX1_meanLoad_2
def dkwX1_meanLoad_0 : List UInt8 := [27, 3, 4, 184, 0, 93, 154, 0, 5, 2, 172, 3, 61, 3, 62, 29, 42, 180, 0, 81, 27, 46]
abbrev dktX1_meanLoad_0 : List UInt8 := dkwX1_meanLoad_0 ++ dktX1_meanLoad_1
theorem dksX1_meanLoad_0 : cX1_meanLoad.data.toList.drop 0 = dktX1_meanLoad_0 := by decide +kernel
theorem dksX1_meanLoad_1 : cX1_meanLoad.data.toList.drop 22 = dktX1_meanLoad_1 := dk_seg dksX1_meanLoad_0 22 rfl rfl
theorem dksX1_meanLoad_2 : cX1_meanLoad.data.toList.drop 46 = dktX1_meanLoad_2 := dk_seg dksX1_meanLoad_1 24 rfl rfl
theorem dksX1_meanLoad_3 : cX1_meanLoad.data.toList.drop 70 = dktX1_meanLoad_3 := dk_seg dksX1_meanLoad_2 24 rfl rfl
theorem dX1_meanLoad_0 : decode cX1_meanLoad 0 = .ok (.iload_n 1, 1) := dk_27 (dk_at dksX1_meanLoad_0 0 rfl rfl)
theorem dX1_meanLoad_1 : decode cX1_meanLoad 1 = .ok (.iconst 0, 1) := dk_3 (dk_at dksX1_meanLoad_0 1 rfl rfl)
theorem dX1_meanLoad_2 : decode cX1_meanLoad 2 = .ok (.iconst 1, 1) := dk_4 (dk_at dksX1_meanLoad_0 2 rfl rfl)
theorem dX1_meanLoad_3 : decode cX1_meanLoad 3 = .ok (.invokestatic 93, 3) := dk_184 0 93 (dk_at dksX1_meanLoad_0 3 rfl rfl)
theorem dX1_meanLoad_6 : decode cX1_meanLoad 6 = .ok (.ifCond .ne 5, 3) := dk_154 0 5 (dk_at dksX1_meanLoad_0 6 rfl rfl)
theorem dX1_meanLoad_9 : decode cX1_meanLoad 9 = .ok (.iconst (-1), 1) := dk_2 (dk_at dksX1_meanLoad_0 9 rfl rfl)
theorem dX1_meanLoad_10 : decode cX1_meanLoad 10 = .ok (.ireturn, 1) := dk_172 (dk_at dksX1_meanLoad_0 10 rfl rfl)
theorem dX1_meanLoad_11 : decode cX1_meanLoad 11 = .ok (.iconst 0, 1) := dk_3 (dk_at dksX1_meanLoad_0 11 rfl rfl)
theorem dX1_meanLoad_12 : decode cX1_meanLoad 12 = .ok (.istore_n 2, 1) := dk_61 (dk_at dksX1_meanLoad_0 12 rfl rfl)
theorem dX1_meanLoad_13 : decode cX1_meanLoad 13 = .ok (.iconst 0, 1) := dk_3 (dk_at dksX1_meanLoad_0 13 rfl rfl)
theorem dX1_meanLoad_14 : decode cX1_meanLoad 14 = .ok (.istore_n 3, 1) := dk_62 (dk_at dksX1_meanLoad_0 14 rfl rfl)
theorem dX1_meanLoad_15 : decode cX1_meanLoad 15 = .ok (.iload_n 3, 1) := dk_29 (dk_at dksX1_meanLoad_0 15 rfl rfl)
theorem dX1_meanLoad_16 : decode cX1_meanLoad 16 = .ok (.aload_n 0, 1) := dk_42 (dk_at dksX1_meanLoad_0 16 rfl rfl)
theorem dX1_meanLoad_17 : decode cX1_meanLoad 17 = .ok (.getfield 81, 3) := dk_180 0 81 (dk_at dksX1_meanLoad_0 17 rfl rfl)
theorem dX1_meanLoad_20 : decode cX1_meanLoad 20 = .ok (.iload_n 1, 1) := dk_27 (dk_at dksX1_meanLoad_0 20 rfl rfl)
theorem dX1_meanLoad_21 : decode cX1_meanLoad 21 = .ok (.iaload, 1) := dk_46 (dk_at dksX1_meanLoad_0 21 rfl rfl)
theorem dX1_meanLoad_22 : decode cX1_meanLoad 22 = .ok (.if_icmp .ge 23, 3) := dk_162 0 23 (dk_at dksX1_meanLoad_1 0 rfl rfl)
theorem dX1_meanLoad_25 : decode cX1_meanLoad 25 = .ok (.iload_n 2, 1) := dk_28 (dk_at dksX1_meanLoad_1 3 rfl rfl)
theorem dX1_meanLoad_26 : decode cX1_meanLoad 26 = .ok (.aload_n 0, 1) := dk_42 (dk_at dksX1_meanLoad_1 4 rfl rfl)
theorem dX1_meanLoad_27 : decode cX1_meanLoad 27 = .ok (.getfield 84, 3) := dk_180 0 84 (dk_at dksX1_meanLoad_1 5 rfl rfl)
theorem dX1_meanLoad_30 : decode cX1_meanLoad 30 = .ok (.bipush 40, 2) := dk_16 40 (dk_at dksX1_meanLoad_1 8 rfl rfl)
theorem dX1_meanLoad_32 : decode cX1_meanLoad 32 = .ok (.iload_n 1, 1) := dk_27 (dk_at dksX1_meanLoad_1 10 rfl rfl)
theorem dX1_meanLoad_33 : decode cX1_meanLoad 33 = .ok (.imul, 1) := dk_104 (dk_at dksX1_meanLoad_1 11 rfl rfl)
theorem dX1_meanLoad_34 : decode cX1_meanLoad 34 = .ok (.iload_n 3, 1) := dk_29 (dk_at dksX1_meanLoad_1 12 rfl rfl)
theorem dX1_meanLoad_35 : decode cX1_meanLoad 35 = .ok (.iadd, 1) := dk_96 (dk_at dksX1_meanLoad_1 13 rfl rfl)
theorem dX1_meanLoad_36 : decode cX1_meanLoad 36 = .ok (.iaload, 1) := dk_46 (dk_at dksX1_meanLoad_1 14 rfl rfl)
theorem dX1_meanLoad_37 : decode cX1_meanLoad 37 = .ok (.iadd, 1) := dk_96 (dk_at dksX1_meanLoad_1 15 rfl rfl)
theorem dX1_meanLoad_38 : decode cX1_meanLoad 38 = .ok (.istore_n 2, 1) := dk_61 (dk_at dksX1_meanLoad_1 16 rfl rfl)
theorem dX1_meanLoad_39 : decode cX1_meanLoad 39 = .ok (.iinc 3 1, 3) := dk_132 3 1 (dk_at dksX1_meanLoad_1 17 rfl rfl)
theorem dX1_meanLoad_42 : decode cX1_meanLoad 42 = .ok (.goto (-27), 3) := dk_167 255 229 (dk_at dksX1_meanLoad_1 20 rfl rfl)
theorem dX1_meanLoad_45 : decode cX1_meanLoad 45 = .ok (.aload_n 0, 1) := dk_42 (dk_at dksX1_meanLoad_1 23 rfl rfl)
theorem dX1_meanLoad_46 : decode cX1_meanLoad 46 = .ok (.getfield 81, 3) := dk_180 0 81 (dk_at dksX1_meanLoad_2 0 rfl rfl)
theorem dX1_meanLoad_49 : decode cX1_meanLoad 49 = .ok (.iload_n 1, 1) := dk_27 (dk_at dksX1_meanLoad_2 3 rfl rfl)
theorem dX1_meanLoad_50 : decode cX1_meanLoad 50 = .ok (.iaload, 1) := dk_46 (dk_at dksX1_meanLoad_2 4 rfl rfl)
theorem dX1_meanLoad_51 : decode cX1_meanLoad 51 = .ok (.ifCond .ne 11, 3) := dk_154 0 11 (dk_at dksX1_meanLoad_2 5 rfl rfl)
theorem dX1_meanLoad_54 : decode cX1_meanLoad 54 = .ok (.aload_n 0, 1) := dk_42 (dk_at dksX1_meanLoad_2 8 rfl rfl)
theorem dX1_meanLoad_55 : decode cX1_meanLoad 55 = .ok (.iconst 4, 1) := dk_7 (dk_at dksX1_meanLoad_2 9 rfl rfl)
theorem dX1_meanLoad_56 : decode cX1_meanLoad 56 = .ok (.invokevirtual 101, 3) := dk_182 0 101 (dk_at dksX1_meanLoad_2 10 rfl rfl)
theorem dX1_meanLoad_59 : decode cX1_meanLoad 59 = .ok (.goto 11, 3) := dk_167 0 11 (dk_at dksX1_meanLoad_2 13 rfl rfl)
theorem dX1_meanLoad_62 : decode cX1_meanLoad 62 = .ok (.iload_n 2, 1) := dk_28 (dk_at dksX1_meanLoad_2 16 rfl rfl)
theorem dX1_meanLoad_63 : decode cX1_meanLoad 63 = .ok (.aload_n 0, 1) := dk_42 (dk_at dksX1_meanLoad_2 17 rfl rfl)
theorem dX1_meanLoad_64 : decode cX1_meanLoad 64 = .ok (.getfield 81, 3) := dk_180 0 81 (dk_at dksX1_meanLoad_2 18 rfl rfl)
theorem dX1_meanLoad_67 : decode cX1_meanLoad 67 = .ok (.iload_n 1, 1) := dk_27 (dk_at dksX1_meanLoad_2 21 rfl rfl)
theorem dX1_meanLoad_68 : decode cX1_meanLoad 68 = .ok (.iaload, 1) := dk_46 (dk_at dksX1_meanLoad_2 22 rfl rfl)
theorem dX1_meanLoad_69 : decode cX1_meanLoad 69 = .ok (.idiv, 1) := dk_108 (dk_at dksX1_meanLoad_2 23 rfl rfl)
theorem dX1_meanLoad_70 : decode cX1_meanLoad 70 = .ok (.ireturn, 1) := dk_172 (dk_at dksX1_meanLoad_3 0 rfl rfl)
abbrev cX1_asked : ByteArray := prog_12_method_50_code
def yX1_asked : MethodName := ⟨RX1, "asked", "()I"⟩
theorem dX1_asked_0 : decode cX1_asked 0 = .ok (.aload_n 0, 1) := by decide +kernel
theorem dX1_asked_1 : decode cX1_asked 1 = .ok (.getfield 90, 3) := by decide +kernel
theorem dX1_asked_4 : decode cX1_asked 4 = .ok (.ireturn, 1) := by decide +kernel
abbrev cX1_count : ByteArray := prog_12_method_52_code
def yX1_count : MethodName := ⟨RX1, "count", "(I)I"⟩
def dkwX1_count_0 : List UInt8 := [27, 3, 8, 184, 0, 93, 153, 0, 11, 42, 27, 182, 0, 181, 167, 0, 4, 2, 172]
abbrev dktX1_count_0 : List UInt8 := dkwX1_count_0 ++ []
theorem dksX1_count_0 : cX1_count.data.toList.drop 0 = dktX1_count_0 := by decide +kernel
theorem dX1_count_0 : decode cX1_count 0 = .ok (.iload_n 1, 1) := dk_27 (dk_at dksX1_count_0 0 rfl rfl)
theorem dX1_count_1 : decode cX1_count 1 = .ok (.iconst 0, 1) := dk_3 (dk_at dksX1_count_0 1 rfl rfl)
theorem dX1_count_2 : decode cX1_count 2 = .ok (.iconst 5, 1) := dk_8 (dk_at dksX1_count_0 2 rfl rfl)
theorem dX1_count_3 : decode cX1_count 3 = .ok (.invokestatic 93, 3) := dk_184 0 93 (dk_at dksX1_count_0 3 rfl rfl)
theorem dX1_count_6 : decode cX1_count 6 = .ok (.ifCond .eq 11, 3) := dk_153 0 11 (dk_at dksX1_count_0 6 rfl rfl)
theorem dX1_count_9 : decode cX1_count 9 = .ok (.aload_n 0, 1) := dk_42 (dk_at dksX1_count_0 9 rfl rfl)
theorem dX1_count_10 : decode cX1_count 10 = .ok (.iload_n 1, 1) := dk_27 (dk_at dksX1_count_0 10 rfl rfl)
theorem dX1_count_11 : decode cX1_count 11 = .ok (.invokevirtual 181, 3) := dk_182 0 181 (dk_at dksX1_count_0 11 rfl rfl)
theorem dX1_count_14 : decode cX1_count 14 = .ok (.goto 4, 3) := dk_167 0 4 (dk_at dksX1_count_0 14 rfl rfl)
theorem dX1_count_17 : decode cX1_count 17 = .ok (.iconst (-1), 1) := dk_2 (dk_at dksX1_count_0 17 rfl rfl)
theorem dX1_count_18 : decode cX1_count 18 = .ok (.ireturn, 1) := dk_172 (dk_at dksX1_count_0 18 rfl rfl)
abbrev cX1_tellsCount : ByteArray := prog_12_method_51_code
def yX1_tellsCount : MethodName := ⟨RX1, "tellsCount", "(I)I"⟩
def dkwX1_tellsCount_5 : List UInt8 := [132, 3, 1, 167, 255, 228, 28, 172, 42, 180, 0, 168, 172, 42, 180, 0, 138, 172]
abbrev dktX1_tellsCount_5 : List UInt8 := dkwX1_tellsCount_5 ++ []
def dkwX1_tellsCount_4 : List UInt8 := [180, 0, 143, 162, 0, 26, 28, 42, 180, 0, 59, 29, 51, 153, 0, 7, 4, 167, 0, 4, 3, 96, 61]
abbrev dktX1_tellsCount_4 : List UInt8 := dkwX1_tellsCount_4 ++ dktX1_tellsCount_5
def dkwX1_tellsCount_3 : List UInt8 := [132, 3, 1, 167, 255, 231, 28, 172, 42, 180, 0, 122, 172, 42, 180, 0, 143, 172, 3, 62, 29, 42]
abbrev dktX1_tellsCount_3 : List UInt8 := dkwX1_tellsCount_3 ++ dktX1_tellsCount_4
def dkwX1_tellsCount_2 : List UInt8 := [3, 62, 29, 7, 162, 0, 26, 28, 42, 180, 0, 13, 29, 51, 153, 0, 7, 4, 167, 0, 4, 3, 96, 61]
abbrev dktX1_tellsCount_2 : List UInt8 := dkwX1_tellsCount_2 ++ dktX1_tellsCount_3
def dkwX1_tellsCount_1 : List UInt8 := [170, 0, 0, 0, 115, 0, 0, 0, 0, 0, 0, 0, 4, 0, 0, 0, 33, 0, 0, 0, 65, 0, 0, 0, 70, 0, 0, 0, 75, 0, 0, 0, 110]
abbrev dktX1_tellsCount_1 : List UInt8 := dkwX1_tellsCount_1 ++ dktX1_tellsCount_2
def dkwX1_tellsCount_0 : List UInt8 := [3, 61, 27]
abbrev dktX1_tellsCount_0 : List UInt8 := dkwX1_tellsCount_0 ++ dktX1_tellsCount_1
theorem dksX1_tellsCount_0 : cX1_tellsCount.data.toList.drop 0 = dktX1_tellsCount_0 := by decide +kernel
theorem dksX1_tellsCount_1 : cX1_tellsCount.data.toList.drop 3 = dktX1_tellsCount_1 := dk_seg dksX1_tellsCount_0 3 rfl rfl
theorem dksX1_tellsCount_2 : cX1_tellsCount.data.toList.drop 36 = dktX1_tellsCount_2 := dk_seg dksX1_tellsCount_1 33 rfl rfl
theorem dksX1_tellsCount_3 : cX1_tellsCount.data.toList.drop 60 = dktX1_tellsCount_3 := dk_seg dksX1_tellsCount_2 24 rfl rfl
theorem dksX1_tellsCount_4 : cX1_tellsCount.data.toList.drop 82 = dktX1_tellsCount_4 := dk_seg dksX1_tellsCount_3 22 rfl rfl
theorem dksX1_tellsCount_5 : cX1_tellsCount.data.toList.drop 105 = dktX1_tellsCount_5 := dk_seg dksX1_tellsCount_4 23 rfl rfl
theorem dX1_tellsCount_0 : decode cX1_tellsCount 0 = .ok (.iconst 0, 1) := dk_3 (dk_at dksX1_tellsCount_0 0 rfl rfl)
theorem dX1_tellsCount_1 : decode cX1_tellsCount 1 = .ok (.istore_n 2, 1) := dk_61 (dk_at dksX1_tellsCount_0 1 rfl rfl)
theorem dX1_tellsCount_2 : decode cX1_tellsCount 2 = .ok (.iload_n 1, 1) := dk_27 (dk_at dksX1_tellsCount_0 2 rfl rfl)
theorem dX1_tellsCount_3 : decode cX1_tellsCount 3 = .ok (.tableswitch 115 0 4 #[33, 65, 70, 75, 110], 33) := by decide +kernel
theorem dX1_tellsCount_36 : decode cX1_tellsCount 36 = .ok (.iconst 0, 1) := dk_3 (dk_at dksX1_tellsCount_2 0 rfl rfl)
theorem dX1_tellsCount_37 : decode cX1_tellsCount 37 = .ok (.istore_n 3, 1) := dk_62 (dk_at dksX1_tellsCount_2 1 rfl rfl)
theorem dX1_tellsCount_38 : decode cX1_tellsCount 38 = .ok (.iload_n 3, 1) := dk_29 (dk_at dksX1_tellsCount_2 2 rfl rfl)
theorem dX1_tellsCount_39 : decode cX1_tellsCount 39 = .ok (.iconst 4, 1) := dk_7 (dk_at dksX1_tellsCount_2 3 rfl rfl)
theorem dX1_tellsCount_40 : decode cX1_tellsCount 40 = .ok (.if_icmp .ge 26, 3) := dk_162 0 26 (dk_at dksX1_tellsCount_2 4 rfl rfl)
theorem dX1_tellsCount_43 : decode cX1_tellsCount 43 = .ok (.iload_n 2, 1) := dk_28 (dk_at dksX1_tellsCount_2 7 rfl rfl)
theorem dX1_tellsCount_44 : decode cX1_tellsCount 44 = .ok (.aload_n 0, 1) := dk_42 (dk_at dksX1_tellsCount_2 8 rfl rfl)
theorem dX1_tellsCount_45 : decode cX1_tellsCount 45 = .ok (.getfield 13, 3) := dk_180 0 13 (dk_at dksX1_tellsCount_2 9 rfl rfl)
theorem dX1_tellsCount_48 : decode cX1_tellsCount 48 = .ok (.iload_n 3, 1) := dk_29 (dk_at dksX1_tellsCount_2 12 rfl rfl)
theorem dX1_tellsCount_49 : decode cX1_tellsCount 49 = .ok (.baload, 1) := dk_51 (dk_at dksX1_tellsCount_2 13 rfl rfl)
theorem dX1_tellsCount_50 : decode cX1_tellsCount 50 = .ok (.ifCond .eq 7, 3) := dk_153 0 7 (dk_at dksX1_tellsCount_2 14 rfl rfl)
theorem dX1_tellsCount_53 : decode cX1_tellsCount 53 = .ok (.iconst 1, 1) := dk_4 (dk_at dksX1_tellsCount_2 17 rfl rfl)
theorem dX1_tellsCount_54 : decode cX1_tellsCount 54 = .ok (.goto 4, 3) := dk_167 0 4 (dk_at dksX1_tellsCount_2 18 rfl rfl)
theorem dX1_tellsCount_57 : decode cX1_tellsCount 57 = .ok (.iconst 0, 1) := dk_3 (dk_at dksX1_tellsCount_2 21 rfl rfl)
theorem dX1_tellsCount_58 : decode cX1_tellsCount 58 = .ok (.iadd, 1) := dk_96 (dk_at dksX1_tellsCount_2 22 rfl rfl)
theorem dX1_tellsCount_59 : decode cX1_tellsCount 59 = .ok (.istore_n 2, 1) := dk_61 (dk_at dksX1_tellsCount_2 23 rfl rfl)
theorem dX1_tellsCount_60 : decode cX1_tellsCount 60 = .ok (.iinc 3 1, 3) := dk_132 3 1 (dk_at dksX1_tellsCount_3 0 rfl rfl)
theorem dX1_tellsCount_63 : decode cX1_tellsCount 63 = .ok (.goto (-25), 3) := dk_167 255 231 (dk_at dksX1_tellsCount_3 3 rfl rfl)
theorem dX1_tellsCount_66 : decode cX1_tellsCount 66 = .ok (.iload_n 2, 1) := dk_28 (dk_at dksX1_tellsCount_3 6 rfl rfl)
theorem dX1_tellsCount_67 : decode cX1_tellsCount 67 = .ok (.ireturn, 1) := dk_172 (dk_at dksX1_tellsCount_3 7 rfl rfl)
theorem dX1_tellsCount_68 : decode cX1_tellsCount 68 = .ok (.aload_n 0, 1) := dk_42 (dk_at dksX1_tellsCount_3 8 rfl rfl)
theorem dX1_tellsCount_69 : decode cX1_tellsCount 69 = .ok (.getfield 122, 3) := dk_180 0 122 (dk_at dksX1_tellsCount_3 9 rfl rfl)
theorem dX1_tellsCount_72 : decode cX1_tellsCount 72 = .ok (.ireturn, 1) := dk_172 (dk_at dksX1_tellsCount_3 12 rfl rfl)
theorem dX1_tellsCount_73 : decode cX1_tellsCount 73 = .ok (.aload_n 0, 1) := dk_42 (dk_at dksX1_tellsCount_3 13 rfl rfl)
theorem dX1_tellsCount_74 : decode cX1_tellsCount 74 = .ok (.getfield 143, 3) := dk_180 0 143 (dk_at dksX1_tellsCount_3 14 rfl rfl)
theorem dX1_tellsCount_77 : decode cX1_tellsCount 77 = .ok (.ireturn, 1) := dk_172 (dk_at dksX1_tellsCount_3 17 rfl rfl)
theorem dX1_tellsCount_78 : decode cX1_tellsCount 78 = .ok (.iconst 0, 1) := dk_3 (dk_at dksX1_tellsCount_3 18 rfl rfl)
theorem dX1_tellsCount_79 : decode cX1_tellsCount 79 = .ok (.istore_n 3, 1) := dk_62 (dk_at dksX1_tellsCount_3 19 rfl rfl)
theorem dX1_tellsCount_80 : decode cX1_tellsCount 80 = .ok (.iload_n 3, 1) := dk_29 (dk_at dksX1_tellsCount_3 20 rfl rfl)
theorem dX1_tellsCount_81 : decode cX1_tellsCount 81 = .ok (.aload_n 0, 1) := dk_42 (dk_at dksX1_tellsCount_3 21 rfl rfl)
theorem dX1_tellsCount_82 : decode cX1_tellsCount 82 = .ok (.getfield 143, 3) := dk_180 0 143 (dk_at dksX1_tellsCount_4 0 rfl rfl)
theorem dX1_tellsCount_85 : decode cX1_tellsCount 85 = .ok (.if_icmp .ge 26, 3) := dk_162 0 26 (dk_at dksX1_tellsCount_4 3 rfl rfl)
theorem dX1_tellsCount_88 : decode cX1_tellsCount 88 = .ok (.iload_n 2, 1) := dk_28 (dk_at dksX1_tellsCount_4 6 rfl rfl)
theorem dX1_tellsCount_89 : decode cX1_tellsCount 89 = .ok (.aload_n 0, 1) := dk_42 (dk_at dksX1_tellsCount_4 7 rfl rfl)
theorem dX1_tellsCount_90 : decode cX1_tellsCount 90 = .ok (.getfield 59, 3) := dk_180 0 59 (dk_at dksX1_tellsCount_4 8 rfl rfl)
theorem dX1_tellsCount_93 : decode cX1_tellsCount 93 = .ok (.iload_n 3, 1) := dk_29 (dk_at dksX1_tellsCount_4 11 rfl rfl)
theorem dX1_tellsCount_94 : decode cX1_tellsCount 94 = .ok (.baload, 1) := dk_51 (dk_at dksX1_tellsCount_4 12 rfl rfl)
theorem dX1_tellsCount_95 : decode cX1_tellsCount 95 = .ok (.ifCond .eq 7, 3) := dk_153 0 7 (dk_at dksX1_tellsCount_4 13 rfl rfl)
theorem dX1_tellsCount_98 : decode cX1_tellsCount 98 = .ok (.iconst 1, 1) := dk_4 (dk_at dksX1_tellsCount_4 16 rfl rfl)
theorem dX1_tellsCount_99 : decode cX1_tellsCount 99 = .ok (.goto 4, 3) := dk_167 0 4 (dk_at dksX1_tellsCount_4 17 rfl rfl)
theorem dX1_tellsCount_102 : decode cX1_tellsCount 102 = .ok (.iconst 0, 1) := dk_3 (dk_at dksX1_tellsCount_4 20 rfl rfl)
theorem dX1_tellsCount_103 : decode cX1_tellsCount 103 = .ok (.iadd, 1) := dk_96 (dk_at dksX1_tellsCount_4 21 rfl rfl)
theorem dX1_tellsCount_104 : decode cX1_tellsCount 104 = .ok (.istore_n 2, 1) := dk_61 (dk_at dksX1_tellsCount_4 22 rfl rfl)
theorem dX1_tellsCount_105 : decode cX1_tellsCount 105 = .ok (.iinc 3 1, 3) := dk_132 3 1 (dk_at dksX1_tellsCount_5 0 rfl rfl)
theorem dX1_tellsCount_108 : decode cX1_tellsCount 108 = .ok (.goto (-28), 3) := dk_167 255 228 (dk_at dksX1_tellsCount_5 3 rfl rfl)
theorem dX1_tellsCount_111 : decode cX1_tellsCount 111 = .ok (.iload_n 2, 1) := dk_28 (dk_at dksX1_tellsCount_5 6 rfl rfl)
theorem dX1_tellsCount_112 : decode cX1_tellsCount 112 = .ok (.ireturn, 1) := dk_172 (dk_at dksX1_tellsCount_5 7 rfl rfl)
theorem dX1_tellsCount_113 : decode cX1_tellsCount 113 = .ok (.aload_n 0, 1) := dk_42 (dk_at dksX1_tellsCount_5 8 rfl rfl)
theorem dX1_tellsCount_114 : decode cX1_tellsCount 114 = .ok (.getfield 168, 3) := dk_180 0 168 (dk_at dksX1_tellsCount_5 9 rfl rfl)
theorem dX1_tellsCount_117 : decode cX1_tellsCount 117 = .ok (.ireturn, 1) := dk_172 (dk_at dksX1_tellsCount_5 12 rfl rfl)
theorem dX1_tellsCount_118 : decode cX1_tellsCount 118 = .ok (.aload_n 0, 1) := dk_42 (dk_at dksX1_tellsCount_5 13 rfl rfl)
theorem dX1_tellsCount_119 : decode cX1_tellsCount 119 = .ok (.getfield 138, 3) := dk_180 0 138 (dk_at dksX1_tellsCount_5 14 rfl rfl)
theorem dX1_tellsCount_122 : decode cX1_tellsCount 122 = .ok (.ireturn, 1) := dk_172 (dk_at dksX1_tellsCount_5 17 rfl rfl)
abbrev cX1_finding : ByteArray := prog_12_method_53_code
def yX1_finding : MethodName := ⟨RX1, "finding", "()I"⟩
theorem dX1_finding_0 : decode cX1_finding 0 = .ok (.aload_n 0, 1) := by decide +kernel
theorem dX1_finding_1 : decode cX1_finding 1 = .ok (.getfield 87, 3) := by decide +kernel
theorem dX1_finding_4 : decode cX1_finding 4 = .ok (.ireturn, 1) := by decide +kernel
abbrev cX1_findings : ByteArray := prog_12_method_54_code
def yX1_findings : MethodName := ⟨RX1, "findings", "(I)I"⟩
def dkwX1_findings_0 : List UInt8 := [27, 4, 8, 184, 0, 93, 153, 0, 12, 42, 180, 0, 7, 27, 46, 167, 0, 4, 2, 172]
abbrev dktX1_findings_0 : List UInt8 := dkwX1_findings_0 ++ []
theorem dksX1_findings_0 : cX1_findings.data.toList.drop 0 = dktX1_findings_0 := by decide +kernel
theorem dX1_findings_0 : decode cX1_findings 0 = .ok (.iload_n 1, 1) := dk_27 (dk_at dksX1_findings_0 0 rfl rfl)
theorem dX1_findings_1 : decode cX1_findings 1 = .ok (.iconst 1, 1) := dk_4 (dk_at dksX1_findings_0 1 rfl rfl)
theorem dX1_findings_2 : decode cX1_findings 2 = .ok (.iconst 5, 1) := dk_8 (dk_at dksX1_findings_0 2 rfl rfl)
theorem dX1_findings_3 : decode cX1_findings 3 = .ok (.invokestatic 93, 3) := dk_184 0 93 (dk_at dksX1_findings_0 3 rfl rfl)
theorem dX1_findings_6 : decode cX1_findings 6 = .ok (.ifCond .eq 12, 3) := dk_153 0 12 (dk_at dksX1_findings_0 6 rfl rfl)
theorem dX1_findings_9 : decode cX1_findings 9 = .ok (.aload_n 0, 1) := dk_42 (dk_at dksX1_findings_0 9 rfl rfl)
theorem dX1_findings_10 : decode cX1_findings 10 = .ok (.getfield 7, 3) := dk_180 0 7 (dk_at dksX1_findings_0 10 rfl rfl)
theorem dX1_findings_13 : decode cX1_findings 13 = .ok (.iload_n 1, 1) := dk_27 (dk_at dksX1_findings_0 13 rfl rfl)
theorem dX1_findings_14 : decode cX1_findings 14 = .ok (.iaload, 1) := dk_46 (dk_at dksX1_findings_0 14 rfl rfl)
theorem dX1_findings_15 : decode cX1_findings 15 = .ok (.goto 4, 3) := dk_167 0 4 (dk_at dksX1_findings_0 15 rfl rfl)
theorem dX1_findings_18 : decode cX1_findings 18 = .ok (.iconst (-1), 1) := dk_2 (dk_at dksX1_findings_0 18 rfl rfl)
theorem dX1_findings_19 : decode cX1_findings 19 = .ok (.ireturn, 1) := dk_172 (dk_at dksX1_findings_0 19 rfl rfl)
abbrev cX1_digest : ByteArray := prog_12_method_55_code
def yX1_digest : MethodName := ⟨RX1, "digest", "()J"⟩
def dkwX1_digest_10 : List UInt8 := [167, 255, 229, 31, 173]
abbrev dktX1_digest_10 : List UInt8 := dkwX1_digest_10 ++ []
def dkwX1_digest_9 : List UInt8 := [162, 0, 27, 20, 0, 186, 31, 105, 42, 29, 6, 108, 29, 6, 112, 182, 0, 175, 133, 97, 64, 132, 3, 1]
abbrev dktX1_digest_9 : List UInt8 := dkwX1_digest_9 ++ dktX1_digest_10
def dkwX1_digest_8 : List UInt8 := [96, 46, 133, 97, 64, 132, 4, 1, 167, 255, 222, 132, 3, 1, 167, 255, 208, 3, 62, 29, 16, 12]
abbrev dktX1_digest_8 : List UInt8 := dkwX1_digest_8 ++ dktX1_digest_9
def dkwX1_digest_7 : List UInt8 := [42, 180, 0, 81, 29, 46, 162, 0, 29, 20, 0, 186, 31, 105, 42, 180, 0, 84, 16, 40, 29, 104, 21, 4]
abbrev dktX1_digest_7 : List UInt8 := dkwX1_digest_7 ++ dktX1_digest_8
def dkwX1_digest_6 : List UInt8 := [132, 4, 1, 167, 255, 231, 132, 3, 1, 167, 255, 214, 3, 62, 29, 5, 162, 0, 49, 3, 54, 4, 21, 4]
abbrev dktX1_digest_6 : List UInt8 := dkwX1_digest_6 ++ dktX1_digest_7
def dkwX1_digest_5 : List UInt8 := [54, 4, 21, 4, 16, 6, 163, 0, 24, 20, 0, 186, 31, 105, 42, 29, 21, 4, 182, 0, 149, 133, 97, 64]
abbrev dktX1_digest_5 : List UInt8 := dkwX1_digest_5 ++ dktX1_digest_6
def dkwX1_digest_4 : List UInt8 := [132, 4, 1, 167, 255, 217, 132, 3, 1, 167, 255, 186, 3, 62, 29, 42, 180, 0, 143, 162, 0, 40, 3]
abbrev dktX1_digest_4 : List UInt8 := dkwX1_digest_4 ++ dktX1_digest_5
def dkwX1_digest_3 : List UInt8 := [153, 0, 29, 20, 0, 186, 31, 105, 42, 180, 0, 17, 16, 96, 29, 104, 21, 4, 96, 46, 133, 97, 64]
abbrev dktX1_digest_3 : List UInt8 := dkwX1_digest_3 ++ dktX1_digest_4
def dkwX1_digest_2 : List UInt8 := [20, 0, 186, 31, 105, 10, 101, 64, 3, 54, 4, 21, 4, 16, 96, 162, 0, 38, 42, 180, 0, 13, 29, 51]
abbrev dktX1_digest_2 : List UInt8 := dkwX1_digest_2 ++ dktX1_digest_3
def dkwX1_digest_1 : List UInt8 := [132, 3, 1, 167, 255, 235, 3, 62, 29, 7, 162, 0, 71, 42, 180, 0, 13, 29, 51, 154, 0, 11]
abbrev dktX1_digest_1 : List UInt8 := dkwX1_digest_1 ++ dktX1_digest_2
def dkwX1_digest_0 : List UInt8 := [20, 0, 184, 64, 3, 62, 29, 8, 163, 0, 22, 20, 0, 186, 31, 105, 42, 29, 182, 0, 181, 133, 97, 64]
abbrev dktX1_digest_0 : List UInt8 := dkwX1_digest_0 ++ dktX1_digest_1
theorem dksX1_digest_0 : cX1_digest.data.toList.drop 0 = dktX1_digest_0 := by decide +kernel
theorem dksX1_digest_1 : cX1_digest.data.toList.drop 24 = dktX1_digest_1 := dk_seg dksX1_digest_0 24 rfl rfl
theorem dksX1_digest_2 : cX1_digest.data.toList.drop 46 = dktX1_digest_2 := dk_seg dksX1_digest_1 22 rfl rfl
theorem dksX1_digest_3 : cX1_digest.data.toList.drop 70 = dktX1_digest_3 := dk_seg dksX1_digest_2 24 rfl rfl
theorem dksX1_digest_4 : cX1_digest.data.toList.drop 93 = dktX1_digest_4 := dk_seg dksX1_digest_3 23 rfl rfl
theorem dksX1_digest_5 : cX1_digest.data.toList.drop 116 = dktX1_digest_5 := dk_seg dksX1_digest_4 23 rfl rfl
theorem dksX1_digest_6 : cX1_digest.data.toList.drop 140 = dktX1_digest_6 := dk_seg dksX1_digest_5 24 rfl rfl
theorem dksX1_digest_7 : cX1_digest.data.toList.drop 164 = dktX1_digest_7 := dk_seg dksX1_digest_6 24 rfl rfl
theorem dksX1_digest_8 : cX1_digest.data.toList.drop 188 = dktX1_digest_8 := dk_seg dksX1_digest_7 24 rfl rfl
theorem dksX1_digest_9 : cX1_digest.data.toList.drop 210 = dktX1_digest_9 := dk_seg dksX1_digest_8 22 rfl rfl
theorem dksX1_digest_10 : cX1_digest.data.toList.drop 234 = dktX1_digest_10 := dk_seg dksX1_digest_9 24 rfl rfl
theorem dX1_digest_0 : decode cX1_digest 0 = .ok (.ldc2_w 184, 3) := dk_20 0 184 (dk_at dksX1_digest_0 0 rfl rfl)
theorem dX1_digest_3 : decode cX1_digest 3 = .ok (.lstore_n 1, 1) := dk_64 (dk_at dksX1_digest_0 3 rfl rfl)
theorem dX1_digest_4 : decode cX1_digest 4 = .ok (.iconst 0, 1) := dk_3 (dk_at dksX1_digest_0 4 rfl rfl)
theorem dX1_digest_5 : decode cX1_digest 5 = .ok (.istore_n 3, 1) := dk_62 (dk_at dksX1_digest_0 5 rfl rfl)
theorem dX1_digest_6 : decode cX1_digest 6 = .ok (.iload_n 3, 1) := dk_29 (dk_at dksX1_digest_0 6 rfl rfl)
theorem dX1_digest_7 : decode cX1_digest 7 = .ok (.iconst 5, 1) := dk_8 (dk_at dksX1_digest_0 7 rfl rfl)
theorem dX1_digest_8 : decode cX1_digest 8 = .ok (.if_icmp .gt 22, 3) := dk_163 0 22 (dk_at dksX1_digest_0 8 rfl rfl)
theorem dX1_digest_11 : decode cX1_digest 11 = .ok (.ldc2_w 186, 3) := dk_20 0 186 (dk_at dksX1_digest_0 11 rfl rfl)
theorem dX1_digest_14 : decode cX1_digest 14 = .ok (.lload_n 1, 1) := dk_31 (dk_at dksX1_digest_0 14 rfl rfl)
theorem dX1_digest_15 : decode cX1_digest 15 = .ok (.lmul, 1) := dk_105 (dk_at dksX1_digest_0 15 rfl rfl)
theorem dX1_digest_16 : decode cX1_digest 16 = .ok (.aload_n 0, 1) := dk_42 (dk_at dksX1_digest_0 16 rfl rfl)
theorem dX1_digest_17 : decode cX1_digest 17 = .ok (.iload_n 3, 1) := dk_29 (dk_at dksX1_digest_0 17 rfl rfl)
theorem dX1_digest_18 : decode cX1_digest 18 = .ok (.invokevirtual 181, 3) := dk_182 0 181 (dk_at dksX1_digest_0 18 rfl rfl)
theorem dX1_digest_21 : decode cX1_digest 21 = .ok (.i2l, 1) := dk_133 (dk_at dksX1_digest_0 21 rfl rfl)
theorem dX1_digest_22 : decode cX1_digest 22 = .ok (.ladd, 1) := dk_97 (dk_at dksX1_digest_0 22 rfl rfl)
theorem dX1_digest_23 : decode cX1_digest 23 = .ok (.lstore_n 1, 1) := dk_64 (dk_at dksX1_digest_0 23 rfl rfl)
theorem dX1_digest_24 : decode cX1_digest 24 = .ok (.iinc 3 1, 3) := dk_132 3 1 (dk_at dksX1_digest_1 0 rfl rfl)
theorem dX1_digest_27 : decode cX1_digest 27 = .ok (.goto (-21), 3) := dk_167 255 235 (dk_at dksX1_digest_1 3 rfl rfl)
theorem dX1_digest_30 : decode cX1_digest 30 = .ok (.iconst 0, 1) := dk_3 (dk_at dksX1_digest_1 6 rfl rfl)
theorem dX1_digest_31 : decode cX1_digest 31 = .ok (.istore_n 3, 1) := dk_62 (dk_at dksX1_digest_1 7 rfl rfl)
theorem dX1_digest_32 : decode cX1_digest 32 = .ok (.iload_n 3, 1) := dk_29 (dk_at dksX1_digest_1 8 rfl rfl)
theorem dX1_digest_33 : decode cX1_digest 33 = .ok (.iconst 4, 1) := dk_7 (dk_at dksX1_digest_1 9 rfl rfl)
theorem dX1_digest_34 : decode cX1_digest 34 = .ok (.if_icmp .ge 71, 3) := dk_162 0 71 (dk_at dksX1_digest_1 10 rfl rfl)
theorem dX1_digest_37 : decode cX1_digest 37 = .ok (.aload_n 0, 1) := dk_42 (dk_at dksX1_digest_1 13 rfl rfl)
theorem dX1_digest_38 : decode cX1_digest 38 = .ok (.getfield 13, 3) := dk_180 0 13 (dk_at dksX1_digest_1 14 rfl rfl)
theorem dX1_digest_41 : decode cX1_digest 41 = .ok (.iload_n 3, 1) := dk_29 (dk_at dksX1_digest_1 17 rfl rfl)
theorem dX1_digest_42 : decode cX1_digest 42 = .ok (.baload, 1) := dk_51 (dk_at dksX1_digest_1 18 rfl rfl)
theorem dX1_digest_43 : decode cX1_digest 43 = .ok (.ifCond .ne 11, 3) := dk_154 0 11 (dk_at dksX1_digest_1 19 rfl rfl)
theorem dX1_digest_46 : decode cX1_digest 46 = .ok (.ldc2_w 186, 3) := dk_20 0 186 (dk_at dksX1_digest_2 0 rfl rfl)
theorem dX1_digest_49 : decode cX1_digest 49 = .ok (.lload_n 1, 1) := dk_31 (dk_at dksX1_digest_2 3 rfl rfl)
theorem dX1_digest_50 : decode cX1_digest 50 = .ok (.lmul, 1) := dk_105 (dk_at dksX1_digest_2 4 rfl rfl)
theorem dX1_digest_51 : decode cX1_digest 51 = .ok (.lconst 1, 1) := dk_10 (dk_at dksX1_digest_2 5 rfl rfl)
theorem dX1_digest_52 : decode cX1_digest 52 = .ok (.lsub, 1) := dk_101 (dk_at dksX1_digest_2 6 rfl rfl)
theorem dX1_digest_53 : decode cX1_digest 53 = .ok (.lstore_n 1, 1) := dk_64 (dk_at dksX1_digest_2 7 rfl rfl)
theorem dX1_digest_54 : decode cX1_digest 54 = .ok (.iconst 0, 1) := dk_3 (dk_at dksX1_digest_2 8 rfl rfl)
theorem dX1_digest_55 : decode cX1_digest 55 = .ok (.istore 4, 2) := dk_54 4 (dk_at dksX1_digest_2 9 rfl rfl)
theorem dX1_digest_57 : decode cX1_digest 57 = .ok (.iload 4, 2) := dk_21 4 (dk_at dksX1_digest_2 11 rfl rfl)
theorem dX1_digest_59 : decode cX1_digest 59 = .ok (.bipush 96, 2) := dk_16 96 (dk_at dksX1_digest_2 13 rfl rfl)
theorem dX1_digest_61 : decode cX1_digest 61 = .ok (.if_icmp .ge 38, 3) := dk_162 0 38 (dk_at dksX1_digest_2 15 rfl rfl)
theorem dX1_digest_64 : decode cX1_digest 64 = .ok (.aload_n 0, 1) := dk_42 (dk_at dksX1_digest_2 18 rfl rfl)
theorem dX1_digest_65 : decode cX1_digest 65 = .ok (.getfield 13, 3) := dk_180 0 13 (dk_at dksX1_digest_2 19 rfl rfl)
theorem dX1_digest_68 : decode cX1_digest 68 = .ok (.iload_n 3, 1) := dk_29 (dk_at dksX1_digest_2 22 rfl rfl)
theorem dX1_digest_69 : decode cX1_digest 69 = .ok (.baload, 1) := dk_51 (dk_at dksX1_digest_2 23 rfl rfl)
theorem dX1_digest_70 : decode cX1_digest 70 = .ok (.ifCond .eq 29, 3) := dk_153 0 29 (dk_at dksX1_digest_3 0 rfl rfl)
theorem dX1_digest_73 : decode cX1_digest 73 = .ok (.ldc2_w 186, 3) := dk_20 0 186 (dk_at dksX1_digest_3 3 rfl rfl)
theorem dX1_digest_76 : decode cX1_digest 76 = .ok (.lload_n 1, 1) := dk_31 (dk_at dksX1_digest_3 6 rfl rfl)
theorem dX1_digest_77 : decode cX1_digest 77 = .ok (.lmul, 1) := dk_105 (dk_at dksX1_digest_3 7 rfl rfl)
theorem dX1_digest_78 : decode cX1_digest 78 = .ok (.aload_n 0, 1) := dk_42 (dk_at dksX1_digest_3 8 rfl rfl)
theorem dX1_digest_79 : decode cX1_digest 79 = .ok (.getfield 17, 3) := dk_180 0 17 (dk_at dksX1_digest_3 9 rfl rfl)
theorem dX1_digest_82 : decode cX1_digest 82 = .ok (.bipush 96, 2) := dk_16 96 (dk_at dksX1_digest_3 12 rfl rfl)
theorem dX1_digest_84 : decode cX1_digest 84 = .ok (.iload_n 3, 1) := dk_29 (dk_at dksX1_digest_3 14 rfl rfl)
theorem dX1_digest_85 : decode cX1_digest 85 = .ok (.imul, 1) := dk_104 (dk_at dksX1_digest_3 15 rfl rfl)
theorem dX1_digest_86 : decode cX1_digest 86 = .ok (.iload 4, 2) := dk_21 4 (dk_at dksX1_digest_3 16 rfl rfl)
theorem dX1_digest_88 : decode cX1_digest 88 = .ok (.iadd, 1) := dk_96 (dk_at dksX1_digest_3 18 rfl rfl)
theorem dX1_digest_89 : decode cX1_digest 89 = .ok (.iaload, 1) := dk_46 (dk_at dksX1_digest_3 19 rfl rfl)
theorem dX1_digest_90 : decode cX1_digest 90 = .ok (.i2l, 1) := dk_133 (dk_at dksX1_digest_3 20 rfl rfl)
theorem dX1_digest_91 : decode cX1_digest 91 = .ok (.ladd, 1) := dk_97 (dk_at dksX1_digest_3 21 rfl rfl)
theorem dX1_digest_92 : decode cX1_digest 92 = .ok (.lstore_n 1, 1) := dk_64 (dk_at dksX1_digest_3 22 rfl rfl)
theorem dX1_digest_93 : decode cX1_digest 93 = .ok (.iinc 4 1, 3) := dk_132 4 1 (dk_at dksX1_digest_4 0 rfl rfl)
theorem dX1_digest_96 : decode cX1_digest 96 = .ok (.goto (-39), 3) := dk_167 255 217 (dk_at dksX1_digest_4 3 rfl rfl)
theorem dX1_digest_99 : decode cX1_digest 99 = .ok (.iinc 3 1, 3) := dk_132 3 1 (dk_at dksX1_digest_4 6 rfl rfl)
theorem dX1_digest_102 : decode cX1_digest 102 = .ok (.goto (-70), 3) := dk_167 255 186 (dk_at dksX1_digest_4 9 rfl rfl)
theorem dX1_digest_105 : decode cX1_digest 105 = .ok (.iconst 0, 1) := dk_3 (dk_at dksX1_digest_4 12 rfl rfl)
theorem dX1_digest_106 : decode cX1_digest 106 = .ok (.istore_n 3, 1) := dk_62 (dk_at dksX1_digest_4 13 rfl rfl)
theorem dX1_digest_107 : decode cX1_digest 107 = .ok (.iload_n 3, 1) := dk_29 (dk_at dksX1_digest_4 14 rfl rfl)
theorem dX1_digest_108 : decode cX1_digest 108 = .ok (.aload_n 0, 1) := dk_42 (dk_at dksX1_digest_4 15 rfl rfl)
theorem dX1_digest_109 : decode cX1_digest 109 = .ok (.getfield 143, 3) := dk_180 0 143 (dk_at dksX1_digest_4 16 rfl rfl)
theorem dX1_digest_112 : decode cX1_digest 112 = .ok (.if_icmp .ge 40, 3) := dk_162 0 40 (dk_at dksX1_digest_4 19 rfl rfl)
theorem dX1_digest_115 : decode cX1_digest 115 = .ok (.iconst 0, 1) := dk_3 (dk_at dksX1_digest_4 22 rfl rfl)
theorem dX1_digest_116 : decode cX1_digest 116 = .ok (.istore 4, 2) := dk_54 4 (dk_at dksX1_digest_5 0 rfl rfl)
theorem dX1_digest_118 : decode cX1_digest 118 = .ok (.iload 4, 2) := dk_21 4 (dk_at dksX1_digest_5 2 rfl rfl)
theorem dX1_digest_120 : decode cX1_digest 120 = .ok (.bipush 6, 2) := dk_16 6 (dk_at dksX1_digest_5 4 rfl rfl)
theorem dX1_digest_122 : decode cX1_digest 122 = .ok (.if_icmp .gt 24, 3) := dk_163 0 24 (dk_at dksX1_digest_5 6 rfl rfl)
theorem dX1_digest_125 : decode cX1_digest 125 = .ok (.ldc2_w 186, 3) := dk_20 0 186 (dk_at dksX1_digest_5 9 rfl rfl)
theorem dX1_digest_128 : decode cX1_digest 128 = .ok (.lload_n 1, 1) := dk_31 (dk_at dksX1_digest_5 12 rfl rfl)
theorem dX1_digest_129 : decode cX1_digest 129 = .ok (.lmul, 1) := dk_105 (dk_at dksX1_digest_5 13 rfl rfl)
theorem dX1_digest_130 : decode cX1_digest 130 = .ok (.aload_n 0, 1) := dk_42 (dk_at dksX1_digest_5 14 rfl rfl)
theorem dX1_digest_131 : decode cX1_digest 131 = .ok (.iload_n 3, 1) := dk_29 (dk_at dksX1_digest_5 15 rfl rfl)
theorem dX1_digest_132 : decode cX1_digest 132 = .ok (.iload 4, 2) := dk_21 4 (dk_at dksX1_digest_5 16 rfl rfl)
theorem dX1_digest_134 : decode cX1_digest 134 = .ok (.invokevirtual 149, 3) := dk_182 0 149 (dk_at dksX1_digest_5 18 rfl rfl)
theorem dX1_digest_137 : decode cX1_digest 137 = .ok (.i2l, 1) := dk_133 (dk_at dksX1_digest_5 21 rfl rfl)
theorem dX1_digest_138 : decode cX1_digest 138 = .ok (.ladd, 1) := dk_97 (dk_at dksX1_digest_5 22 rfl rfl)
theorem dX1_digest_139 : decode cX1_digest 139 = .ok (.lstore_n 1, 1) := dk_64 (dk_at dksX1_digest_5 23 rfl rfl)
theorem dX1_digest_140 : decode cX1_digest 140 = .ok (.iinc 4 1, 3) := dk_132 4 1 (dk_at dksX1_digest_6 0 rfl rfl)
theorem dX1_digest_143 : decode cX1_digest 143 = .ok (.goto (-25), 3) := dk_167 255 231 (dk_at dksX1_digest_6 3 rfl rfl)
theorem dX1_digest_146 : decode cX1_digest 146 = .ok (.iinc 3 1, 3) := dk_132 3 1 (dk_at dksX1_digest_6 6 rfl rfl)
theorem dX1_digest_149 : decode cX1_digest 149 = .ok (.goto (-42), 3) := dk_167 255 214 (dk_at dksX1_digest_6 9 rfl rfl)
theorem dX1_digest_152 : decode cX1_digest 152 = .ok (.iconst 0, 1) := dk_3 (dk_at dksX1_digest_6 12 rfl rfl)
theorem dX1_digest_153 : decode cX1_digest 153 = .ok (.istore_n 3, 1) := dk_62 (dk_at dksX1_digest_6 13 rfl rfl)
theorem dX1_digest_154 : decode cX1_digest 154 = .ok (.iload_n 3, 1) := dk_29 (dk_at dksX1_digest_6 14 rfl rfl)
theorem dX1_digest_155 : decode cX1_digest 155 = .ok (.iconst 2, 1) := dk_5 (dk_at dksX1_digest_6 15 rfl rfl)
theorem dX1_digest_156 : decode cX1_digest 156 = .ok (.if_icmp .ge 49, 3) := dk_162 0 49 (dk_at dksX1_digest_6 16 rfl rfl)
theorem dX1_digest_159 : decode cX1_digest 159 = .ok (.iconst 0, 1) := dk_3 (dk_at dksX1_digest_6 19 rfl rfl)
theorem dX1_digest_160 : decode cX1_digest 160 = .ok (.istore 4, 2) := dk_54 4 (dk_at dksX1_digest_6 20 rfl rfl)
theorem dX1_digest_162 : decode cX1_digest 162 = .ok (.iload 4, 2) := dk_21 4 (dk_at dksX1_digest_6 22 rfl rfl)
theorem dX1_digest_164 : decode cX1_digest 164 = .ok (.aload_n 0, 1) := dk_42 (dk_at dksX1_digest_7 0 rfl rfl)
theorem dX1_digest_165 : decode cX1_digest 165 = .ok (.getfield 81, 3) := dk_180 0 81 (dk_at dksX1_digest_7 1 rfl rfl)
theorem dX1_digest_168 : decode cX1_digest 168 = .ok (.iload_n 3, 1) := dk_29 (dk_at dksX1_digest_7 4 rfl rfl)
theorem dX1_digest_169 : decode cX1_digest 169 = .ok (.iaload, 1) := dk_46 (dk_at dksX1_digest_7 5 rfl rfl)
theorem dX1_digest_170 : decode cX1_digest 170 = .ok (.if_icmp .ge 29, 3) := dk_162 0 29 (dk_at dksX1_digest_7 6 rfl rfl)
theorem dX1_digest_173 : decode cX1_digest 173 = .ok (.ldc2_w 186, 3) := dk_20 0 186 (dk_at dksX1_digest_7 9 rfl rfl)
theorem dX1_digest_176 : decode cX1_digest 176 = .ok (.lload_n 1, 1) := dk_31 (dk_at dksX1_digest_7 12 rfl rfl)
theorem dX1_digest_177 : decode cX1_digest 177 = .ok (.lmul, 1) := dk_105 (dk_at dksX1_digest_7 13 rfl rfl)
theorem dX1_digest_178 : decode cX1_digest 178 = .ok (.aload_n 0, 1) := dk_42 (dk_at dksX1_digest_7 14 rfl rfl)
theorem dX1_digest_179 : decode cX1_digest 179 = .ok (.getfield 84, 3) := dk_180 0 84 (dk_at dksX1_digest_7 15 rfl rfl)
theorem dX1_digest_182 : decode cX1_digest 182 = .ok (.bipush 40, 2) := dk_16 40 (dk_at dksX1_digest_7 18 rfl rfl)
theorem dX1_digest_184 : decode cX1_digest 184 = .ok (.iload_n 3, 1) := dk_29 (dk_at dksX1_digest_7 20 rfl rfl)
theorem dX1_digest_185 : decode cX1_digest 185 = .ok (.imul, 1) := dk_104 (dk_at dksX1_digest_7 21 rfl rfl)
theorem dX1_digest_186 : decode cX1_digest 186 = .ok (.iload 4, 2) := dk_21 4 (dk_at dksX1_digest_7 22 rfl rfl)
theorem dX1_digest_188 : decode cX1_digest 188 = .ok (.iadd, 1) := dk_96 (dk_at dksX1_digest_8 0 rfl rfl)
theorem dX1_digest_189 : decode cX1_digest 189 = .ok (.iaload, 1) := dk_46 (dk_at dksX1_digest_8 1 rfl rfl)
theorem dX1_digest_190 : decode cX1_digest 190 = .ok (.i2l, 1) := dk_133 (dk_at dksX1_digest_8 2 rfl rfl)
theorem dX1_digest_191 : decode cX1_digest 191 = .ok (.ladd, 1) := dk_97 (dk_at dksX1_digest_8 3 rfl rfl)
theorem dX1_digest_192 : decode cX1_digest 192 = .ok (.lstore_n 1, 1) := dk_64 (dk_at dksX1_digest_8 4 rfl rfl)
theorem dX1_digest_193 : decode cX1_digest 193 = .ok (.iinc 4 1, 3) := dk_132 4 1 (dk_at dksX1_digest_8 5 rfl rfl)
theorem dX1_digest_196 : decode cX1_digest 196 = .ok (.goto (-34), 3) := dk_167 255 222 (dk_at dksX1_digest_8 8 rfl rfl)
theorem dX1_digest_199 : decode cX1_digest 199 = .ok (.iinc 3 1, 3) := dk_132 3 1 (dk_at dksX1_digest_8 11 rfl rfl)
theorem dX1_digest_202 : decode cX1_digest 202 = .ok (.goto (-48), 3) := dk_167 255 208 (dk_at dksX1_digest_8 14 rfl rfl)
theorem dX1_digest_205 : decode cX1_digest 205 = .ok (.iconst 0, 1) := dk_3 (dk_at dksX1_digest_8 17 rfl rfl)
theorem dX1_digest_206 : decode cX1_digest 206 = .ok (.istore_n 3, 1) := dk_62 (dk_at dksX1_digest_8 18 rfl rfl)
theorem dX1_digest_207 : decode cX1_digest 207 = .ok (.iload_n 3, 1) := dk_29 (dk_at dksX1_digest_8 19 rfl rfl)
theorem dX1_digest_208 : decode cX1_digest 208 = .ok (.bipush 12, 2) := dk_16 12 (dk_at dksX1_digest_8 20 rfl rfl)
theorem dX1_digest_210 : decode cX1_digest 210 = .ok (.if_icmp .ge 27, 3) := dk_162 0 27 (dk_at dksX1_digest_9 0 rfl rfl)
theorem dX1_digest_213 : decode cX1_digest 213 = .ok (.ldc2_w 186, 3) := dk_20 0 186 (dk_at dksX1_digest_9 3 rfl rfl)
theorem dX1_digest_216 : decode cX1_digest 216 = .ok (.lload_n 1, 1) := dk_31 (dk_at dksX1_digest_9 6 rfl rfl)
theorem dX1_digest_217 : decode cX1_digest 217 = .ok (.lmul, 1) := dk_105 (dk_at dksX1_digest_9 7 rfl rfl)
theorem dX1_digest_218 : decode cX1_digest 218 = .ok (.aload_n 0, 1) := dk_42 (dk_at dksX1_digest_9 8 rfl rfl)
theorem dX1_digest_219 : decode cX1_digest 219 = .ok (.iload_n 3, 1) := dk_29 (dk_at dksX1_digest_9 9 rfl rfl)
theorem dX1_digest_220 : decode cX1_digest 220 = .ok (.iconst 3, 1) := dk_6 (dk_at dksX1_digest_9 10 rfl rfl)
theorem dX1_digest_221 : decode cX1_digest 221 = .ok (.idiv, 1) := dk_108 (dk_at dksX1_digest_9 11 rfl rfl)
theorem dX1_digest_222 : decode cX1_digest 222 = .ok (.iload_n 3, 1) := dk_29 (dk_at dksX1_digest_9 12 rfl rfl)
theorem dX1_digest_223 : decode cX1_digest 223 = .ok (.iconst 3, 1) := dk_6 (dk_at dksX1_digest_9 13 rfl rfl)
theorem dX1_digest_224 : decode cX1_digest 224 = .ok (.irem, 1) := dk_112 (dk_at dksX1_digest_9 14 rfl rfl)
theorem dX1_digest_225 : decode cX1_digest 225 = .ok (.invokevirtual 175, 3) := dk_182 0 175 (dk_at dksX1_digest_9 15 rfl rfl)
theorem dX1_digest_228 : decode cX1_digest 228 = .ok (.i2l, 1) := dk_133 (dk_at dksX1_digest_9 18 rfl rfl)
theorem dX1_digest_229 : decode cX1_digest 229 = .ok (.ladd, 1) := dk_97 (dk_at dksX1_digest_9 19 rfl rfl)
theorem dX1_digest_230 : decode cX1_digest 230 = .ok (.lstore_n 1, 1) := dk_64 (dk_at dksX1_digest_9 20 rfl rfl)
theorem dX1_digest_231 : decode cX1_digest 231 = .ok (.iinc 3 1, 3) := dk_132 3 1 (dk_at dksX1_digest_9 21 rfl rfl)
theorem dX1_digest_234 : decode cX1_digest 234 = .ok (.goto (-27), 3) := dk_167 255 229 (dk_at dksX1_digest_10 0 rfl rfl)
theorem dX1_digest_237 : decode cX1_digest 237 = .ok (.lload_n 1, 1) := dk_31 (dk_at dksX1_digest_10 3 rfl rfl)
theorem dX1_digest_238 : decode cX1_digest 238 = .ok (.lreturn, 1) := dk_173 (dk_at dksX1_digest_10 4 rfl rfl)
theorem q39 : (Jvm.Cond.initialized "LimbMakerModel") ∈ lw_all := lw_g (lw_at lw_m1 5 rfl) rfl
theorem q744 : (Jvm.Cond.selects "LimbMakerModel" ({ cls := "java/lang/Object", name := "getClass", desc := "()Ljava/lang/Class;" } : Jvm.MethodName) ({ cls := "java/lang/Object", name := "getClass", desc := "()Ljava/lang/Class;" } : Jvm.MethodName)) ∈ lw_all := lw_g (lw_at lw_m3 230 rfl) rfl
theorem q881 : (Jvm.Cond.instantiable "LimbMakerModel" (33 : Nat)) ∈ lw_all := lw_g (lw_at lw_m4 127 rfl) rfl
theorem q883 : (Jvm.Cond.instanceMethod ({ cls := "LimbMakerModel", name := "<init>", desc := "()V" } : Jvm.MethodName)) ∈ lw_all := lw_g (lw_at lw_m4 129 rfl) rfl
theorem q884 : (Jvm.Cond.code ({ cls := "LimbMakerModel", name := "<init>", desc := "()V" } : Jvm.MethodName) prog_12_method_1_code (1 : Nat) (Option.none : Option Jvm.ClassFile.FieldType)) ∈ lw_all := lw_g (lw_at lw_m4 130 rfl) rfl
theorem q885 : (Jvm.Cond.methodLink "LimbMakerModel" (1 : Nat) ({ cls := "java/lang/Object", name := "<init>", desc := "()V" } : Jvm.MethodName)) ∈ lw_all := lw_g (lw_at lw_m4 131 rfl) rfl
theorem q886 : (Jvm.Cond.fieldLink "LimbMakerModel" (87 : Nat) "LimbMakerModel" "finding" "I") ∈ lw_all := lw_g (lw_at lw_m4 132 rfl) rfl
theorem q887 : (Jvm.Cond.fieldLink "LimbMakerModel" (7 : Nat) "LimbMakerModel" "findings" "[I") ∈ lw_all := lw_g (lw_at lw_m4 133 rfl) rfl
theorem q888 : (Jvm.Cond.fieldLink "LimbMakerModel" (90 : Nat) "LimbMakerModel" "asked" "I") ∈ lw_all := lw_g (lw_at lw_m4 134 rfl) rfl
theorem q889 : (Jvm.Cond.fieldLink "LimbMakerModel" (13 : Nat) "LimbMakerModel" "isScan" "[Z") ∈ lw_all := lw_g (lw_at lw_m4 135 rfl) rfl
theorem q890 : (Jvm.Cond.fieldLink "LimbMakerModel" (17 : Nat) "LimbMakerModel" "radii" "[I") ∈ lw_all := lw_g (lw_at lw_m4 136 rfl) rfl
theorem q891 : (Jvm.Cond.fieldLink "LimbMakerModel" (20 : Nat) "LimbMakerModel" "moving" "[I") ∈ lw_all := lw_g (lw_at lw_m4 137 rfl) rfl
theorem q892 : (Jvm.Cond.fieldLink "LimbMakerModel" (122 : Nat) "LimbMakerModel" "rules" "I") ∈ lw_all := lw_g (lw_at lw_m4 138 rfl) rfl
theorem q893 : (Jvm.Cond.fieldLink "LimbMakerModel" (23 : Nat) "LimbMakerModel" "ruleFrom" "[I") ∈ lw_all := lw_g (lw_at lw_m4 139 rfl) rfl
theorem q894 : (Jvm.Cond.fieldLink "LimbMakerModel" (26 : Nat) "LimbMakerModel" "ruleTo" "[I") ∈ lw_all := lw_g (lw_at lw_m4 140 rfl) rfl
theorem q895 : (Jvm.Cond.fieldLink "LimbMakerModel" (29 : Nat) "LimbMakerModel" "rulePlaces" "[I") ∈ lw_all := lw_g (lw_at lw_m4 141 rfl) rfl
theorem q896 : (Jvm.Cond.fieldLink "LimbMakerModel" (32 : Nat) "LimbMakerModel" "ruleBy" "[I") ∈ lw_all := lw_g (lw_at lw_m4 142 rfl) rfl
theorem q897 : (Jvm.Cond.fieldLink "LimbMakerModel" (138 : Nat) "LimbMakerModel" "ends" "I") ∈ lw_all := lw_g (lw_at lw_m4 143 rfl) rfl
theorem q898 : (Jvm.Cond.fieldLink "LimbMakerModel" (35 : Nat) "LimbMakerModel" "endRow" "[I") ∈ lw_all := lw_g (lw_at lw_m4 144 rfl) rfl
theorem q899 : (Jvm.Cond.fieldLink "LimbMakerModel" (143 : Nat) "LimbMakerModel" "parts" "I") ∈ lw_all := lw_g (lw_at lw_m4 145 rfl) rfl
theorem q900 : (Jvm.Cond.fieldLink "LimbMakerModel" (38 : Nat) "LimbMakerModel" "kinds" "[I") ∈ lw_all := lw_g (lw_at lw_m4 146 rfl) rfl
theorem q901 : (Jvm.Cond.fieldLink "LimbMakerModel" (41 : Nat) "LimbMakerModel" "heights" "[I") ∈ lw_all := lw_g (lw_at lw_m4 147 rfl) rfl
theorem q902 : (Jvm.Cond.fieldLink "LimbMakerModel" (44 : Nat) "LimbMakerModel" "bears" "[I") ∈ lw_all := lw_g (lw_at lw_m4 148 rfl) rfl
theorem q903 : (Jvm.Cond.fieldLink "LimbMakerModel" (47 : Nat) "LimbMakerModel" "prices" "[I") ∈ lw_all := lw_g (lw_at lw_m4 149 rfl) rfl
theorem q904 : (Jvm.Cond.fieldLink "LimbMakerModel" (50 : Nat) "LimbMakerModel" "uppers" "[I") ∈ lw_all := lw_g (lw_at lw_m4 150 rfl) rfl
theorem q905 : (Jvm.Cond.fieldLink "LimbMakerModel" (53 : Nat) "LimbMakerModel" "lowers" "[I") ∈ lw_all := lw_g (lw_at lw_m4 151 rfl) rfl
theorem q906 : (Jvm.Cond.fieldLink "LimbMakerModel" (56 : Nat) "LimbMakerModel" "cutOf" "[I") ∈ lw_all := lw_g (lw_at lw_m4 152 rfl) rfl
theorem q907 : (Jvm.Cond.fieldLink "LimbMakerModel" (59 : Nat) "LimbMakerModel" "isRecalled" "[Z") ∈ lw_all := lw_g (lw_at lw_m4 153 rfl) rfl
theorem q908 : (Jvm.Cond.fieldLink "LimbMakerModel" (62 : Nat) "LimbMakerModel" "row" "[I") ∈ lw_all := lw_g (lw_at lw_m4 154 rfl) rfl
theorem q909 : (Jvm.Cond.fieldLink "LimbMakerModel" (65 : Nat) "LimbMakerModel" "bestRow" "[I") ∈ lw_all := lw_g (lw_at lw_m4 155 rfl) rfl
theorem q910 : (Jvm.Cond.fieldLink "LimbMakerModel" (68 : Nat) "LimbMakerModel" "bestMany" "I") ∈ lw_all := lw_g (lw_at lw_m4 156 rfl) rfl
theorem q911 : (Jvm.Cond.fieldLink "LimbMakerModel" (165 : Nat) "LimbMakerModel" "bestCuts" "I") ∈ lw_all := lw_g (lw_at lw_m4 157 rfl) rfl
theorem q912 : (Jvm.Cond.fieldLink "LimbMakerModel" (155 : Nat) "LimbMakerModel" "tries" "I") ∈ lw_all := lw_g (lw_at lw_m4 158 rfl) rfl
theorem q913 : (Jvm.Cond.fieldLink "LimbMakerModel" (168 : Nat) "LimbMakerModel" "moves" "I") ∈ lw_all := lw_g (lw_at lw_m4 159 rfl) rfl
theorem q914 : (Jvm.Cond.fieldLink "LimbMakerModel" (72 : Nat) "LimbMakerModel" "isTurn" "[Z") ∈ lw_all := lw_g (lw_at lw_m4 160 rfl) rfl
theorem q915 : (Jvm.Cond.fieldLink "LimbMakerModel" (75 : Nat) "LimbMakerModel" "moveRows" "[I") ∈ lw_all := lw_g (lw_at lw_m4 161 rfl) rfl
theorem q916 : (Jvm.Cond.fieldLink "LimbMakerModel" (78 : Nat) "LimbMakerModel" "point" "[I") ∈ lw_all := lw_g (lw_at lw_m4 162 rfl) rfl
theorem q917 : (Jvm.Cond.fieldLink "LimbMakerModel" (81 : Nat) "LimbMakerModel" "sizes" "[I") ∈ lw_all := lw_g (lw_at lw_m4 163 rfl) rfl
theorem q918 : (Jvm.Cond.fieldLink "LimbMakerModel" (84 : Nat) "LimbMakerModel" "loads" "[I") ∈ lw_all := lw_g (lw_at lw_m4 164 rfl) rfl
theorem q919 : (Jvm.Cond.lays "LimbMakerModel" "LimbMakerModel" "finding" "I") ∈ lw_all := lw_g (lw_at lw_m4 165 rfl) rfl
theorem q920 : (Jvm.Cond.soleField "LimbMakerModel" "finding") ∈ lw_all := lw_g (lw_at lw_m4 166 rfl) rfl
theorem q921 : (Jvm.Cond.laysFinal "LimbMakerModel" "LimbMakerModel" "findings" "[I") ∈ lw_all := lw_g (lw_at lw_m4 167 rfl) rfl
theorem q922 : (Jvm.Cond.soleField "LimbMakerModel" "findings") ∈ lw_all := lw_g (lw_at lw_m4 168 rfl) rfl
theorem q923 : (Jvm.Cond.lays "LimbMakerModel" "LimbMakerModel" "asked" "I") ∈ lw_all := lw_g (lw_at lw_m4 169 rfl) rfl
theorem q924 : (Jvm.Cond.soleField "LimbMakerModel" "asked") ∈ lw_all := lw_g (lw_at lw_m4 170 rfl) rfl
theorem q925 : (Jvm.Cond.laysFinal "LimbMakerModel" "LimbMakerModel" "isScan" "[Z") ∈ lw_all := lw_g (lw_at lw_m4 171 rfl) rfl
theorem q926 : (Jvm.Cond.soleField "LimbMakerModel" "isScan") ∈ lw_all := lw_g (lw_at lw_m4 172 rfl) rfl
theorem q927 : (Jvm.Cond.laysFinal "LimbMakerModel" "LimbMakerModel" "radii" "[I") ∈ lw_all := lw_g (lw_at lw_m4 173 rfl) rfl
theorem q928 : (Jvm.Cond.soleField "LimbMakerModel" "radii") ∈ lw_all := lw_g (lw_at lw_m4 174 rfl) rfl
theorem q929 : (Jvm.Cond.laysFinal "LimbMakerModel" "LimbMakerModel" "moving" "[I") ∈ lw_all := lw_g (lw_at lw_m4 175 rfl) rfl
theorem q930 : (Jvm.Cond.soleField "LimbMakerModel" "moving") ∈ lw_all := lw_g (lw_at lw_m4 176 rfl) rfl
theorem q931 : (Jvm.Cond.lays "LimbMakerModel" "LimbMakerModel" "rules" "I") ∈ lw_all := lw_g (lw_at lw_m4 177 rfl) rfl
theorem q932 : (Jvm.Cond.soleField "LimbMakerModel" "rules") ∈ lw_all := lw_g (lw_at lw_m4 178 rfl) rfl
theorem q933 : (Jvm.Cond.laysFinal "LimbMakerModel" "LimbMakerModel" "ruleFrom" "[I") ∈ lw_all := lw_g (lw_at lw_m4 179 rfl) rfl
theorem q934 : (Jvm.Cond.soleField "LimbMakerModel" "ruleFrom") ∈ lw_all := lw_g (lw_at lw_m4 180 rfl) rfl
theorem q935 : (Jvm.Cond.laysFinal "LimbMakerModel" "LimbMakerModel" "ruleTo" "[I") ∈ lw_all := lw_g (lw_at lw_m4 181 rfl) rfl
theorem q936 : (Jvm.Cond.soleField "LimbMakerModel" "ruleTo") ∈ lw_all := lw_g (lw_at lw_m4 182 rfl) rfl
theorem q937 : (Jvm.Cond.laysFinal "LimbMakerModel" "LimbMakerModel" "rulePlaces" "[I") ∈ lw_all := lw_g (lw_at lw_m4 183 rfl) rfl
theorem q938 : (Jvm.Cond.soleField "LimbMakerModel" "rulePlaces") ∈ lw_all := lw_g (lw_at lw_m4 184 rfl) rfl
theorem q939 : (Jvm.Cond.laysFinal "LimbMakerModel" "LimbMakerModel" "ruleBy" "[I") ∈ lw_all := lw_g (lw_at lw_m4 185 rfl) rfl
theorem q940 : (Jvm.Cond.soleField "LimbMakerModel" "ruleBy") ∈ lw_all := lw_g (lw_at lw_m4 186 rfl) rfl
theorem q941 : (Jvm.Cond.lays "LimbMakerModel" "LimbMakerModel" "ends" "I") ∈ lw_all := lw_g (lw_at lw_m4 187 rfl) rfl
theorem q942 : (Jvm.Cond.soleField "LimbMakerModel" "ends") ∈ lw_all := lw_g (lw_at lw_m4 188 rfl) rfl
theorem q943 : (Jvm.Cond.laysFinal "LimbMakerModel" "LimbMakerModel" "endRow" "[I") ∈ lw_all := lw_g (lw_at lw_m4 189 rfl) rfl
theorem q944 : (Jvm.Cond.soleField "LimbMakerModel" "endRow") ∈ lw_all := lw_g (lw_at lw_m4 190 rfl) rfl
theorem q945 : (Jvm.Cond.lays "LimbMakerModel" "LimbMakerModel" "parts" "I") ∈ lw_all := lw_g (lw_at lw_m4 191 rfl) rfl
theorem q946 : (Jvm.Cond.soleField "LimbMakerModel" "parts") ∈ lw_all := lw_g (lw_at lw_m4 192 rfl) rfl
theorem q947 : (Jvm.Cond.laysFinal "LimbMakerModel" "LimbMakerModel" "kinds" "[I") ∈ lw_all := lw_g (lw_at lw_m4 193 rfl) rfl
theorem q948 : (Jvm.Cond.soleField "LimbMakerModel" "kinds") ∈ lw_all := lw_g (lw_at lw_m4 194 rfl) rfl
theorem q949 : (Jvm.Cond.laysFinal "LimbMakerModel" "LimbMakerModel" "heights" "[I") ∈ lw_all := lw_g (lw_at lw_m4 195 rfl) rfl
theorem q950 : (Jvm.Cond.soleField "LimbMakerModel" "heights") ∈ lw_all := lw_g (lw_at lw_m4 196 rfl) rfl
theorem q951 : (Jvm.Cond.laysFinal "LimbMakerModel" "LimbMakerModel" "bears" "[I") ∈ lw_all := lw_g (lw_at lw_m4 197 rfl) rfl
theorem q952 : (Jvm.Cond.soleField "LimbMakerModel" "bears") ∈ lw_all := lw_g (lw_at lw_m4 198 rfl) rfl
theorem q953 : (Jvm.Cond.laysFinal "LimbMakerModel" "LimbMakerModel" "prices" "[I") ∈ lw_all := lw_g (lw_at lw_m4 199 rfl) rfl
theorem q954 : (Jvm.Cond.soleField "LimbMakerModel" "prices") ∈ lw_all := lw_g (lw_at lw_m4 200 rfl) rfl
theorem q955 : (Jvm.Cond.laysFinal "LimbMakerModel" "LimbMakerModel" "uppers" "[I") ∈ lw_all := lw_g (lw_at lw_m4 201 rfl) rfl
theorem q956 : (Jvm.Cond.soleField "LimbMakerModel" "uppers") ∈ lw_all := lw_g (lw_at lw_m4 202 rfl) rfl
theorem q957 : (Jvm.Cond.laysFinal "LimbMakerModel" "LimbMakerModel" "lowers" "[I") ∈ lw_all := lw_g (lw_at lw_m4 203 rfl) rfl
theorem q958 : (Jvm.Cond.soleField "LimbMakerModel" "lowers") ∈ lw_all := lw_g (lw_at lw_m4 204 rfl) rfl
theorem q959 : (Jvm.Cond.laysFinal "LimbMakerModel" "LimbMakerModel" "cutOf" "[I") ∈ lw_all := lw_g (lw_at lw_m4 205 rfl) rfl
theorem q960 : (Jvm.Cond.soleField "LimbMakerModel" "cutOf") ∈ lw_all := lw_g (lw_at lw_m4 206 rfl) rfl
theorem q961 : (Jvm.Cond.laysFinal "LimbMakerModel" "LimbMakerModel" "isRecalled" "[Z") ∈ lw_all := lw_g (lw_at lw_m4 207 rfl) rfl
theorem q962 : (Jvm.Cond.soleField "LimbMakerModel" "isRecalled") ∈ lw_all := lw_g (lw_at lw_m4 208 rfl) rfl
theorem q963 : (Jvm.Cond.laysFinal "LimbMakerModel" "LimbMakerModel" "row" "[I") ∈ lw_all := lw_g (lw_at lw_m4 209 rfl) rfl
theorem q964 : (Jvm.Cond.soleField "LimbMakerModel" "row") ∈ lw_all := lw_g (lw_at lw_m4 210 rfl) rfl
theorem q965 : (Jvm.Cond.laysFinal "LimbMakerModel" "LimbMakerModel" "bestRow" "[I") ∈ lw_all := lw_g (lw_at lw_m4 211 rfl) rfl
theorem q966 : (Jvm.Cond.soleField "LimbMakerModel" "bestRow") ∈ lw_all := lw_g (lw_at lw_m4 212 rfl) rfl
theorem q967 : (Jvm.Cond.lays "LimbMakerModel" "LimbMakerModel" "bestMany" "I") ∈ lw_all := lw_g (lw_at lw_m4 213 rfl) rfl
theorem q968 : (Jvm.Cond.soleField "LimbMakerModel" "bestMany") ∈ lw_all := lw_g (lw_at lw_m4 214 rfl) rfl
theorem q969 : (Jvm.Cond.lays "LimbMakerModel" "LimbMakerModel" "bestCuts" "I") ∈ lw_all := lw_g (lw_at lw_m4 215 rfl) rfl
theorem q970 : (Jvm.Cond.soleField "LimbMakerModel" "bestCuts") ∈ lw_all := lw_g (lw_at lw_m4 216 rfl) rfl
theorem q971 : (Jvm.Cond.lays "LimbMakerModel" "LimbMakerModel" "tries" "I") ∈ lw_all := lw_g (lw_at lw_m4 217 rfl) rfl
theorem q972 : (Jvm.Cond.soleField "LimbMakerModel" "tries") ∈ lw_all := lw_g (lw_at lw_m4 218 rfl) rfl
theorem q973 : (Jvm.Cond.lays "LimbMakerModel" "LimbMakerModel" "moves" "I") ∈ lw_all := lw_g (lw_at lw_m4 219 rfl) rfl
theorem q974 : (Jvm.Cond.soleField "LimbMakerModel" "moves") ∈ lw_all := lw_g (lw_at lw_m4 220 rfl) rfl
theorem q975 : (Jvm.Cond.laysFinal "LimbMakerModel" "LimbMakerModel" "isTurn" "[Z") ∈ lw_all := lw_g (lw_at lw_m4 221 rfl) rfl
theorem q976 : (Jvm.Cond.soleField "LimbMakerModel" "isTurn") ∈ lw_all := lw_g (lw_at lw_m4 222 rfl) rfl
theorem q977 : (Jvm.Cond.laysFinal "LimbMakerModel" "LimbMakerModel" "moveRows" "[I") ∈ lw_all := lw_g (lw_at lw_m4 223 rfl) rfl
theorem q978 : (Jvm.Cond.soleField "LimbMakerModel" "moveRows") ∈ lw_all := lw_g (lw_at lw_m4 224 rfl) rfl
theorem q979 : (Jvm.Cond.laysFinal "LimbMakerModel" "LimbMakerModel" "point" "[I") ∈ lw_all := lw_g (lw_at lw_m4 225 rfl) rfl
theorem q980 : (Jvm.Cond.soleField "LimbMakerModel" "point") ∈ lw_all := lw_g (lw_at lw_m4 226 rfl) rfl
theorem q981 : (Jvm.Cond.laysFinal "LimbMakerModel" "LimbMakerModel" "sizes" "[I") ∈ lw_all := lw_g (lw_at lw_m4 227 rfl) rfl
theorem q982 : (Jvm.Cond.soleField "LimbMakerModel" "sizes") ∈ lw_all := lw_g (lw_at lw_m4 228 rfl) rfl
theorem q983 : (Jvm.Cond.laysFinal "LimbMakerModel" "LimbMakerModel" "loads" "[I") ∈ lw_all := lw_g (lw_at lw_m4 229 rfl) rfl
theorem q984 : (Jvm.Cond.soleField "LimbMakerModel" "loads") ∈ lw_all := lw_g (lw_at lw_m4 230 rfl) rfl
theorem q985 : (Jvm.Cond.superclass "LimbMakerModel" "java/lang/Object") ∈ lw_all := lw_g (lw_at lw_m4 231 rfl) rfl
theorem q988 : (Jvm.Cond.instanceMethod ({ cls := "LimbMakerModel", name := "scan", desc := "(I)I" } : Jvm.MethodName)) ∈ lw_all := lw_g (lw_at lw_m4 234 rfl) rfl
theorem q989 : (Jvm.Cond.selects "LimbMakerModel" ({ cls := "LimbMakerModel", name := "scan", desc := "(I)I" } : Jvm.MethodName) ({ cls := "LimbMakerModel", name := "scan", desc := "(I)I" } : Jvm.MethodName)) ∈ lw_all := lw_g (lw_at lw_m4 235 rfl) rfl
theorem q990 : (Jvm.Cond.code ({ cls := "LimbMakerModel", name := "scan", desc := "(I)I" } : Jvm.MethodName) prog_12_method_10_code (4 : Nat) (Option.some Jvm.ClassFile.FieldType.int)) ∈ lw_all := lw_g (lw_at lw_m4 236 rfl) rfl
theorem q991 : (Jvm.Cond.methodLink "LimbMakerModel" (97 : Nat) ({ cls := "LimbMakerModel", name := "isNumber", desc := "(I)Z" } : Jvm.MethodName)) ∈ lw_all := lw_g (lw_at lw_m4 237 rfl) rfl
theorem q992 : (Jvm.Cond.static ({ cls := "LimbMakerModel", name := "isNumber", desc := "(I)Z" } : Jvm.MethodName)) ∈ lw_all := lw_g (lw_at lw_m4 238 rfl) rfl
theorem q993 : (Jvm.Cond.code ({ cls := "LimbMakerModel", name := "isNumber", desc := "(I)Z" } : Jvm.MethodName) prog_12_method_6_code (1 : Nat) (Option.some Jvm.ClassFile.FieldType.boolean)) ∈ lw_all := lw_g (lw_at lw_m4 239 rfl) rfl
theorem q994 : (Jvm.Cond.methodLink "LimbMakerModel" (93 : Nat) ({ cls := "LimbMakerModel", name := "in", desc := "(III)Z" } : Jvm.MethodName)) ∈ lw_all := lw_g (lw_at lw_m5 0 rfl) rfl
theorem q995 : (Jvm.Cond.static ({ cls := "LimbMakerModel", name := "in", desc := "(III)Z" } : Jvm.MethodName)) ∈ lw_all := lw_g (lw_at lw_m5 1 rfl) rfl
theorem q996 : (Jvm.Cond.code ({ cls := "LimbMakerModel", name := "in", desc := "(III)Z" } : Jvm.MethodName) prog_12_method_3_code (3 : Nat) (Option.some Jvm.ClassFile.FieldType.boolean)) ∈ lw_all := lw_g (lw_at lw_m5 2 rfl) rfl
theorem q998 : (Jvm.Cond.instanceMethod ({ cls := "LimbMakerModel", name := "lay", desc := "(IIII)I" } : Jvm.MethodName)) ∈ lw_all := lw_g (lw_at lw_m5 4 rfl) rfl
theorem q999 : (Jvm.Cond.selects "LimbMakerModel" ({ cls := "LimbMakerModel", name := "lay", desc := "(IIII)I" } : Jvm.MethodName) ({ cls := "LimbMakerModel", name := "lay", desc := "(IIII)I" } : Jvm.MethodName)) ∈ lw_all := lw_g (lw_at lw_m5 5 rfl) rfl
theorem q1000 : (Jvm.Cond.code ({ cls := "LimbMakerModel", name := "lay", desc := "(IIII)I" } : Jvm.MethodName) prog_12_method_11_code (8 : Nat) (Option.some Jvm.ClassFile.FieldType.int)) ∈ lw_all := lw_g (lw_at lw_m5 6 rfl) rfl
theorem q1001 : (Jvm.Cond.methodLink "LimbMakerModel" (108 : Nat) ({ cls := "LimbMakerModel", name := "looked", desc := "(I)I" } : Jvm.MethodName)) ∈ lw_all := lw_g (lw_at lw_m5 7 rfl) rfl
theorem q1002 : (Jvm.Cond.privateMethod ({ cls := "LimbMakerModel", name := "looked", desc := "(I)I" } : Jvm.MethodName)) ∈ lw_tbl := lw_at lw_m5 8 rfl
theorem q1003 : (Jvm.Cond.instanceMethod ({ cls := "LimbMakerModel", name := "looked", desc := "(I)I" } : Jvm.MethodName)) ∈ lw_all := lw_g (lw_at lw_m5 9 rfl) rfl
theorem q1004 : (Jvm.Cond.code ({ cls := "LimbMakerModel", name := "looked", desc := "(I)I" } : Jvm.MethodName) prog_12_method_7_code (2 : Nat) (Option.some Jvm.ClassFile.FieldType.int)) ∈ lw_all := lw_g (lw_at lw_m5 10 rfl) rfl
theorem q1005 : (Jvm.Cond.methodLink "LimbMakerModel" (101 : Nat) ({ cls := "LimbMakerModel", name := "meets", desc := "(I)I" } : Jvm.MethodName)) ∈ lw_all := lw_g (lw_at lw_m5 11 rfl) rfl
theorem q1006 : (Jvm.Cond.privateMethod ({ cls := "LimbMakerModel", name := "meets", desc := "(I)I" } : Jvm.MethodName)) ∈ lw_tbl := lw_at lw_m5 12 rfl
theorem q1007 : (Jvm.Cond.instanceMethod ({ cls := "LimbMakerModel", name := "meets", desc := "(I)I" } : Jvm.MethodName)) ∈ lw_all := lw_g (lw_at lw_m5 13 rfl) rfl
theorem q1008 : (Jvm.Cond.code ({ cls := "LimbMakerModel", name := "meets", desc := "(I)I" } : Jvm.MethodName) prog_12_method_4_code (2 : Nat) (Option.some Jvm.ClassFile.FieldType.int)) ∈ lw_all := lw_g (lw_at lw_m5 14 rfl) rfl
theorem q1009 : (Jvm.Cond.methodLink "LimbMakerModel" (111 : Nat) ({ cls := "LimbMakerModel", name := "isPlace", desc := "(II)Z" } : Jvm.MethodName)) ∈ lw_all := lw_g (lw_at lw_m5 15 rfl) rfl
theorem q1010 : (Jvm.Cond.static ({ cls := "LimbMakerModel", name := "isPlace", desc := "(II)Z" } : Jvm.MethodName)) ∈ lw_all := lw_g (lw_at lw_m5 16 rfl) rfl
theorem q1011 : (Jvm.Cond.code ({ cls := "LimbMakerModel", name := "isPlace", desc := "(II)Z" } : Jvm.MethodName) prog_12_method_9_code (2 : Nat) (Option.some Jvm.ClassFile.FieldType.boolean)) ∈ lw_all := lw_g (lw_at lw_m5 17 rfl) rfl
theorem q1012 : (Jvm.Cond.methodLink "LimbMakerModel" (105 : Nat) ({ cls := "LimbMakerModel", name := "isRing", desc := "(I)Z" } : Jvm.MethodName)) ∈ lw_all := lw_g (lw_at lw_m5 18 rfl) rfl
theorem q1013 : (Jvm.Cond.static ({ cls := "LimbMakerModel", name := "isRing", desc := "(I)Z" } : Jvm.MethodName)) ∈ lw_all := lw_g (lw_at lw_m5 19 rfl) rfl
theorem q1014 : (Jvm.Cond.code ({ cls := "LimbMakerModel", name := "isRing", desc := "(I)Z" } : Jvm.MethodName) prog_12_method_8_code (1 : Nat) (Option.some Jvm.ClassFile.FieldType.boolean)) ∈ lw_all := lw_g (lw_at lw_m5 20 rfl) rfl
theorem q1016 : (Jvm.Cond.instanceMethod ({ cls := "LimbMakerModel", name := "at", desc := "(IIIZZ)I" } : Jvm.MethodName)) ∈ lw_all := lw_g (lw_at lw_m5 22 rfl) rfl
theorem q1017 : (Jvm.Cond.selects "LimbMakerModel" ({ cls := "LimbMakerModel", name := "at", desc := "(IIIZZ)I" } : Jvm.MethodName) ({ cls := "LimbMakerModel", name := "at", desc := "(IIIZZ)I" } : Jvm.MethodName)) ∈ lw_all := lw_g (lw_at lw_m5 23 rfl) rfl
theorem q1018 : (Jvm.Cond.code ({ cls := "LimbMakerModel", name := "at", desc := "(IIIZZ)I" } : Jvm.MethodName) prog_12_method_15_code (7 : Nat) (Option.some Jvm.ClassFile.FieldType.int)) ∈ lw_all := lw_g (lw_at lw_m5 24 rfl) rfl
theorem q1019 : (Jvm.Cond.methodLink "LimbMakerModel" (125 : Nat) ({ cls := "LimbMakerModel", name := "shapedAt", desc := "(III)I" } : Jvm.MethodName)) ∈ lw_all := lw_g (lw_at lw_m5 25 rfl) rfl
theorem q1020 : (Jvm.Cond.privateMethod ({ cls := "LimbMakerModel", name := "shapedAt", desc := "(III)I" } : Jvm.MethodName)) ∈ lw_tbl := lw_at lw_m5 26 rfl
theorem q1021 : (Jvm.Cond.instanceMethod ({ cls := "LimbMakerModel", name := "shapedAt", desc := "(III)I" } : Jvm.MethodName)) ∈ lw_all := lw_g (lw_at lw_m5 27 rfl) rfl
theorem q1022 : (Jvm.Cond.code ({ cls := "LimbMakerModel", name := "shapedAt", desc := "(III)I" } : Jvm.MethodName) prog_12_method_14_code (6 : Nat) (Option.some Jvm.ClassFile.FieldType.int)) ∈ lw_all := lw_g (lw_at lw_m5 28 rfl) rfl
theorem q1023 : (Jvm.Cond.methodLink "LimbMakerModel" (119 : Nat) ({ cls := "LimbMakerModel", name := "filledAt", desc := "(III)I" } : Jvm.MethodName)) ∈ lw_all := lw_g (lw_at lw_m5 29 rfl) rfl
theorem q1024 : (Jvm.Cond.privateMethod ({ cls := "LimbMakerModel", name := "filledAt", desc := "(III)I" } : Jvm.MethodName)) ∈ lw_tbl := lw_at lw_m5 30 rfl
theorem q1025 : (Jvm.Cond.instanceMethod ({ cls := "LimbMakerModel", name := "filledAt", desc := "(III)I" } : Jvm.MethodName)) ∈ lw_all := lw_g (lw_at lw_m5 31 rfl) rfl
theorem q1026 : (Jvm.Cond.code ({ cls := "LimbMakerModel", name := "filledAt", desc := "(III)I" } : Jvm.MethodName) prog_12_method_13_code (6 : Nat) (Option.some Jvm.ClassFile.FieldType.int)) ∈ lw_all := lw_g (lw_at lw_m5 32 rfl) rfl
theorem q1027 : (Jvm.Cond.methodLink "LimbMakerModel" (115 : Nat) ({ cls := "LimbMakerModel", name := "toldAt", desc := "(III)I" } : Jvm.MethodName)) ∈ lw_all := lw_g (lw_at lw_m5 33 rfl) rfl
theorem q1028 : (Jvm.Cond.privateMethod ({ cls := "LimbMakerModel", name := "toldAt", desc := "(III)I" } : Jvm.MethodName)) ∈ lw_tbl := lw_at lw_m5 34 rfl
theorem q1029 : (Jvm.Cond.instanceMethod ({ cls := "LimbMakerModel", name := "toldAt", desc := "(III)I" } : Jvm.MethodName)) ∈ lw_all := lw_g (lw_at lw_m5 35 rfl) rfl
theorem q1030 : (Jvm.Cond.code ({ cls := "LimbMakerModel", name := "toldAt", desc := "(III)I" } : Jvm.MethodName) prog_12_method_12_code (4 : Nat) (Option.some Jvm.ClassFile.FieldType.int)) ∈ lw_all := lw_g (lw_at lw_m5 36 rfl) rfl
theorem q1032 : (Jvm.Cond.instanceMethod ({ cls := "LimbMakerModel", name := "tear", desc := "(I)I" } : Jvm.MethodName)) ∈ lw_all := lw_g (lw_at lw_m5 38 rfl) rfl
theorem q1033 : (Jvm.Cond.selects "LimbMakerModel" ({ cls := "LimbMakerModel", name := "tear", desc := "(I)I" } : Jvm.MethodName) ({ cls := "LimbMakerModel", name := "tear", desc := "(I)I" } : Jvm.MethodName)) ∈ lw_all := lw_g (lw_at lw_m5 39 rfl) rfl
theorem q1034 : (Jvm.Cond.code ({ cls := "LimbMakerModel", name := "tear", desc := "(I)I" } : Jvm.MethodName) prog_12_method_16_code (3 : Nat) (Option.some Jvm.ClassFile.FieldType.int)) ∈ lw_all := lw_g (lw_at lw_m5 40 rfl) rfl
theorem q1036 : (Jvm.Cond.instanceMethod ({ cls := "LimbMakerModel", name := "copy", desc := "(IIIII)I" } : Jvm.MethodName)) ∈ lw_all := lw_g (lw_at lw_m5 42 rfl) rfl
theorem q1037 : (Jvm.Cond.selects "LimbMakerModel" ({ cls := "LimbMakerModel", name := "copy", desc := "(IIIII)I" } : Jvm.MethodName) ({ cls := "LimbMakerModel", name := "copy", desc := "(IIIII)I" } : Jvm.MethodName)) ∈ lw_all := lw_g (lw_at lw_m5 43 rfl) rfl
theorem q1038 : (Jvm.Cond.code ({ cls := "LimbMakerModel", name := "copy", desc := "(IIIII)I" } : Jvm.MethodName) prog_12_method_17_code (7 : Nat) (Option.some Jvm.ClassFile.FieldType.int)) ∈ lw_all := lw_g (lw_at lw_m5 44 rfl) rfl
theorem q1039 : (Jvm.Cond.constantLong "LimbMakerModel" (128 : Nat) (96 : Int64)) ∈ lw_all := lw_g (lw_at lw_m5 45 rfl) rfl
theorem q1041 : (Jvm.Cond.instanceMethod ({ cls := "LimbMakerModel", name := "ring", desc := "(II)I" } : Jvm.MethodName)) ∈ lw_all := lw_g (lw_at lw_m5 47 rfl) rfl
theorem q1042 : (Jvm.Cond.selects "LimbMakerModel" ({ cls := "LimbMakerModel", name := "ring", desc := "(II)I" } : Jvm.MethodName) ({ cls := "LimbMakerModel", name := "ring", desc := "(II)I" } : Jvm.MethodName)) ∈ lw_all := lw_g (lw_at lw_m5 48 rfl) rfl
theorem q1043 : (Jvm.Cond.code ({ cls := "LimbMakerModel", name := "ring", desc := "(II)I" } : Jvm.MethodName) prog_12_method_19_code (4 : Nat) (Option.some Jvm.ClassFile.FieldType.int)) ∈ lw_all := lw_g (lw_at lw_m5 49 rfl) rfl
theorem q1044 : (Jvm.Cond.methodLink "LimbMakerModel" (130 : Nat) ({ cls := "LimbMakerModel", name := "roomOf", desc := "(II)I" } : Jvm.MethodName)) ∈ lw_all := lw_g (lw_at lw_m5 50 rfl) rfl
theorem q1045 : (Jvm.Cond.privateMethod ({ cls := "LimbMakerModel", name := "roomOf", desc := "(II)I" } : Jvm.MethodName)) ∈ lw_tbl := lw_at lw_m5 51 rfl
theorem q1046 : (Jvm.Cond.instanceMethod ({ cls := "LimbMakerModel", name := "roomOf", desc := "(II)I" } : Jvm.MethodName)) ∈ lw_all := lw_g (lw_at lw_m5 52 rfl) rfl
theorem q1047 : (Jvm.Cond.code ({ cls := "LimbMakerModel", name := "roomOf", desc := "(II)I" } : Jvm.MethodName) prog_12_method_18_code (6 : Nat) (Option.some Jvm.ClassFile.FieldType.int)) ∈ lw_all := lw_g (lw_at lw_m5 53 rfl) rfl
theorem q1049 : (Jvm.Cond.instanceMethod ({ cls := "LimbMakerModel", name := "room", desc := "(IZ)I" } : Jvm.MethodName)) ∈ lw_all := lw_g (lw_at lw_m5 55 rfl) rfl
theorem q1050 : (Jvm.Cond.selects "LimbMakerModel" ({ cls := "LimbMakerModel", name := "room", desc := "(IZ)I" } : Jvm.MethodName) ({ cls := "LimbMakerModel", name := "room", desc := "(IZ)I" } : Jvm.MethodName)) ∈ lw_all := lw_g (lw_at lw_m5 56 rfl) rfl
theorem q1051 : (Jvm.Cond.code ({ cls := "LimbMakerModel", name := "room", desc := "(IZ)I" } : Jvm.MethodName) prog_12_method_21_code (4 : Nat) (Option.some Jvm.ClassFile.FieldType.int)) ∈ lw_all := lw_g (lw_at lw_m5 57 rfl) rfl
theorem q1052 : (Jvm.Cond.methodLink "LimbMakerModel" (134 : Nat) ({ cls := "LimbMakerModel", name := "allRoom", desc := "(IZ)I" } : Jvm.MethodName)) ∈ lw_all := lw_g (lw_at lw_m5 58 rfl) rfl
theorem q1053 : (Jvm.Cond.privateMethod ({ cls := "LimbMakerModel", name := "allRoom", desc := "(IZ)I" } : Jvm.MethodName)) ∈ lw_tbl := lw_at lw_m5 59 rfl
theorem q1054 : (Jvm.Cond.instanceMethod ({ cls := "LimbMakerModel", name := "allRoom", desc := "(IZ)I" } : Jvm.MethodName)) ∈ lw_all := lw_g (lw_at lw_m5 60 rfl) rfl
theorem q1055 : (Jvm.Cond.code ({ cls := "LimbMakerModel", name := "allRoom", desc := "(IZ)I" } : Jvm.MethodName) prog_12_method_20_code (10 : Nat) (Option.some Jvm.ClassFile.FieldType.int)) ∈ lw_all := lw_g (lw_at lw_m5 61 rfl) rfl
theorem q1057 : (Jvm.Cond.instanceMethod ({ cls := "LimbMakerModel", name := "mean", desc := "(I)I" } : Jvm.MethodName)) ∈ lw_all := lw_g (lw_at lw_m5 63 rfl) rfl
theorem q1058 : (Jvm.Cond.selects "LimbMakerModel" ({ cls := "LimbMakerModel", name := "mean", desc := "(I)I" } : Jvm.MethodName) ({ cls := "LimbMakerModel", name := "mean", desc := "(I)I" } : Jvm.MethodName)) ∈ lw_all := lw_g (lw_at lw_m5 64 rfl) rfl
theorem q1059 : (Jvm.Cond.code ({ cls := "LimbMakerModel", name := "mean", desc := "(I)I" } : Jvm.MethodName) prog_12_method_22_code (7 : Nat) (Option.some Jvm.ClassFile.FieldType.int)) ∈ lw_all := lw_g (lw_at lw_m5 65 rfl) rfl
theorem q1061 : (Jvm.Cond.instanceMethod ({ cls := "LimbMakerModel", name := "rule", desc := "(IIII)I" } : Jvm.MethodName)) ∈ lw_all := lw_g (lw_at lw_m5 67 rfl) rfl
theorem q1062 : (Jvm.Cond.selects "LimbMakerModel" ({ cls := "LimbMakerModel", name := "rule", desc := "(IIII)I" } : Jvm.MethodName) ({ cls := "LimbMakerModel", name := "rule", desc := "(IIII)I" } : Jvm.MethodName)) ∈ lw_all := lw_g (lw_at lw_m5 68 rfl) rfl
theorem q1063 : (Jvm.Cond.code ({ cls := "LimbMakerModel", name := "rule", desc := "(IIII)I" } : Jvm.MethodName) prog_12_method_23_code (5 : Nat) (Option.some Jvm.ClassFile.FieldType.int)) ∈ lw_all := lw_g (lw_at lw_m5 69 rfl) rfl
theorem q1065 : (Jvm.Cond.instanceMethod ({ cls := "LimbMakerModel", name := "ply", desc := "(I)I" } : Jvm.MethodName)) ∈ lw_all := lw_g (lw_at lw_m5 71 rfl) rfl
theorem q1066 : (Jvm.Cond.selects "LimbMakerModel" ({ cls := "LimbMakerModel", name := "ply", desc := "(I)I" } : Jvm.MethodName) ({ cls := "LimbMakerModel", name := "ply", desc := "(I)I" } : Jvm.MethodName)) ∈ lw_all := lw_g (lw_at lw_m5 72 rfl) rfl
theorem q1067 : (Jvm.Cond.code ({ cls := "LimbMakerModel", name := "ply", desc := "(I)I" } : Jvm.MethodName) prog_12_method_24_code (2 : Nat) (Option.some Jvm.ClassFile.FieldType.int)) ∈ lw_all := lw_g (lw_at lw_m5 73 rfl) rfl
theorem q1069 : (Jvm.Cond.instanceMethod ({ cls := "LimbMakerModel", name := "plies", desc := "(II)I" } : Jvm.MethodName)) ∈ lw_all := lw_g (lw_at lw_m5 75 rfl) rfl
theorem q1070 : (Jvm.Cond.selects "LimbMakerModel" ({ cls := "LimbMakerModel", name := "plies", desc := "(II)I" } : Jvm.MethodName) ({ cls := "LimbMakerModel", name := "plies", desc := "(II)I" } : Jvm.MethodName)) ∈ lw_all := lw_g (lw_at lw_m5 76 rfl) rfl
theorem q1071 : (Jvm.Cond.code ({ cls := "LimbMakerModel", name := "plies", desc := "(II)I" } : Jvm.MethodName) prog_12_method_25_code (8 : Nat) (Option.some Jvm.ClassFile.FieldType.int)) ∈ lw_all := lw_g (lw_at lw_m5 77 rfl) rfl
theorem q1072 : (Jvm.Cond.constantLong "LimbMakerModel" (141 : Nat) (1000 : Int64)) ∈ lw_all := lw_g (lw_at lw_m5 78 rfl) rfl
theorem q1074 : (Jvm.Cond.instanceMethod ({ cls := "LimbMakerModel", name := "part", desc := "(IIIIIII)I" } : Jvm.MethodName)) ∈ lw_all := lw_g (lw_at lw_m5 80 rfl) rfl
theorem q1075 : (Jvm.Cond.selects "LimbMakerModel" ({ cls := "LimbMakerModel", name := "part", desc := "(IIIIIII)I" } : Jvm.MethodName) ({ cls := "LimbMakerModel", name := "part", desc := "(IIIIIII)I" } : Jvm.MethodName)) ∈ lw_all := lw_g (lw_at lw_m5 81 rfl) rfl
theorem q1076 : (Jvm.Cond.code ({ cls := "LimbMakerModel", name := "part", desc := "(IIIIIII)I" } : Jvm.MethodName) prog_12_method_26_code (8 : Nat) (Option.some Jvm.ClassFile.FieldType.int)) ∈ lw_all := lw_g (lw_at lw_m5 82 rfl) rfl
theorem q1078 : (Jvm.Cond.instanceMethod ({ cls := "LimbMakerModel", name := "told", desc := "(II)I" } : Jvm.MethodName)) ∈ lw_all := lw_g (lw_at lw_m5 84 rfl) rfl
theorem q1079 : (Jvm.Cond.selects "LimbMakerModel" ({ cls := "LimbMakerModel", name := "told", desc := "(II)I" } : Jvm.MethodName) ({ cls := "LimbMakerModel", name := "told", desc := "(II)I" } : Jvm.MethodName)) ∈ lw_all := lw_g (lw_at lw_m5 85 rfl) rfl
theorem q1080 : (Jvm.Cond.code ({ cls := "LimbMakerModel", name := "told", desc := "(II)I" } : Jvm.MethodName) prog_12_method_29_code (3 : Nat) (Option.some Jvm.ClassFile.FieldType.int)) ∈ lw_all := lw_g (lw_at lw_m5 86 rfl) rfl
theorem q1081 : (Jvm.Cond.methodLink "LimbMakerModel" (146 : Nat) ({ cls := "LimbMakerModel", name := "isPart", desc := "(I)Z" } : Jvm.MethodName)) ∈ lw_all := lw_g (lw_at lw_m5 87 rfl) rfl
theorem q1082 : (Jvm.Cond.privateMethod ({ cls := "LimbMakerModel", name := "isPart", desc := "(I)Z" } : Jvm.MethodName)) ∈ lw_tbl := lw_at lw_m5 88 rfl
theorem q1083 : (Jvm.Cond.instanceMethod ({ cls := "LimbMakerModel", name := "isPart", desc := "(I)Z" } : Jvm.MethodName)) ∈ lw_all := lw_g (lw_at lw_m5 89 rfl) rfl
theorem q1084 : (Jvm.Cond.code ({ cls := "LimbMakerModel", name := "isPart", desc := "(I)Z" } : Jvm.MethodName) prog_12_method_27_code (2 : Nat) (Option.some Jvm.ClassFile.FieldType.boolean)) ∈ lw_all := lw_g (lw_at lw_m5 90 rfl) rfl
theorem q1085 : (Jvm.Cond.methodLink "LimbMakerModel" (149 : Nat) ({ cls := "LimbMakerModel", name := "tells", desc := "(II)I" } : Jvm.MethodName)) ∈ lw_all := lw_g (lw_at lw_m5 91 rfl) rfl
theorem q1086 : (Jvm.Cond.privateMethod ({ cls := "LimbMakerModel", name := "tells", desc := "(II)I" } : Jvm.MethodName)) ∈ lw_tbl := lw_at lw_m5 92 rfl
theorem q1087 : (Jvm.Cond.instanceMethod ({ cls := "LimbMakerModel", name := "tells", desc := "(II)I" } : Jvm.MethodName)) ∈ lw_all := lw_g (lw_at lw_m5 93 rfl) rfl
theorem q1088 : (Jvm.Cond.code ({ cls := "LimbMakerModel", name := "tells", desc := "(II)I" } : Jvm.MethodName) prog_12_method_28_code (3 : Nat) (Option.some Jvm.ClassFile.FieldType.int)) ∈ lw_all := lw_g (lw_at lw_m5 94 rfl) rfl
theorem q1090 : (Jvm.Cond.instanceMethod ({ cls := "LimbMakerModel", name := "mark", desc := "(II)I" } : Jvm.MethodName)) ∈ lw_all := lw_g (lw_at lw_m5 96 rfl) rfl
theorem q1091 : (Jvm.Cond.selects "LimbMakerModel" ({ cls := "LimbMakerModel", name := "mark", desc := "(II)I" } : Jvm.MethodName) ({ cls := "LimbMakerModel", name := "mark", desc := "(II)I" } : Jvm.MethodName)) ∈ lw_all := lw_g (lw_at lw_m5 97 rfl) rfl
theorem q1092 : (Jvm.Cond.code ({ cls := "LimbMakerModel", name := "mark", desc := "(II)I" } : Jvm.MethodName) prog_12_method_30_code (6 : Nat) (Option.some Jvm.ClassFile.FieldType.int)) ∈ lw_all := lw_g (lw_at lw_m5 98 rfl) rfl
theorem q1094 : (Jvm.Cond.instanceMethod ({ cls := "LimbMakerModel", name := "recall", desc := "(IZ)I" } : Jvm.MethodName)) ∈ lw_all := lw_g (lw_at lw_m5 100 rfl) rfl
theorem q1095 : (Jvm.Cond.selects "LimbMakerModel" ({ cls := "LimbMakerModel", name := "recall", desc := "(IZ)I" } : Jvm.MethodName) ({ cls := "LimbMakerModel", name := "recall", desc := "(IZ)I" } : Jvm.MethodName)) ∈ lw_all := lw_g (lw_at lw_m5 101 rfl) rfl
theorem q1096 : (Jvm.Cond.code ({ cls := "LimbMakerModel", name := "recall", desc := "(IZ)I" } : Jvm.MethodName) prog_12_method_31_code (4 : Nat) (Option.some Jvm.ClassFile.FieldType.int)) ∈ lw_all := lw_g (lw_at lw_m5 102 rfl) rfl
theorem q1098 : (Jvm.Cond.instanceMethod ({ cls := "LimbMakerModel", name := "unfit", desc := "(II)I" } : Jvm.MethodName)) ∈ lw_all := lw_g (lw_at lw_m5 104 rfl) rfl
theorem q1099 : (Jvm.Cond.selects "LimbMakerModel" ({ cls := "LimbMakerModel", name := "unfit", desc := "(II)I" } : Jvm.MethodName) ({ cls := "LimbMakerModel", name := "unfit", desc := "(II)I" } : Jvm.MethodName)) ∈ lw_all := lw_g (lw_at lw_m5 105 rfl) rfl
theorem q1100 : (Jvm.Cond.code ({ cls := "LimbMakerModel", name := "unfit", desc := "(II)I" } : Jvm.MethodName) prog_12_method_33_code (3 : Nat) (Option.some Jvm.ClassFile.FieldType.int)) ∈ lw_all := lw_g (lw_at lw_m5 106 rfl) rfl
theorem q1101 : (Jvm.Cond.methodLink "LimbMakerModel" (152 : Nat) ({ cls := "LimbMakerModel", name := "barsBelow", desc := "(II)I" } : Jvm.MethodName)) ∈ lw_all := lw_g (lw_at lw_m5 107 rfl) rfl
theorem q1102 : (Jvm.Cond.privateMethod ({ cls := "LimbMakerModel", name := "barsBelow", desc := "(II)I" } : Jvm.MethodName)) ∈ lw_tbl := lw_at lw_m5 108 rfl
theorem q1103 : (Jvm.Cond.instanceMethod ({ cls := "LimbMakerModel", name := "barsBelow", desc := "(II)I" } : Jvm.MethodName)) ∈ lw_all := lw_g (lw_at lw_m5 109 rfl) rfl
theorem q1104 : (Jvm.Cond.code ({ cls := "LimbMakerModel", name := "barsBelow", desc := "(II)I" } : Jvm.MethodName) prog_12_method_32_code (3 : Nat) (Option.some Jvm.ClassFile.FieldType.int)) ∈ lw_all := lw_g (lw_at lw_m5 110 rfl) rfl
theorem q1106 : (Jvm.Cond.instanceMethod ({ cls := "LimbMakerModel", name := "leg", desc := "(III)I" } : Jvm.MethodName)) ∈ lw_all := lw_g (lw_at lw_m5 112 rfl) rfl
theorem q1107 : (Jvm.Cond.selects "LimbMakerModel" ({ cls := "LimbMakerModel", name := "leg", desc := "(III)I" } : Jvm.MethodName) ({ cls := "LimbMakerModel", name := "leg", desc := "(III)I" } : Jvm.MethodName)) ∈ lw_all := lw_g (lw_at lw_m5 113 rfl) rfl
theorem q1108 : (Jvm.Cond.code ({ cls := "LimbMakerModel", name := "leg", desc := "(III)I" } : Jvm.MethodName) prog_12_method_36_code (9 : Nat) (Option.some Jvm.ClassFile.FieldType.int)) ∈ lw_all := lw_g (lw_at lw_m5 114 rfl) rfl
theorem q1109 : (Jvm.Cond.methodLink "LimbMakerModel" (158 : Nat) ({ cls := "LimbMakerModel", name := "mayCome", desc := "(IIII)Z" } : Jvm.MethodName)) ∈ lw_all := lw_g (lw_at lw_m5 115 rfl) rfl
theorem q1110 : (Jvm.Cond.privateMethod ({ cls := "LimbMakerModel", name := "mayCome", desc := "(IIII)Z" } : Jvm.MethodName)) ∈ lw_tbl := lw_at lw_m5 116 rfl
theorem q1111 : (Jvm.Cond.instanceMethod ({ cls := "LimbMakerModel", name := "mayCome", desc := "(IIII)Z" } : Jvm.MethodName)) ∈ lw_all := lw_g (lw_at lw_m5 117 rfl) rfl
theorem q1112 : (Jvm.Cond.code ({ cls := "LimbMakerModel", name := "mayCome", desc := "(IIII)Z" } : Jvm.MethodName) prog_12_method_34_code (8 : Nat) (Option.some Jvm.ClassFile.FieldType.boolean)) ∈ lw_all := lw_g (lw_at lw_m5 118 rfl) rfl
theorem q1113 : (Jvm.Cond.methodLink "LimbMakerModel" (162 : Nat) ({ cls := "LimbMakerModel", name := "sumOf", desc := "(IZ)I" } : Jvm.MethodName)) ∈ lw_all := lw_g (lw_at lw_m5 119 rfl) rfl
theorem q1114 : (Jvm.Cond.privateMethod ({ cls := "LimbMakerModel", name := "sumOf", desc := "(IZ)I" } : Jvm.MethodName)) ∈ lw_tbl := lw_at lw_m5 120 rfl
theorem q1115 : (Jvm.Cond.instanceMethod ({ cls := "LimbMakerModel", name := "sumOf", desc := "(IZ)I" } : Jvm.MethodName)) ∈ lw_all := lw_g (lw_at lw_m5 121 rfl) rfl
theorem q1116 : (Jvm.Cond.code ({ cls := "LimbMakerModel", name := "sumOf", desc := "(IZ)I" } : Jvm.MethodName) prog_12_method_35_code (5 : Nat) (Option.some Jvm.ClassFile.FieldType.int)) ∈ lw_all := lw_g (lw_at lw_m5 122 rfl) rfl
theorem q1118 : (Jvm.Cond.instanceMethod ({ cls := "LimbMakerModel", name := "legAt", desc := "(I)I" } : Jvm.MethodName)) ∈ lw_all := lw_g (lw_at lw_m5 124 rfl) rfl
theorem q1119 : (Jvm.Cond.selects "LimbMakerModel" ({ cls := "LimbMakerModel", name := "legAt", desc := "(I)I" } : Jvm.MethodName) ({ cls := "LimbMakerModel", name := "legAt", desc := "(I)I" } : Jvm.MethodName)) ∈ lw_all := lw_g (lw_at lw_m5 125 rfl) rfl
theorem q1120 : (Jvm.Cond.code ({ cls := "LimbMakerModel", name := "legAt", desc := "(I)I" } : Jvm.MethodName) prog_12_method_37_code (2 : Nat) (Option.some Jvm.ClassFile.FieldType.int)) ∈ lw_all := lw_g (lw_at lw_m5 126 rfl) rfl
theorem q1122 : (Jvm.Cond.instanceMethod ({ cls := "LimbMakerModel", name := "cuts", desc := "()I" } : Jvm.MethodName)) ∈ lw_all := lw_g (lw_at lw_m5 128 rfl) rfl
theorem q1123 : (Jvm.Cond.selects "LimbMakerModel" ({ cls := "LimbMakerModel", name := "cuts", desc := "()I" } : Jvm.MethodName) ({ cls := "LimbMakerModel", name := "cuts", desc := "()I" } : Jvm.MethodName)) ∈ lw_all := lw_g (lw_at lw_m5 129 rfl) rfl
theorem q1124 : (Jvm.Cond.code ({ cls := "LimbMakerModel", name := "cuts", desc := "()I" } : Jvm.MethodName) prog_12_method_38_code (1 : Nat) (Option.some Jvm.ClassFile.FieldType.int)) ∈ lw_all := lw_g (lw_at lw_m5 130 rfl) rfl
theorem q1126 : (Jvm.Cond.instanceMethod ({ cls := "LimbMakerModel", name := "tries", desc := "()I" } : Jvm.MethodName)) ∈ lw_all := lw_g (lw_at lw_m5 132 rfl) rfl
theorem q1127 : (Jvm.Cond.selects "LimbMakerModel" ({ cls := "LimbMakerModel", name := "tries", desc := "()I" } : Jvm.MethodName) ({ cls := "LimbMakerModel", name := "tries", desc := "()I" } : Jvm.MethodName)) ∈ lw_all := lw_g (lw_at lw_m5 133 rfl) rfl
theorem q1128 : (Jvm.Cond.code ({ cls := "LimbMakerModel", name := "tries", desc := "()I" } : Jvm.MethodName) prog_12_method_39_code (1 : Nat) (Option.some Jvm.ClassFile.FieldType.int)) ∈ lw_all := lw_g (lw_at lw_m5 134 rfl) rfl
theorem q1130 : (Jvm.Cond.instanceMethod ({ cls := "LimbMakerModel", name := "shift", desc := "(III)I" } : Jvm.MethodName)) ∈ lw_all := lw_g (lw_at lw_m5 136 rfl) rfl
theorem q1131 : (Jvm.Cond.selects "LimbMakerModel" ({ cls := "LimbMakerModel", name := "shift", desc := "(III)I" } : Jvm.MethodName) ({ cls := "LimbMakerModel", name := "shift", desc := "(III)I" } : Jvm.MethodName)) ∈ lw_all := lw_g (lw_at lw_m5 137 rfl) rfl
theorem q1132 : (Jvm.Cond.code ({ cls := "LimbMakerModel", name := "shift", desc := "(III)I" } : Jvm.MethodName) prog_12_method_40_code (4 : Nat) (Option.some Jvm.ClassFile.FieldType.int)) ∈ lw_all := lw_g (lw_at lw_m5 138 rfl) rfl
theorem q1134 : (Jvm.Cond.instanceMethod ({ cls := "LimbMakerModel", name := "turn", desc := "(IZ)I" } : Jvm.MethodName)) ∈ lw_all := lw_g (lw_at lw_m5 140 rfl) rfl
theorem q1135 : (Jvm.Cond.selects "LimbMakerModel" ({ cls := "LimbMakerModel", name := "turn", desc := "(IZ)I" } : Jvm.MethodName) ({ cls := "LimbMakerModel", name := "turn", desc := "(IZ)I" } : Jvm.MethodName)) ∈ lw_all := lw_g (lw_at lw_m5 141 rfl) rfl
theorem q1136 : (Jvm.Cond.code ({ cls := "LimbMakerModel", name := "turn", desc := "(IZ)I" } : Jvm.MethodName) prog_12_method_41_code (3 : Nat) (Option.some Jvm.ClassFile.FieldType.int)) ∈ lw_all := lw_g (lw_at lw_m5 142 rfl) rfl
theorem q1138 : (Jvm.Cond.instanceMethod ({ cls := "LimbMakerModel", name := "undo", desc := "()I" } : Jvm.MethodName)) ∈ lw_all := lw_g (lw_at lw_m5 144 rfl) rfl
theorem q1139 : (Jvm.Cond.selects "LimbMakerModel" ({ cls := "LimbMakerModel", name := "undo", desc := "()I" } : Jvm.MethodName) ({ cls := "LimbMakerModel", name := "undo", desc := "()I" } : Jvm.MethodName)) ∈ lw_all := lw_g (lw_at lw_m5 145 rfl) rfl
theorem q1140 : (Jvm.Cond.code ({ cls := "LimbMakerModel", name := "undo", desc := "()I" } : Jvm.MethodName) prog_12_method_42_code (1 : Nat) (Option.some Jvm.ClassFile.FieldType.int)) ∈ lw_all := lw_g (lw_at lw_m5 146 rfl) rfl
theorem q1142 : (Jvm.Cond.instanceMethod ({ cls := "LimbMakerModel", name := "where", desc := "(II)I" } : Jvm.MethodName)) ∈ lw_all := lw_g (lw_at lw_m5 148 rfl) rfl
theorem q1143 : (Jvm.Cond.selects "LimbMakerModel" ({ cls := "LimbMakerModel", name := "where", desc := "(II)I" } : Jvm.MethodName) ({ cls := "LimbMakerModel", name := "where", desc := "(II)I" } : Jvm.MethodName)) ∈ lw_all := lw_g (lw_at lw_m5 149 rfl) rfl
theorem q1144 : (Jvm.Cond.code ({ cls := "LimbMakerModel", name := "where", desc := "(II)I" } : Jvm.MethodName) prog_12_method_45_code (3 : Nat) (Option.some Jvm.ClassFile.FieldType.int)) ∈ lw_all := lw_g (lw_at lw_m5 150 rfl) rfl
theorem q1145 : (Jvm.Cond.methodLink "LimbMakerModel" (175 : Nat) ({ cls := "LimbMakerModel", name := "whereOf", desc := "(II)I" } : Jvm.MethodName)) ∈ lw_all := lw_g (lw_at lw_m5 151 rfl) rfl
theorem q1146 : (Jvm.Cond.privateMethod ({ cls := "LimbMakerModel", name := "whereOf", desc := "(II)I" } : Jvm.MethodName)) ∈ lw_tbl := lw_at lw_m5 152 rfl
theorem q1147 : (Jvm.Cond.instanceMethod ({ cls := "LimbMakerModel", name := "whereOf", desc := "(II)I" } : Jvm.MethodName)) ∈ lw_all := lw_g (lw_at lw_m5 153 rfl) rfl
theorem q1148 : (Jvm.Cond.code ({ cls := "LimbMakerModel", name := "whereOf", desc := "(II)I" } : Jvm.MethodName) prog_12_method_44_code (4 : Nat) (Option.some Jvm.ClassFile.FieldType.int)) ∈ lw_all := lw_g (lw_at lw_m5 154 rfl) rfl
theorem q1149 : (Jvm.Cond.methodLink "LimbMakerModel" (171 : Nat) ({ cls := "LimbMakerModel", name := "go", desc := "(III)V" } : Jvm.MethodName)) ∈ lw_all := lw_g (lw_at lw_m5 155 rfl) rfl
theorem q1150 : (Jvm.Cond.privateMethod ({ cls := "LimbMakerModel", name := "go", desc := "(III)V" } : Jvm.MethodName)) ∈ lw_tbl := lw_at lw_m5 156 rfl
theorem q1151 : (Jvm.Cond.instanceMethod ({ cls := "LimbMakerModel", name := "go", desc := "(III)V" } : Jvm.MethodName)) ∈ lw_all := lw_g (lw_at lw_m5 157 rfl) rfl
theorem q1152 : (Jvm.Cond.code ({ cls := "LimbMakerModel", name := "go", desc := "(III)V" } : Jvm.MethodName) prog_12_method_43_code (9 : Nat) (Option.none : Option Jvm.ClassFile.FieldType)) ∈ lw_all := lw_g (lw_at lw_m5 158 rfl) rfl
theorem q1153 : (Jvm.Cond.methodLink "LimbMakerModel" (178 : Nat) ({ cls := "LimbMakerModel", name := "tell", desc := "(II)I" } : Jvm.MethodName)) ∈ lw_all := lw_g (lw_at lw_m5 159 rfl) rfl
theorem q1154 : (Jvm.Cond.privateMethod ({ cls := "LimbMakerModel", name := "tell", desc := "(II)I" } : Jvm.MethodName)) ∈ lw_tbl := lw_at lw_m5 160 rfl
theorem q1155 : (Jvm.Cond.instanceMethod ({ cls := "LimbMakerModel", name := "tell", desc := "(II)I" } : Jvm.MethodName)) ∈ lw_all := lw_g (lw_at lw_m5 161 rfl) rfl
theorem q1156 : (Jvm.Cond.code ({ cls := "LimbMakerModel", name := "tell", desc := "(II)I" } : Jvm.MethodName) prog_12_method_5_code (3 : Nat) (Option.some Jvm.ClassFile.FieldType.int)) ∈ lw_all := lw_g (lw_at lw_m5 162 rfl) rfl
theorem q1158 : (Jvm.Cond.instanceMethod ({ cls := "LimbMakerModel", name := "step", desc := "(II)I" } : Jvm.MethodName)) ∈ lw_all := lw_g (lw_at lw_m5 164 rfl) rfl
theorem q1159 : (Jvm.Cond.selects "LimbMakerModel" ({ cls := "LimbMakerModel", name := "step", desc := "(II)I" } : Jvm.MethodName) ({ cls := "LimbMakerModel", name := "step", desc := "(II)I" } : Jvm.MethodName)) ∈ lw_all := lw_g (lw_at lw_m5 165 rfl) rfl
theorem q1160 : (Jvm.Cond.code ({ cls := "LimbMakerModel", name := "step", desc := "(II)I" } : Jvm.MethodName) prog_12_method_46_code (3 : Nat) (Option.some Jvm.ClassFile.FieldType.int)) ∈ lw_all := lw_g (lw_at lw_m5 166 rfl) rfl
theorem q1162 : (Jvm.Cond.instanceMethod ({ cls := "LimbMakerModel", name := "clear", desc := "(I)I" } : Jvm.MethodName)) ∈ lw_all := lw_g (lw_at lw_m5 168 rfl) rfl
theorem q1163 : (Jvm.Cond.selects "LimbMakerModel" ({ cls := "LimbMakerModel", name := "clear", desc := "(I)I" } : Jvm.MethodName) ({ cls := "LimbMakerModel", name := "clear", desc := "(I)I" } : Jvm.MethodName)) ∈ lw_all := lw_g (lw_at lw_m5 169 rfl) rfl
theorem q1164 : (Jvm.Cond.code ({ cls := "LimbMakerModel", name := "clear", desc := "(I)I" } : Jvm.MethodName) prog_12_method_47_code (3 : Nat) (Option.some Jvm.ClassFile.FieldType.int)) ∈ lw_all := lw_g (lw_at lw_m5 170 rfl) rfl
theorem q1166 : (Jvm.Cond.instanceMethod ({ cls := "LimbMakerModel", name := "even", desc := "()I" } : Jvm.MethodName)) ∈ lw_all := lw_g (lw_at lw_m5 172 rfl) rfl
theorem q1167 : (Jvm.Cond.selects "LimbMakerModel" ({ cls := "LimbMakerModel", name := "even", desc := "()I" } : Jvm.MethodName) ({ cls := "LimbMakerModel", name := "even", desc := "()I" } : Jvm.MethodName)) ∈ lw_all := lw_g (lw_at lw_m5 173 rfl) rfl
theorem q1168 : (Jvm.Cond.code ({ cls := "LimbMakerModel", name := "even", desc := "()I" } : Jvm.MethodName) prog_12_method_48_code (8 : Nat) (Option.some Jvm.ClassFile.FieldType.int)) ∈ lw_all := lw_g (lw_at lw_m5 174 rfl) rfl
theorem q1170 : (Jvm.Cond.instanceMethod ({ cls := "LimbMakerModel", name := "meanLoad", desc := "(I)I" } : Jvm.MethodName)) ∈ lw_all := lw_g (lw_at lw_m5 176 rfl) rfl
theorem q1171 : (Jvm.Cond.selects "LimbMakerModel" ({ cls := "LimbMakerModel", name := "meanLoad", desc := "(I)I" } : Jvm.MethodName) ({ cls := "LimbMakerModel", name := "meanLoad", desc := "(I)I" } : Jvm.MethodName)) ∈ lw_all := lw_g (lw_at lw_m5 177 rfl) rfl
theorem q1172 : (Jvm.Cond.code ({ cls := "LimbMakerModel", name := "meanLoad", desc := "(I)I" } : Jvm.MethodName) prog_12_method_49_code (4 : Nat) (Option.some Jvm.ClassFile.FieldType.int)) ∈ lw_all := lw_g (lw_at lw_m5 178 rfl) rfl
theorem q1174 : (Jvm.Cond.instanceMethod ({ cls := "LimbMakerModel", name := "asked", desc := "()I" } : Jvm.MethodName)) ∈ lw_all := lw_g (lw_at lw_m5 180 rfl) rfl
theorem q1175 : (Jvm.Cond.selects "LimbMakerModel" ({ cls := "LimbMakerModel", name := "asked", desc := "()I" } : Jvm.MethodName) ({ cls := "LimbMakerModel", name := "asked", desc := "()I" } : Jvm.MethodName)) ∈ lw_all := lw_g (lw_at lw_m5 181 rfl) rfl
theorem q1176 : (Jvm.Cond.code ({ cls := "LimbMakerModel", name := "asked", desc := "()I" } : Jvm.MethodName) prog_12_method_50_code (1 : Nat) (Option.some Jvm.ClassFile.FieldType.int)) ∈ lw_all := lw_g (lw_at lw_m5 182 rfl) rfl
theorem q1178 : (Jvm.Cond.instanceMethod ({ cls := "LimbMakerModel", name := "count", desc := "(I)I" } : Jvm.MethodName)) ∈ lw_all := lw_g (lw_at lw_m5 184 rfl) rfl
theorem q1179 : (Jvm.Cond.selects "LimbMakerModel" ({ cls := "LimbMakerModel", name := "count", desc := "(I)I" } : Jvm.MethodName) ({ cls := "LimbMakerModel", name := "count", desc := "(I)I" } : Jvm.MethodName)) ∈ lw_all := lw_g (lw_at lw_m5 185 rfl) rfl
theorem q1180 : (Jvm.Cond.code ({ cls := "LimbMakerModel", name := "count", desc := "(I)I" } : Jvm.MethodName) prog_12_method_52_code (2 : Nat) (Option.some Jvm.ClassFile.FieldType.int)) ∈ lw_all := lw_g (lw_at lw_m5 186 rfl) rfl
theorem q1181 : (Jvm.Cond.methodLink "LimbMakerModel" (181 : Nat) ({ cls := "LimbMakerModel", name := "tellsCount", desc := "(I)I" } : Jvm.MethodName)) ∈ lw_all := lw_g (lw_at lw_m5 187 rfl) rfl
theorem q1182 : (Jvm.Cond.privateMethod ({ cls := "LimbMakerModel", name := "tellsCount", desc := "(I)I" } : Jvm.MethodName)) ∈ lw_tbl := lw_at lw_m5 188 rfl
theorem q1183 : (Jvm.Cond.instanceMethod ({ cls := "LimbMakerModel", name := "tellsCount", desc := "(I)I" } : Jvm.MethodName)) ∈ lw_all := lw_g (lw_at lw_m5 189 rfl) rfl
theorem q1184 : (Jvm.Cond.code ({ cls := "LimbMakerModel", name := "tellsCount", desc := "(I)I" } : Jvm.MethodName) prog_12_method_51_code (4 : Nat) (Option.some Jvm.ClassFile.FieldType.int)) ∈ lw_all := lw_g (lw_at lw_m5 190 rfl) rfl
theorem q1186 : (Jvm.Cond.instanceMethod ({ cls := "LimbMakerModel", name := "finding", desc := "()I" } : Jvm.MethodName)) ∈ lw_all := lw_g (lw_at lw_m5 192 rfl) rfl
theorem q1187 : (Jvm.Cond.selects "LimbMakerModel" ({ cls := "LimbMakerModel", name := "finding", desc := "()I" } : Jvm.MethodName) ({ cls := "LimbMakerModel", name := "finding", desc := "()I" } : Jvm.MethodName)) ∈ lw_all := lw_g (lw_at lw_m5 193 rfl) rfl
theorem q1188 : (Jvm.Cond.code ({ cls := "LimbMakerModel", name := "finding", desc := "()I" } : Jvm.MethodName) prog_12_method_53_code (1 : Nat) (Option.some Jvm.ClassFile.FieldType.int)) ∈ lw_all := lw_g (lw_at lw_m5 194 rfl) rfl
theorem q1190 : (Jvm.Cond.instanceMethod ({ cls := "LimbMakerModel", name := "findings", desc := "(I)I" } : Jvm.MethodName)) ∈ lw_all := lw_g (lw_at lw_m5 196 rfl) rfl
theorem q1191 : (Jvm.Cond.selects "LimbMakerModel" ({ cls := "LimbMakerModel", name := "findings", desc := "(I)I" } : Jvm.MethodName) ({ cls := "LimbMakerModel", name := "findings", desc := "(I)I" } : Jvm.MethodName)) ∈ lw_all := lw_g (lw_at lw_m5 197 rfl) rfl
theorem q1192 : (Jvm.Cond.code ({ cls := "LimbMakerModel", name := "findings", desc := "(I)I" } : Jvm.MethodName) prog_12_method_54_code (2 : Nat) (Option.some Jvm.ClassFile.FieldType.int)) ∈ lw_all := lw_g (lw_at lw_m5 198 rfl) rfl
theorem q1194 : (Jvm.Cond.instanceMethod ({ cls := "LimbMakerModel", name := "digest", desc := "()J" } : Jvm.MethodName)) ∈ lw_all := lw_g (lw_at lw_m5 200 rfl) rfl
theorem q1195 : (Jvm.Cond.selects "LimbMakerModel" ({ cls := "LimbMakerModel", name := "digest", desc := "()J" } : Jvm.MethodName) ({ cls := "LimbMakerModel", name := "digest", desc := "()J" } : Jvm.MethodName)) ∈ lw_all := lw_g (lw_at lw_m5 201 rfl) rfl
theorem q1196 : (Jvm.Cond.code ({ cls := "LimbMakerModel", name := "digest", desc := "()J" } : Jvm.MethodName) prog_12_method_55_code (5 : Nat) (Option.some Jvm.ClassFile.FieldType.long)) ∈ lw_all := lw_g (lw_at lw_m5 202 rfl) rfl
theorem q1197 : (Jvm.Cond.constantLong "LimbMakerModel" (184 : Nat) (17 : Int64)) ∈ lw_all := lw_g (lw_at lw_m5 203 rfl) rfl
theorem q1198 : (Jvm.Cond.constantLong "LimbMakerModel" (186 : Nat) (31 : Int64)) ∈ lw_all := lw_g (lw_at lw_m5 204 rfl) rfl
theorem q1206 : (Jvm.Cond.castable "LimbMakerModel" "java/lang/Object") ∈ lw_tbl := lw_at lw_m5 212 rfl
theorem in_X1 : ∀ w ∈ wsX10, w ∈ lw_all := lw_in wsX10 [919, 921, 923, 925, 927, 929, 931, 933, 935, 937, 939, 941, 943, 945, 947, 949, 951, 953, 955, 957, 959, 961, 963, 965, 967, 969, 971, 973, 975, 977, 979, 981, 983] (by decide +kernel) (by decide +kernel)
