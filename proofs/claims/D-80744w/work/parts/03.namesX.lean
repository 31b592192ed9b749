/-! LimbMaker -/
set_option maxRecDepth 100000
def RX0 : String := "LimbMaker"
def TX0 : u_T := fun k => match k with
  | 0 => ("LimbMaker", "latest", "I", false)
  | 1 => ("LimbMaker", "came", "[I", true)
  | 2 => ("LimbMaker", "asked", "I", false)
  | 3 => ("LimbMaker", "scans", "[[I", true)
  | 4 => ("LimbMaker", "ruleMany", "I", false)
  | 5 => ("LimbMaker", "ruleFrom", "[I", true)
  | 6 => ("LimbMaker", "ruleTo", "[I", true)
  | 7 => ("LimbMaker", "rulePlaces", "[I", true)
  | 8 => ("LimbMaker", "ruleMore", "[I", true)
  | 9 => ("LimbMaker", "endMany", "I", false)
  | 10 => ("LimbMaker", "ends", "[I", true)
  | 11 => ("LimbMaker", "parts", "[LLimbMaker$Part;", true)
  | 12 => ("LimbMaker", "partMany", "I", false)
  | 13 => ("LimbMaker", "going", "[I", true)
  | 14 => ("LimbMaker", "used", "I", false)
  | 15 => ("LimbMaker", "dueHeight", "I", false)
  | 16 => ("LimbMaker", "dueWeight", "I", false)
  | 17 => ("LimbMaker", "tries", "I", false)
  | 18 => ("LimbMaker", "most", "I", false)
  | 19 => ("LimbMaker", "isSpent", "Z", false)
  | 20 => ("LimbMaker", "best", "[I", true)
  | 21 => ("LimbMaker", "bestMany", "I", false)
  | 22 => ("LimbMaker", "bestPrice", "I", false)
  | 23 => ("LimbMaker", "bestHeight", "I", false)
  | 24 => ("LimbMaker", "cutsNow", "I", false)
  | 25 => ("LimbMaker", "moves", "Ljava/util/ArrayList;", true)
  | 26 => ("LimbMaker", "place", "[I", true)
  | 27 => ("LimbMaker", "loads", "[I", true)
  | _ => ("LimbMaker", "loadMany", "[I", true)
def tyX0 : Nat → FieldType := fun k => match k with
  | 0 => .int
  | 1 => .array .int
  | 2 => .int
  | 3 => .array (.array .int)
  | 4 => .int
  | 5 => .array .int
  | 6 => .array .int
  | 7 => .array .int
  | 8 => .array .int
  | 9 => .int
  | 10 => .array .int
  | 11 => .array (.object "LimbMaker$Part")
  | 12 => .int
  | 13 => .array .int
  | 14 => .int
  | 15 => .int
  | 16 => .int
  | 17 => .int
  | 18 => .int
  | 19 => .boolean
  | 20 => .array .int
  | 21 => .int
  | 22 => .int
  | 23 => .int
  | 24 => .int
  | 25 => .object "java/util/ArrayList"
  | 26 => .array .int
  | 27 => .array .int
  | _ => .array .int
abbrev wsX00 : List Cond := u_ws RX0 TX0 29
set_option maxRecDepth 100000 in
theorem nmX0 : ∀ a, a < 29 → ∀ b, b < 29 → a ≠ b → (TX0 a).2.1 ≠ (TX0 b).2.1 := by decide +kernel
set_option maxRecDepth 100000 in
theorem tyX0_ok : ∀ k, k < 29 → parseFieldDescriptor (TX0 k).2.2.1 = some (tyX0 k) := by decide +kernel
abbrev cX0_asked : ByteArray := prog_1_method_4_code
def yX0_asked : MethodName := ⟨RX0, "asked", "()I"⟩
theorem dX0_asked_0 : decode cX0_asked 0 = .ok (.aload_n 0, 1) := by decide +kernel
theorem dX0_asked_1 : decode cX0_asked 1 = .ok (.getfield 11, 3) := by decide +kernel
theorem dX0_asked_4 : decode cX0_asked 4 = .ok (.ireturn, 1) := by decide +kernel
abbrev cX0_init : ByteArray := prog_1_method_5_code
def yX0_init : MethodName := ⟨RX0, "<init>", "()V"⟩
def dkwX0_init_5 : List UInt8 := [181, 0, 65, 177]
abbrev dktX0_init_5 : List UInt8 := dkwX0_init_5 ++ []
def dkwX0_init_4 : List UInt8 := [181, 0, 55, 42, 6, 188, 10, 181, 0, 59, 42, 16, 80, 188, 10, 181, 0, 62, 42, 5, 188, 10]
abbrev dktX0_init_4 : List UInt8 := dkwX0_init_4 ++ dktX0_init_5
def dkwX0_init_3 : List UInt8 := [16, 16, 188, 10, 181, 0, 46, 42, 16, 16, 188, 10, 181, 0, 49, 42, 187, 0, 52, 89, 183, 0, 54]
abbrev dktX0_init_3 : List UInt8 := dkwX0_init_3 ++ dktX0_init_4
def dkwX0_init_2 : List UInt8 := [188, 10, 181, 0, 34, 42, 16, 8, 188, 10, 181, 0, 37, 42, 16, 16, 189, 0, 40, 181, 0, 42, 42]
abbrev dktX0_init_2 : List UInt8 := dkwX0_init_2 ++ dktX0_init_3
def dkwX0_init_1 : List UInt8 := [188, 10, 181, 0, 25, 42, 16, 12, 188, 10, 181, 0, 28, 42, 16, 12, 188, 10, 181, 0, 31, 42, 16, 12]
abbrev dktX0_init_1 : List UInt8 := dkwX0_init_1 ++ dktX0_init_2
def dkwX0_init_0 : List UInt8 := [42, 183, 0, 14, 42, 16, 6, 188, 10, 181, 0, 7, 42, 7, 189, 0, 20, 181, 0, 21, 42, 16, 12]
abbrev dktX0_init_0 : List UInt8 := dkwX0_init_0 ++ dktX0_init_1
theorem dksX0_init_0 : cX0_init.data.toList.drop 0 = dktX0_init_0 := by decide +kernel
theorem dksX0_init_1 : cX0_init.data.toList.drop 23 = dktX0_init_1 := dk_seg dksX0_init_0 23 rfl rfl
theorem dksX0_init_2 : cX0_init.data.toList.drop 47 = dktX0_init_2 := dk_seg dksX0_init_1 24 rfl rfl
theorem dksX0_init_3 : cX0_init.data.toList.drop 70 = dktX0_init_3 := dk_seg dksX0_init_2 23 rfl rfl
theorem dksX0_init_4 : cX0_init.data.toList.drop 93 = dktX0_init_4 := dk_seg dksX0_init_3 23 rfl rfl
theorem dksX0_init_5 : cX0_init.data.toList.drop 115 = dktX0_init_5 := dk_seg dksX0_init_4 22 rfl rfl
theorem dX0_init_0 : decode cX0_init 0 = .ok (.aload_n 0, 1) := dk_42 (dk_at dksX0_init_0 0 rfl rfl)
theorem dX0_init_1 : decode cX0_init 1 = .ok (.invokespecial 14, 3) := dk_183 0 14 (dk_at dksX0_init_0 1 rfl rfl)
theorem dX0_init_4 : decode cX0_init 4 = .ok (.aload_n 0, 1) := dk_42 (dk_at dksX0_init_0 4 rfl rfl)
theorem dX0_init_5 : decode cX0_init 5 = .ok (.bipush 6, 2) := dk_16 6 (dk_at dksX0_init_0 5 rfl rfl)
theorem dX0_init_7 : decode cX0_init 7 = .ok (.newarray .int, 2) := dk_188_10 (dk_at dksX0_init_0 7 rfl rfl)
theorem dX0_init_9 : decode cX0_init 9 = .ok (.putfield 7, 3) := dk_181 0 7 (dk_at dksX0_init_0 9 rfl rfl)
theorem dX0_init_12 : decode cX0_init 12 = .ok (.aload_n 0, 1) := dk_42 (dk_at dksX0_init_0 12 rfl rfl)
theorem dX0_init_13 : decode cX0_init 13 = .ok (.iconst 4, 1) := dk_7 (dk_at dksX0_init_0 13 rfl rfl)
theorem dX0_init_14 : decode cX0_init 14 = .ok (.anewarray 20, 3) := dk_189 0 20 (dk_at dksX0_init_0 14 rfl rfl)
theorem dX0_init_17 : decode cX0_init 17 = .ok (.putfield 21, 3) := dk_181 0 21 (dk_at dksX0_init_0 17 rfl rfl)
theorem dX0_init_20 : decode cX0_init 20 = .ok (.aload_n 0, 1) := dk_42 (dk_at dksX0_init_0 20 rfl rfl)
theorem dX0_init_21 : decode cX0_init 21 = .ok (.bipush 12, 2) := dk_16 12 (dk_at dksX0_init_0 21 rfl rfl)
theorem dX0_init_23 : decode cX0_init 23 = .ok (.newarray .int, 2) := dk_188_10 (dk_at dksX0_init_1 0 rfl rfl)
theorem dX0_init_25 : decode cX0_init 25 = .ok (.putfield 25, 3) := dk_181 0 25 (dk_at dksX0_init_1 2 rfl rfl)
theorem dX0_init_28 : decode cX0_init 28 = .ok (.aload_n 0, 1) := dk_42 (dk_at dksX0_init_1 5 rfl rfl)
theorem dX0_init_29 : decode cX0_init 29 = .ok (.bipush 12, 2) := dk_16 12 (dk_at dksX0_init_1 6 rfl rfl)
theorem dX0_init_31 : decode cX0_init 31 = .ok (.newarray .int, 2) := dk_188_10 (dk_at dksX0_init_1 8 rfl rfl)
theorem dX0_init_33 : decode cX0_init 33 = .ok (.putfield 28, 3) := dk_181 0 28 (dk_at dksX0_init_1 10 rfl rfl)
theorem dX0_init_36 : decode cX0_init 36 = .ok (.aload_n 0, 1) := dk_42 (dk_at dksX0_init_1 13 rfl rfl)
theorem dX0_init_37 : decode cX0_init 37 = .ok (.bipush 12, 2) := dk_16 12 (dk_at dksX0_init_1 14 rfl rfl)
theorem dX0_init_39 : decode cX0_init 39 = .ok (.newarray .int, 2) := dk_188_10 (dk_at dksX0_init_1 16 rfl rfl)
theorem dX0_init_41 : decode cX0_init 41 = .ok (.putfield 31, 3) := dk_181 0 31 (dk_at dksX0_init_1 18 rfl rfl)
theorem dX0_init_44 : decode cX0_init 44 = .ok (.aload_n 0, 1) := dk_42 (dk_at dksX0_init_1 21 rfl rfl)
theorem dX0_init_45 : decode cX0_init 45 = .ok (.bipush 12, 2) := dk_16 12 (dk_at dksX0_init_1 22 rfl rfl)
theorem dX0_init_47 : decode cX0_init 47 = .ok (.newarray .int, 2) := dk_188_10 (dk_at dksX0_init_2 0 rfl rfl)
theorem dX0_init_49 : decode cX0_init 49 = .ok (.putfield 34, 3) := dk_181 0 34 (dk_at dksX0_init_2 2 rfl rfl)
theorem dX0_init_52 : decode cX0_init 52 = .ok (.aload_n 0, 1) := dk_42 (dk_at dksX0_init_2 5 rfl rfl)
theorem dX0_init_53 : decode cX0_init 53 = .ok (.bipush 8, 2) := dk_16 8 (dk_at dksX0_init_2 6 rfl rfl)
theorem dX0_init_55 : decode cX0_init 55 = .ok (.newarray .int, 2) := dk_188_10 (dk_at dksX0_init_2 8 rfl rfl)
theorem dX0_init_57 : decode cX0_init 57 = .ok (.putfield 37, 3) := dk_181 0 37 (dk_at dksX0_init_2 10 rfl rfl)
theorem dX0_init_60 : decode cX0_init 60 = .ok (.aload_n 0, 1) := dk_42 (dk_at dksX0_init_2 13 rfl rfl)
theorem dX0_init_61 : decode cX0_init 61 = .ok (.bipush 16, 2) := dk_16 16 (dk_at dksX0_init_2 14 rfl rfl)
theorem dX0_init_63 : decode cX0_init 63 = .ok (.anewarray 40, 3) := dk_189 0 40 (dk_at dksX0_init_2 16 rfl rfl)
theorem dX0_init_66 : decode cX0_init 66 = .ok (.putfield 42, 3) := dk_181 0 42 (dk_at dksX0_init_2 19 rfl rfl)
theorem dX0_init_69 : decode cX0_init 69 = .ok (.aload_n 0, 1) := dk_42 (dk_at dksX0_init_2 22 rfl rfl)
theorem dX0_init_70 : decode cX0_init 70 = .ok (.bipush 16, 2) := dk_16 16 (dk_at dksX0_init_3 0 rfl rfl)
theorem dX0_init_72 : decode cX0_init 72 = .ok (.newarray .int, 2) := dk_188_10 (dk_at dksX0_init_3 2 rfl rfl)
theorem dX0_init_74 : decode cX0_init 74 = .ok (.putfield 46, 3) := dk_181 0 46 (dk_at dksX0_init_3 4 rfl rfl)
theorem dX0_init_77 : decode cX0_init 77 = .ok (.aload_n 0, 1) := dk_42 (dk_at dksX0_init_3 7 rfl rfl)
theorem dX0_init_78 : decode cX0_init 78 = .ok (.bipush 16, 2) := dk_16 16 (dk_at dksX0_init_3 8 rfl rfl)
theorem dX0_init_80 : decode cX0_init 80 = .ok (.newarray .int, 2) := dk_188_10 (dk_at dksX0_init_3 10 rfl rfl)
theorem dX0_init_82 : decode cX0_init 82 = .ok (.putfield 49, 3) := dk_181 0 49 (dk_at dksX0_init_3 12 rfl rfl)
theorem dX0_init_85 : decode cX0_init 85 = .ok (.aload_n 0, 1) := dk_42 (dk_at dksX0_init_3 15 rfl rfl)
theorem dX0_init_86 : decode cX0_init 86 = .ok (.new 52, 3) := dk_187 0 52 (dk_at dksX0_init_3 16 rfl rfl)
theorem dX0_init_89 : decode cX0_init 89 = .ok (.dup, 1) := dk_89 (dk_at dksX0_init_3 19 rfl rfl)
theorem dX0_init_90 : decode cX0_init 90 = .ok (.invokespecial 54, 3) := dk_183 0 54 (dk_at dksX0_init_3 20 rfl rfl)
theorem dX0_init_93 : decode cX0_init 93 = .ok (.putfield 55, 3) := dk_181 0 55 (dk_at dksX0_init_4 0 rfl rfl)
theorem dX0_init_96 : decode cX0_init 96 = .ok (.aload_n 0, 1) := dk_42 (dk_at dksX0_init_4 3 rfl rfl)
theorem dX0_init_97 : decode cX0_init 97 = .ok (.iconst 3, 1) := dk_6 (dk_at dksX0_init_4 4 rfl rfl)
theorem dX0_init_98 : decode cX0_init 98 = .ok (.newarray .int, 2) := dk_188_10 (dk_at dksX0_init_4 5 rfl rfl)
theorem dX0_init_100 : decode cX0_init 100 = .ok (.putfield 59, 3) := dk_181 0 59 (dk_at dksX0_init_4 7 rfl rfl)
theorem dX0_init_103 : decode cX0_init 103 = .ok (.aload_n 0, 1) := dk_42 (dk_at dksX0_init_4 10 rfl rfl)
theorem dX0_init_104 : decode cX0_init 104 = .ok (.bipush 80, 2) := dk_16 80 (dk_at dksX0_init_4 11 rfl rfl)
theorem dX0_init_106 : decode cX0_init 106 = .ok (.newarray .int, 2) := dk_188_10 (dk_at dksX0_init_4 13 rfl rfl)
theorem dX0_init_108 : decode cX0_init 108 = .ok (.putfield 62, 3) := dk_181 0 62 (dk_at dksX0_init_4 15 rfl rfl)
theorem dX0_init_111 : decode cX0_init 111 = .ok (.aload_n 0, 1) := dk_42 (dk_at dksX0_init_4 18 rfl rfl)
theorem dX0_init_112 : decode cX0_init 112 = .ok (.iconst 2, 1) := dk_5 (dk_at dksX0_init_4 19 rfl rfl)
theorem dX0_init_113 : decode cX0_init 113 = .ok (.newarray .int, 2) := dk_188_10 (dk_at dksX0_init_4 20 rfl rfl)
theorem dX0_init_115 : decode cX0_init 115 = .ok (.putfield 65, 3) := dk_181 0 65 (dk_at dksX0_init_5 0 rfl rfl)
theorem dX0_init_118 : decode cX0_init 118 = .ok (.return_, 1) := dk_177 (dk_at dksX0_init_5 3 rfl rfl)
abbrev cX0_scan : ByteArray := prog_1_method_9_code
def yX0_scan : MethodName := ⟨RX0, "scan", "(I)I"⟩
def dkwX0_scan_2 : List UInt8 := [167, 255, 240, 42, 180, 0, 21, 27, 45, 83, 28, 172]
abbrev dktX0_scan_2 : List UInt8 := dkwX0_scan_2 ++ []
def dkwX0_scan_1 : List UInt8 := [16, 96, 188, 10, 78, 3, 54, 4, 21, 4, 16, 96, 162, 0, 15, 45, 21, 4, 16, 247, 79, 132, 4, 1]
abbrev dktX0_scan_1 : List UInt8 := dkwX0_scan_1 ++ dktX0_scan_2
def dkwX0_scan_0 : List UInt8 := [27, 184, 0, 72, 154, 0, 5, 2, 172, 42, 180, 0, 21, 27, 50, 199, 0, 7, 3, 167, 0, 4, 4, 61]
abbrev dktX0_scan_0 : List UInt8 := dkwX0_scan_0 ++ dktX0_scan_1
theorem dksX0_scan_0 : cX0_scan.data.toList.drop 0 = dktX0_scan_0 := by decide +kernel
theorem dksX0_scan_1 : cX0_scan.data.toList.drop 24 = dktX0_scan_1 := dk_seg dksX0_scan_0 24 rfl rfl
theorem dksX0_scan_2 : cX0_scan.data.toList.drop 48 = dktX0_scan_2 := dk_seg dksX0_scan_1 24 rfl rfl
theorem dX0_scan_0 : decode cX0_scan 0 = .ok (.iload_n 1, 1) := dk_27 (dk_at dksX0_scan_0 0 rfl rfl)
theorem dX0_scan_1 : decode cX0_scan 1 = .ok (.invokestatic 72, 3) := dk_184 0 72 (dk_at dksX0_scan_0 1 rfl rfl)
theorem dX0_scan_4 : decode cX0_scan 4 = .ok (.ifCond .ne 5, 3) := dk_154 0 5 (dk_at dksX0_scan_0 4 rfl rfl)
theorem dX0_scan_7 : decode cX0_scan 7 = .ok (.iconst (-1), 1) := dk_2 (dk_at dksX0_scan_0 7 rfl rfl)
theorem dX0_scan_8 : decode cX0_scan 8 = .ok (.ireturn, 1) := dk_172 (dk_at dksX0_scan_0 8 rfl rfl)
theorem dX0_scan_9 : decode cX0_scan 9 = .ok (.aload_n 0, 1) := dk_42 (dk_at dksX0_scan_0 9 rfl rfl)
theorem dX0_scan_10 : decode cX0_scan 10 = .ok (.getfield 21, 3) := dk_180 0 21 (dk_at dksX0_scan_0 10 rfl rfl)
theorem dX0_scan_13 : decode cX0_scan 13 = .ok (.iload_n 1, 1) := dk_27 (dk_at dksX0_scan_0 13 rfl rfl)
theorem dX0_scan_14 : decode cX0_scan 14 = .ok (.aaload, 1) := dk_50 (dk_at dksX0_scan_0 14 rfl rfl)
theorem dX0_scan_15 : decode cX0_scan 15 = .ok (.ifnonnull 7, 3) := dk_199 0 7 (dk_at dksX0_scan_0 15 rfl rfl)
theorem dX0_scan_18 : decode cX0_scan 18 = .ok (.iconst 0, 1) := dk_3 (dk_at dksX0_scan_0 18 rfl rfl)
theorem dX0_scan_19 : decode cX0_scan 19 = .ok (.goto 4, 3) := dk_167 0 4 (dk_at dksX0_scan_0 19 rfl rfl)
theorem dX0_scan_22 : decode cX0_scan 22 = .ok (.iconst 1, 1) := dk_4 (dk_at dksX0_scan_0 22 rfl rfl)
theorem dX0_scan_23 : decode cX0_scan 23 = .ok (.istore_n 2, 1) := dk_61 (dk_at dksX0_scan_0 23 rfl rfl)
theorem dX0_scan_24 : decode cX0_scan 24 = .ok (.bipush 96, 2) := dk_16 96 (dk_at dksX0_scan_1 0 rfl rfl)
theorem dX0_scan_26 : decode cX0_scan 26 = .ok (.newarray .int, 2) := dk_188_10 (dk_at dksX0_scan_1 2 rfl rfl)
theorem dX0_scan_28 : decode cX0_scan 28 = .ok (.astore_n 3, 1) := dk_78 (dk_at dksX0_scan_1 4 rfl rfl)
theorem dX0_scan_29 : decode cX0_scan 29 = .ok (.iconst 0, 1) := dk_3 (dk_at dksX0_scan_1 5 rfl rfl)
theorem dX0_scan_30 : decode cX0_scan 30 = .ok (.istore 4, 2) := dk_54 4 (dk_at dksX0_scan_1 6 rfl rfl)
theorem dX0_scan_32 : decode cX0_scan 32 = .ok (.iload 4, 2) := dk_21 4 (dk_at dksX0_scan_1 8 rfl rfl)
theorem dX0_scan_34 : decode cX0_scan 34 = .ok (.bipush 96, 2) := dk_16 96 (dk_at dksX0_scan_1 10 rfl rfl)
theorem dX0_scan_36 : decode cX0_scan 36 = .ok (.if_icmp .ge 15, 3) := dk_162 0 15 (dk_at dksX0_scan_1 12 rfl rfl)
theorem dX0_scan_39 : decode cX0_scan 39 = .ok (.aload_n 3, 1) := dk_45 (dk_at dksX0_scan_1 15 rfl rfl)
theorem dX0_scan_40 : decode cX0_scan 40 = .ok (.iload 4, 2) := dk_21 4 (dk_at dksX0_scan_1 16 rfl rfl)
theorem dX0_scan_42 : decode cX0_scan 42 = .ok (.bipush (-9), 2) := dk_16 247 (dk_at dksX0_scan_1 18 rfl rfl)
theorem dX0_scan_44 : decode cX0_scan 44 = .ok (.iastore, 1) := dk_79 (dk_at dksX0_scan_1 20 rfl rfl)
theorem dX0_scan_45 : decode cX0_scan 45 = .ok (.iinc 4 1, 3) := dk_132 4 1 (dk_at dksX0_scan_1 21 rfl rfl)
theorem dX0_scan_48 : decode cX0_scan 48 = .ok (.goto (-16), 3) := dk_167 255 240 (dk_at dksX0_scan_2 0 rfl rfl)
theorem dX0_scan_51 : decode cX0_scan 51 = .ok (.aload_n 0, 1) := dk_42 (dk_at dksX0_scan_2 3 rfl rfl)
theorem dX0_scan_52 : decode cX0_scan 52 = .ok (.getfield 21, 3) := dk_180 0 21 (dk_at dksX0_scan_2 4 rfl rfl)
theorem dX0_scan_55 : decode cX0_scan 55 = .ok (.iload_n 1, 1) := dk_27 (dk_at dksX0_scan_2 7 rfl rfl)
theorem dX0_scan_56 : decode cX0_scan 56 = .ok (.aload_n 3, 1) := dk_45 (dk_at dksX0_scan_2 8 rfl rfl)
theorem dX0_scan_57 : decode cX0_scan 57 = .ok (.aastore, 1) := dk_83 (dk_at dksX0_scan_2 9 rfl rfl)
theorem dX0_scan_58 : decode cX0_scan 58 = .ok (.iload_n 2, 1) := dk_28 (dk_at dksX0_scan_2 10 rfl rfl)
theorem dX0_scan_59 : decode cX0_scan 59 = .ok (.ireturn, 1) := dk_172 (dk_at dksX0_scan_2 11 rfl rfl)
abbrev cX0_isScan : ByteArray := prog_1_method_6_code
def yX0_isScan : MethodName := ⟨RX0, "isScan", "(I)Z"⟩
def dkwX0_isScan_0 : List UInt8 := [26, 3, 6, 184, 0, 68, 172]
abbrev dktX0_isScan_0 : List UInt8 := dkwX0_isScan_0 ++ []
theorem dksX0_isScan_0 : cX0_isScan.data.toList.drop 0 = dktX0_isScan_0 := by decide +kernel
theorem dX0_isScan_0 : decode cX0_isScan 0 = .ok (.iload_n 0, 1) := dk_26 (dk_at dksX0_isScan_0 0 rfl rfl)
theorem dX0_isScan_1 : decode cX0_isScan 1 = .ok (.iconst 0, 1) := dk_3 (dk_at dksX0_isScan_0 1 rfl rfl)
theorem dX0_isScan_2 : decode cX0_isScan 2 = .ok (.iconst 3, 1) := dk_6 (dk_at dksX0_isScan_0 2 rfl rfl)
theorem dX0_isScan_3 : decode cX0_isScan 3 = .ok (.invokestatic 68, 3) := dk_184 0 68 (dk_at dksX0_isScan_0 3 rfl rfl)
theorem dX0_isScan_6 : decode cX0_isScan 6 = .ok (.ireturn, 1) := dk_172 (dk_at dksX0_isScan_0 6 rfl rfl)
abbrev cX0_in : ByteArray := prog_1_method_1_code
def yX0_in : MethodName := ⟨RX0, "in", "(III)Z"⟩
def dkwX0_in_0 : List UInt8 := [26, 27, 161, 0, 12, 26, 28, 163, 0, 7, 4, 167, 0, 4, 3, 172]
abbrev dktX0_in_0 : List UInt8 := dkwX0_in_0 ++ []
theorem dksX0_in_0 : cX0_in.data.toList.drop 0 = dktX0_in_0 := by decide +kernel
theorem dX0_in_0 : decode cX0_in 0 = .ok (.iload_n 0, 1) := dk_26 (dk_at dksX0_in_0 0 rfl rfl)
theorem dX0_in_1 : decode cX0_in 1 = .ok (.iload_n 1, 1) := dk_27 (dk_at dksX0_in_0 1 rfl rfl)
theorem dX0_in_2 : decode cX0_in 2 = .ok (.if_icmp .lt 12, 3) := dk_161 0 12 (dk_at dksX0_in_0 2 rfl rfl)
theorem dX0_in_5 : decode cX0_in 5 = .ok (.iload_n 0, 1) := dk_26 (dk_at dksX0_in_0 5 rfl rfl)
theorem dX0_in_6 : decode cX0_in 6 = .ok (.iload_n 2, 1) := dk_28 (dk_at dksX0_in_0 6 rfl rfl)
theorem dX0_in_7 : decode cX0_in 7 = .ok (.if_icmp .gt 7, 3) := dk_163 0 7 (dk_at dksX0_in_0 7 rfl rfl)
theorem dX0_in_10 : decode cX0_in 10 = .ok (.iconst 1, 1) := dk_4 (dk_at dksX0_in_0 10 rfl rfl)
theorem dX0_in_11 : decode cX0_in 11 = .ok (.goto 4, 3) := dk_167 0 4 (dk_at dksX0_in_0 11 rfl rfl)
theorem dX0_in_14 : decode cX0_in 14 = .ok (.iconst 0, 1) := dk_3 (dk_at dksX0_in_0 14 rfl rfl)
theorem dX0_in_15 : decode cX0_in 15 = .ok (.ireturn, 1) := dk_172 (dk_at dksX0_in_0 15 rfl rfl)
abbrev cX0_lay : ByteArray := prog_1_method_10_code
def yX0_lay : MethodName := ⟨RX0, "lay", "(IIII)I"⟩
def dkwX0_lay_3 : List UInt8 := [46, 54, 6, 42, 180, 0, 21, 27, 50, 16, 8, 28, 104, 29, 96, 21, 4, 79, 21, 6, 172]
abbrev dktX0_lay_3 : List UInt8 := dkwX0_lay_3 ++ []
def dkwX0_lay_2 : List UInt8 := [184, 0, 83, 154, 0, 9, 42, 5, 182, 0, 76, 172, 42, 180, 0, 21, 27, 50, 16, 8, 28, 104, 29, 96]
abbrev dktX0_lay_2 : List UInt8 := dkwX0_lay_2 ++ dktX0_lay_3
def dkwX0_lay_1 : List UInt8 := [154, 0, 5, 2, 172, 42, 27, 182, 0, 80, 54, 5, 21, 5, 156, 0, 6, 21, 5, 172, 28, 29]
abbrev dktX0_lay_1 : List UInt8 := dkwX0_lay_1 ++ dktX0_lay_2
def dkwX0_lay_0 : List UInt8 := [27, 184, 0, 72, 153, 0, 22, 21, 4, 16, 247, 159, 0, 17, 21, 4, 3, 17, 1, 244, 184, 0, 68]
abbrev dktX0_lay_0 : List UInt8 := dkwX0_lay_0 ++ dktX0_lay_1
theorem dksX0_lay_0 : cX0_lay.data.toList.drop 0 = dktX0_lay_0 := by decide +kernel
theorem dksX0_lay_1 : cX0_lay.data.toList.drop 23 = dktX0_lay_1 := dk_seg dksX0_lay_0 23 rfl rfl
theorem dksX0_lay_2 : cX0_lay.data.toList.drop 45 = dktX0_lay_2 := dk_seg dksX0_lay_1 22 rfl rfl
theorem dksX0_lay_3 : cX0_lay.data.toList.drop 69 = dktX0_lay_3 := dk_seg dksX0_lay_2 24 rfl rfl
theorem dX0_lay_0 : decode cX0_lay 0 = .ok (.iload_n 1, 1) := dk_27 (dk_at dksX0_lay_0 0 rfl rfl)
theorem dX0_lay_1 : decode cX0_lay 1 = .ok (.invokestatic 72, 3) := dk_184 0 72 (dk_at dksX0_lay_0 1 rfl rfl)
theorem dX0_lay_4 : decode cX0_lay 4 = .ok (.ifCond .eq 22, 3) := dk_153 0 22 (dk_at dksX0_lay_0 4 rfl rfl)
theorem dX0_lay_7 : decode cX0_lay 7 = .ok (.iload 4, 2) := dk_21 4 (dk_at dksX0_lay_0 7 rfl rfl)
theorem dX0_lay_9 : decode cX0_lay 9 = .ok (.bipush (-9), 2) := dk_16 247 (dk_at dksX0_lay_0 9 rfl rfl)
theorem dX0_lay_11 : decode cX0_lay 11 = .ok (.if_icmp .eq 17, 3) := dk_159 0 17 (dk_at dksX0_lay_0 11 rfl rfl)
theorem dX0_lay_14 : decode cX0_lay 14 = .ok (.iload 4, 2) := dk_21 4 (dk_at dksX0_lay_0 14 rfl rfl)
theorem dX0_lay_16 : decode cX0_lay 16 = .ok (.iconst 0, 1) := dk_3 (dk_at dksX0_lay_0 16 rfl rfl)
theorem dX0_lay_17 : decode cX0_lay 17 = .ok (.sipush 500, 3) := dk_17 1 244 (dk_at dksX0_lay_0 17 rfl rfl)
theorem dX0_lay_20 : decode cX0_lay 20 = .ok (.invokestatic 68, 3) := dk_184 0 68 (dk_at dksX0_lay_0 20 rfl rfl)
theorem dX0_lay_23 : decode cX0_lay 23 = .ok (.ifCond .ne 5, 3) := dk_154 0 5 (dk_at dksX0_lay_1 0 rfl rfl)
theorem dX0_lay_26 : decode cX0_lay 26 = .ok (.iconst (-1), 1) := dk_2 (dk_at dksX0_lay_1 3 rfl rfl)
theorem dX0_lay_27 : decode cX0_lay 27 = .ok (.ireturn, 1) := dk_172 (dk_at dksX0_lay_1 4 rfl rfl)
theorem dX0_lay_28 : decode cX0_lay 28 = .ok (.aload_n 0, 1) := dk_42 (dk_at dksX0_lay_1 5 rfl rfl)
theorem dX0_lay_29 : decode cX0_lay 29 = .ok (.iload_n 1, 1) := dk_27 (dk_at dksX0_lay_1 6 rfl rfl)
theorem dX0_lay_30 : decode cX0_lay 30 = .ok (.invokevirtual 80, 3) := dk_182 0 80 (dk_at dksX0_lay_1 7 rfl rfl)
theorem dX0_lay_33 : decode cX0_lay 33 = .ok (.istore 5, 2) := dk_54 5 (dk_at dksX0_lay_1 10 rfl rfl)
theorem dX0_lay_35 : decode cX0_lay 35 = .ok (.iload 5, 2) := dk_21 5 (dk_at dksX0_lay_1 12 rfl rfl)
theorem dX0_lay_37 : decode cX0_lay 37 = .ok (.ifCond .ge 6, 3) := dk_156 0 6 (dk_at dksX0_lay_1 14 rfl rfl)
theorem dX0_lay_40 : decode cX0_lay 40 = .ok (.iload 5, 2) := dk_21 5 (dk_at dksX0_lay_1 17 rfl rfl)
theorem dX0_lay_42 : decode cX0_lay 42 = .ok (.ireturn, 1) := dk_172 (dk_at dksX0_lay_1 19 rfl rfl)
theorem dX0_lay_43 : decode cX0_lay 43 = .ok (.iload_n 2, 1) := dk_28 (dk_at dksX0_lay_1 20 rfl rfl)
theorem dX0_lay_44 : decode cX0_lay 44 = .ok (.iload_n 3, 1) := dk_29 (dk_at dksX0_lay_1 21 rfl rfl)
theorem dX0_lay_45 : decode cX0_lay 45 = .ok (.invokestatic 83, 3) := dk_184 0 83 (dk_at dksX0_lay_2 0 rfl rfl)
theorem dX0_lay_48 : decode cX0_lay 48 = .ok (.ifCond .ne 9, 3) := dk_154 0 9 (dk_at dksX0_lay_2 3 rfl rfl)
theorem dX0_lay_51 : decode cX0_lay 51 = .ok (.aload_n 0, 1) := dk_42 (dk_at dksX0_lay_2 6 rfl rfl)
theorem dX0_lay_52 : decode cX0_lay 52 = .ok (.iconst 2, 1) := dk_5 (dk_at dksX0_lay_2 7 rfl rfl)
theorem dX0_lay_53 : decode cX0_lay 53 = .ok (.invokevirtual 76, 3) := dk_182 0 76 (dk_at dksX0_lay_2 8 rfl rfl)
theorem dX0_lay_56 : decode cX0_lay 56 = .ok (.ireturn, 1) := dk_172 (dk_at dksX0_lay_2 11 rfl rfl)
theorem dX0_lay_57 : decode cX0_lay 57 = .ok (.aload_n 0, 1) := dk_42 (dk_at dksX0_lay_2 12 rfl rfl)
theorem dX0_lay_58 : decode cX0_lay 58 = .ok (.getfield 21, 3) := dk_180 0 21 (dk_at dksX0_lay_2 13 rfl rfl)
theorem dX0_lay_61 : decode cX0_lay 61 = .ok (.iload_n 1, 1) := dk_27 (dk_at dksX0_lay_2 16 rfl rfl)
theorem dX0_lay_62 : decode cX0_lay 62 = .ok (.aaload, 1) := dk_50 (dk_at dksX0_lay_2 17 rfl rfl)
theorem dX0_lay_63 : decode cX0_lay 63 = .ok (.bipush 8, 2) := dk_16 8 (dk_at dksX0_lay_2 18 rfl rfl)
theorem dX0_lay_65 : decode cX0_lay 65 = .ok (.iload_n 2, 1) := dk_28 (dk_at dksX0_lay_2 20 rfl rfl)
theorem dX0_lay_66 : decode cX0_lay 66 = .ok (.imul, 1) := dk_104 (dk_at dksX0_lay_2 21 rfl rfl)
theorem dX0_lay_67 : decode cX0_lay 67 = .ok (.iload_n 3, 1) := dk_29 (dk_at dksX0_lay_2 22 rfl rfl)
theorem dX0_lay_68 : decode cX0_lay 68 = .ok (.iadd, 1) := dk_96 (dk_at dksX0_lay_2 23 rfl rfl)
theorem dX0_lay_69 : decode cX0_lay 69 = .ok (.iaload, 1) := dk_46 (dk_at dksX0_lay_3 0 rfl rfl)
theorem dX0_lay_70 : decode cX0_lay 70 = .ok (.istore 6, 2) := dk_54 6 (dk_at dksX0_lay_3 1 rfl rfl)
theorem dX0_lay_72 : decode cX0_lay 72 = .ok (.aload_n 0, 1) := dk_42 (dk_at dksX0_lay_3 3 rfl rfl)
theorem dX0_lay_73 : decode cX0_lay 73 = .ok (.getfield 21, 3) := dk_180 0 21 (dk_at dksX0_lay_3 4 rfl rfl)
theorem dX0_lay_76 : decode cX0_lay 76 = .ok (.iload_n 1, 1) := dk_27 (dk_at dksX0_lay_3 7 rfl rfl)
theorem dX0_lay_77 : decode cX0_lay 77 = .ok (.aaload, 1) := dk_50 (dk_at dksX0_lay_3 8 rfl rfl)
theorem dX0_lay_78 : decode cX0_lay 78 = .ok (.bipush 8, 2) := dk_16 8 (dk_at dksX0_lay_3 9 rfl rfl)
theorem dX0_lay_80 : decode cX0_lay 80 = .ok (.iload_n 2, 1) := dk_28 (dk_at dksX0_lay_3 11 rfl rfl)
theorem dX0_lay_81 : decode cX0_lay 81 = .ok (.imul, 1) := dk_104 (dk_at dksX0_lay_3 12 rfl rfl)
theorem dX0_lay_82 : decode cX0_lay 82 = .ok (.iload_n 3, 1) := dk_29 (dk_at dksX0_lay_3 13 rfl rfl)
theorem dX0_lay_83 : decode cX0_lay 83 = .ok (.iadd, 1) := dk_96 (dk_at dksX0_lay_3 14 rfl rfl)
theorem dX0_lay_84 : decode cX0_lay 84 = .ok (.iload 4, 2) := dk_21 4 (dk_at dksX0_lay_3 15 rfl rfl)
theorem dX0_lay_86 : decode cX0_lay 86 = .ok (.iastore, 1) := dk_79 (dk_at dksX0_lay_3 17 rfl rfl)
theorem dX0_lay_87 : decode cX0_lay 87 = .ok (.iload 6, 2) := dk_21 6 (dk_at dksX0_lay_3 18 rfl rfl)
theorem dX0_lay_89 : decode cX0_lay 89 = .ok (.ireturn, 1) := dk_172 (dk_at dksX0_lay_3 20 rfl rfl)
abbrev cX0_need : ByteArray := prog_1_method_8_code
def yX0_need : MethodName := ⟨RX0, "need", "(I)I"⟩
def dkwX0_need_1 : List UInt8 := [182, 0, 76, 167, 0, 4, 3, 172]
abbrev dktX0_need_1 : List UInt8 := dkwX0_need_1 ++ []
def dkwX0_need_0 : List UInt8 := [27, 184, 0, 72, 154, 0, 7, 2, 167, 0, 21, 42, 180, 0, 21, 27, 50, 199, 0, 11, 42, 4]
abbrev dktX0_need_0 : List UInt8 := dkwX0_need_0 ++ dktX0_need_1
theorem dksX0_need_0 : cX0_need.data.toList.drop 0 = dktX0_need_0 := by decide +kernel
theorem dksX0_need_1 : cX0_need.data.toList.drop 22 = dktX0_need_1 := dk_seg dksX0_need_0 22 rfl rfl
theorem dX0_need_0 : decode cX0_need 0 = .ok (.iload_n 1, 1) := dk_27 (dk_at dksX0_need_0 0 rfl rfl)
theorem dX0_need_1 : decode cX0_need 1 = .ok (.invokestatic 72, 3) := dk_184 0 72 (dk_at dksX0_need_0 1 rfl rfl)
theorem dX0_need_4 : decode cX0_need 4 = .ok (.ifCond .ne 7, 3) := dk_154 0 7 (dk_at dksX0_need_0 4 rfl rfl)
theorem dX0_need_7 : decode cX0_need 7 = .ok (.iconst (-1), 1) := dk_2 (dk_at dksX0_need_0 7 rfl rfl)
theorem dX0_need_8 : decode cX0_need 8 = .ok (.goto 21, 3) := dk_167 0 21 (dk_at dksX0_need_0 8 rfl rfl)
theorem dX0_need_11 : decode cX0_need 11 = .ok (.aload_n 0, 1) := dk_42 (dk_at dksX0_need_0 11 rfl rfl)
theorem dX0_need_12 : decode cX0_need 12 = .ok (.getfield 21, 3) := dk_180 0 21 (dk_at dksX0_need_0 12 rfl rfl)
theorem dX0_need_15 : decode cX0_need 15 = .ok (.iload_n 1, 1) := dk_27 (dk_at dksX0_need_0 15 rfl rfl)
theorem dX0_need_16 : decode cX0_need 16 = .ok (.aaload, 1) := dk_50 (dk_at dksX0_need_0 16 rfl rfl)
theorem dX0_need_17 : decode cX0_need 17 = .ok (.ifnonnull 11, 3) := dk_199 0 11 (dk_at dksX0_need_0 17 rfl rfl)
theorem dX0_need_20 : decode cX0_need 20 = .ok (.aload_n 0, 1) := dk_42 (dk_at dksX0_need_0 20 rfl rfl)
theorem dX0_need_21 : decode cX0_need 21 = .ok (.iconst 1, 1) := dk_4 (dk_at dksX0_need_0 21 rfl rfl)
theorem dX0_need_22 : decode cX0_need 22 = .ok (.invokevirtual 76, 3) := dk_182 0 76 (dk_at dksX0_need_1 0 rfl rfl)
theorem dX0_need_25 : decode cX0_need 25 = .ok (.goto 4, 3) := dk_167 0 4 (dk_at dksX0_need_1 3 rfl rfl)
theorem dX0_need_28 : decode cX0_need 28 = .ok (.iconst 0, 1) := dk_3 (dk_at dksX0_need_1 6 rfl rfl)
theorem dX0_need_29 : decode cX0_need 29 = .ok (.ireturn, 1) := dk_172 (dk_at dksX0_need_1 7 rfl rfl)
abbrev cX0_found : ByteArray := prog_1_method_2_code
def yX0_found : MethodName := ⟨RX0, "found", "(I)I"⟩
def dkwX0_found_0 : List UInt8 := [42, 27, 181, 0, 1, 42, 180, 0, 7, 27, 92, 46, 4, 96, 79, 16, 253, 172]
abbrev dktX0_found_0 : List UInt8 := dkwX0_found_0 ++ []
theorem dksX0_found_0 : cX0_found.data.toList.drop 0 = dktX0_found_0 := by decide +kernel
theorem dX0_found_0 : decode cX0_found 0 = .ok (.aload_n 0, 1) := dk_42 (dk_at dksX0_found_0 0 rfl rfl)
theorem dX0_found_1 : decode cX0_found 1 = .ok (.iload_n 1, 1) := dk_27 (dk_at dksX0_found_0 1 rfl rfl)
theorem dX0_found_2 : decode cX0_found 2 = .ok (.putfield 1, 3) := dk_181 0 1 (dk_at dksX0_found_0 2 rfl rfl)
theorem dX0_found_5 : decode cX0_found 5 = .ok (.aload_n 0, 1) := dk_42 (dk_at dksX0_found_0 5 rfl rfl)
theorem dX0_found_6 : decode cX0_found 6 = .ok (.getfield 7, 3) := dk_180 0 7 (dk_at dksX0_found_0 6 rfl rfl)
theorem dX0_found_9 : decode cX0_found 9 = .ok (.iload_n 1, 1) := dk_27 (dk_at dksX0_found_0 9 rfl rfl)
theorem dX0_found_10 : decode cX0_found 10 = .ok (.dup2, 1) := dk_92 (dk_at dksX0_found_0 10 rfl rfl)
theorem dX0_found_11 : decode cX0_found 11 = .ok (.iaload, 1) := dk_46 (dk_at dksX0_found_0 11 rfl rfl)
theorem dX0_found_12 : decode cX0_found 12 = .ok (.iconst 1, 1) := dk_4 (dk_at dksX0_found_0 12 rfl rfl)
theorem dX0_found_13 : decode cX0_found 13 = .ok (.iadd, 1) := dk_96 (dk_at dksX0_found_0 13 rfl rfl)
theorem dX0_found_14 : decode cX0_found 14 = .ok (.iastore, 1) := dk_79 (dk_at dksX0_found_0 14 rfl rfl)
theorem dX0_found_15 : decode cX0_found 15 = .ok (.bipush (-3), 2) := dk_16 253 (dk_at dksX0_found_0 15 rfl rfl)
theorem dX0_found_17 : decode cX0_found 17 = .ok (.ireturn, 1) := dk_172 (dk_at dksX0_found_0 17 rfl rfl)
abbrev cX0_isPlace : ByteArray := prog_1_method_7_code
def yX0_isPlace : MethodName := ⟨RX0, "isPlace", "(II)Z"⟩
def dkwX0_isPlace_1 : List UInt8 := [3, 172]
abbrev dktX0_isPlace_1 : List UInt8 := dkwX0_isPlace_1 ++ []
def dkwX0_isPlace_0 : List UInt8 := [26, 3, 16, 11, 184, 0, 68, 153, 0, 17, 27, 3, 16, 7, 184, 0, 68, 153, 0, 7, 4, 167, 0, 4]
abbrev dktX0_isPlace_0 : List UInt8 := dkwX0_isPlace_0 ++ dktX0_isPlace_1
theorem dksX0_isPlace_0 : cX0_isPlace.data.toList.drop 0 = dktX0_isPlace_0 := by decide +kernel
theorem dksX0_isPlace_1 : cX0_isPlace.data.toList.drop 24 = dktX0_isPlace_1 := dk_seg dksX0_isPlace_0 24 rfl rfl
theorem dX0_isPlace_0 : decode cX0_isPlace 0 = .ok (.iload_n 0, 1) := dk_26 (dk_at dksX0_isPlace_0 0 rfl rfl)
theorem dX0_isPlace_1 : decode cX0_isPlace 1 = .ok (.iconst 0, 1) := dk_3 (dk_at dksX0_isPlace_0 1 rfl rfl)
theorem dX0_isPlace_2 : decode cX0_isPlace 2 = .ok (.bipush 11, 2) := dk_16 11 (dk_at dksX0_isPlace_0 2 rfl rfl)
theorem dX0_isPlace_4 : decode cX0_isPlace 4 = .ok (.invokestatic 68, 3) := dk_184 0 68 (dk_at dksX0_isPlace_0 4 rfl rfl)
theorem dX0_isPlace_7 : decode cX0_isPlace 7 = .ok (.ifCond .eq 17, 3) := dk_153 0 17 (dk_at dksX0_isPlace_0 7 rfl rfl)
theorem dX0_isPlace_10 : decode cX0_isPlace 10 = .ok (.iload_n 1, 1) := dk_27 (dk_at dksX0_isPlace_0 10 rfl rfl)
theorem dX0_isPlace_11 : decode cX0_isPlace 11 = .ok (.iconst 0, 1) := dk_3 (dk_at dksX0_isPlace_0 11 rfl rfl)
theorem dX0_isPlace_12 : decode cX0_isPlace 12 = .ok (.bipush 7, 2) := dk_16 7 (dk_at dksX0_isPlace_0 12 rfl rfl)
theorem dX0_isPlace_14 : decode cX0_isPlace 14 = .ok (.invokestatic 68, 3) := dk_184 0 68 (dk_at dksX0_isPlace_0 14 rfl rfl)
theorem dX0_isPlace_17 : decode cX0_isPlace 17 = .ok (.ifCond .eq 7, 3) := dk_153 0 7 (dk_at dksX0_isPlace_0 17 rfl rfl)
theorem dX0_isPlace_20 : decode cX0_isPlace 20 = .ok (.iconst 1, 1) := dk_4 (dk_at dksX0_isPlace_0 20 rfl rfl)
theorem dX0_isPlace_21 : decode cX0_isPlace 21 = .ok (.goto 4, 3) := dk_167 0 4 (dk_at dksX0_isPlace_0 21 rfl rfl)
theorem dX0_isPlace_24 : decode cX0_isPlace 24 = .ok (.iconst 0, 1) := dk_3 (dk_at dksX0_isPlace_1 0 rfl rfl)
theorem dX0_isPlace_25 : decode cX0_isPlace 25 = .ok (.ireturn, 1) := dk_172 (dk_at dksX0_isPlace_1 1 rfl rfl)
abbrev cX0_at : ByteArray := prog_1_method_14_code
def yX0_at : MethodName := ⟨RX0, "at", "(IIIZZ)I"⟩
def dkwX0_at_3 : List UInt8 := [16, 8, 28, 104, 29, 96, 46, 172]
abbrev dktX0_at_3 : List UInt8 := dkwX0_at_3 ++ []
def dkwX0_at_2 : List UInt8 := [182, 0, 107, 167, 0, 27, 21, 4, 153, 0, 13, 25, 7, 28, 29, 184, 0, 97, 167, 0, 12, 25, 7]
abbrev dktX0_at_2 : List UInt8 := dkwX0_at_2 ++ dktX0_at_3
def dkwX0_at_1 : List UInt8 := [5, 182, 0, 76, 172, 42, 180, 0, 21, 27, 50, 58, 7, 21, 5, 153, 0, 14, 42, 25, 7, 28, 29]
abbrev dktX0_at_1 : List UInt8 := dkwX0_at_1 ++ dktX0_at_2
def dkwX0_at_0 : List UInt8 := [42, 27, 182, 0, 80, 54, 6, 21, 6, 156, 0, 6, 21, 6, 172, 28, 29, 184, 0, 83, 154, 0, 9, 42]
abbrev dktX0_at_0 : List UInt8 := dkwX0_at_0 ++ dktX0_at_1
theorem dksX0_at_0 : cX0_at.data.toList.drop 0 = dktX0_at_0 := by decide +kernel
theorem dksX0_at_1 : cX0_at.data.toList.drop 24 = dktX0_at_1 := dk_seg dksX0_at_0 24 rfl rfl
theorem dksX0_at_2 : cX0_at.data.toList.drop 47 = dktX0_at_2 := dk_seg dksX0_at_1 23 rfl rfl
theorem dksX0_at_3 : cX0_at.data.toList.drop 70 = dktX0_at_3 := dk_seg dksX0_at_2 23 rfl rfl
theorem dX0_at_0 : decode cX0_at 0 = .ok (.aload_n 0, 1) := dk_42 (dk_at dksX0_at_0 0 rfl rfl)
theorem dX0_at_1 : decode cX0_at 1 = .ok (.iload_n 1, 1) := dk_27 (dk_at dksX0_at_0 1 rfl rfl)
theorem dX0_at_2 : decode cX0_at 2 = .ok (.invokevirtual 80, 3) := dk_182 0 80 (dk_at dksX0_at_0 2 rfl rfl)
theorem dX0_at_5 : decode cX0_at 5 = .ok (.istore 6, 2) := dk_54 6 (dk_at dksX0_at_0 5 rfl rfl)
theorem dX0_at_7 : decode cX0_at 7 = .ok (.iload 6, 2) := dk_21 6 (dk_at dksX0_at_0 7 rfl rfl)
theorem dX0_at_9 : decode cX0_at 9 = .ok (.ifCond .ge 6, 3) := dk_156 0 6 (dk_at dksX0_at_0 9 rfl rfl)
theorem dX0_at_12 : decode cX0_at 12 = .ok (.iload 6, 2) := dk_21 6 (dk_at dksX0_at_0 12 rfl rfl)
theorem dX0_at_14 : decode cX0_at 14 = .ok (.ireturn, 1) := dk_172 (dk_at dksX0_at_0 14 rfl rfl)
theorem dX0_at_15 : decode cX0_at 15 = .ok (.iload_n 2, 1) := dk_28 (dk_at dksX0_at_0 15 rfl rfl)
theorem dX0_at_16 : decode cX0_at 16 = .ok (.iload_n 3, 1) := dk_29 (dk_at dksX0_at_0 16 rfl rfl)
theorem dX0_at_17 : decode cX0_at 17 = .ok (.invokestatic 83, 3) := dk_184 0 83 (dk_at dksX0_at_0 17 rfl rfl)
theorem dX0_at_20 : decode cX0_at 20 = .ok (.ifCond .ne 9, 3) := dk_154 0 9 (dk_at dksX0_at_0 20 rfl rfl)
theorem dX0_at_23 : decode cX0_at 23 = .ok (.aload_n 0, 1) := dk_42 (dk_at dksX0_at_0 23 rfl rfl)
theorem dX0_at_24 : decode cX0_at 24 = .ok (.iconst 2, 1) := dk_5 (dk_at dksX0_at_1 0 rfl rfl)
theorem dX0_at_25 : decode cX0_at 25 = .ok (.invokevirtual 76, 3) := dk_182 0 76 (dk_at dksX0_at_1 1 rfl rfl)
theorem dX0_at_28 : decode cX0_at 28 = .ok (.ireturn, 1) := dk_172 (dk_at dksX0_at_1 4 rfl rfl)
theorem dX0_at_29 : decode cX0_at 29 = .ok (.aload_n 0, 1) := dk_42 (dk_at dksX0_at_1 5 rfl rfl)
theorem dX0_at_30 : decode cX0_at 30 = .ok (.getfield 21, 3) := dk_180 0 21 (dk_at dksX0_at_1 6 rfl rfl)
theorem dX0_at_33 : decode cX0_at 33 = .ok (.iload_n 1, 1) := dk_27 (dk_at dksX0_at_1 9 rfl rfl)
theorem dX0_at_34 : decode cX0_at 34 = .ok (.aaload, 1) := dk_50 (dk_at dksX0_at_1 10 rfl rfl)
theorem dX0_at_35 : decode cX0_at 35 = .ok (.astore 7, 2) := dk_58 7 (dk_at dksX0_at_1 11 rfl rfl)
theorem dX0_at_37 : decode cX0_at 37 = .ok (.iload 5, 2) := dk_21 5 (dk_at dksX0_at_1 13 rfl rfl)
theorem dX0_at_39 : decode cX0_at 39 = .ok (.ifCond .eq 14, 3) := dk_153 0 14 (dk_at dksX0_at_1 15 rfl rfl)
theorem dX0_at_42 : decode cX0_at 42 = .ok (.aload_n 0, 1) := dk_42 (dk_at dksX0_at_1 18 rfl rfl)
theorem dX0_at_43 : decode cX0_at 43 = .ok (.aload 7, 2) := dk_25 7 (dk_at dksX0_at_1 19 rfl rfl)
theorem dX0_at_45 : decode cX0_at 45 = .ok (.iload_n 2, 1) := dk_28 (dk_at dksX0_at_1 21 rfl rfl)
theorem dX0_at_46 : decode cX0_at 46 = .ok (.iload_n 3, 1) := dk_29 (dk_at dksX0_at_1 22 rfl rfl)
theorem dX0_at_47 : decode cX0_at 47 = .ok (.invokevirtual 107, 3) := dk_182 0 107 (dk_at dksX0_at_2 0 rfl rfl)
theorem dX0_at_50 : decode cX0_at 50 = .ok (.goto 27, 3) := dk_167 0 27 (dk_at dksX0_at_2 3 rfl rfl)
theorem dX0_at_53 : decode cX0_at 53 = .ok (.iload 4, 2) := dk_21 4 (dk_at dksX0_at_2 6 rfl rfl)
theorem dX0_at_55 : decode cX0_at 55 = .ok (.ifCond .eq 13, 3) := dk_153 0 13 (dk_at dksX0_at_2 8 rfl rfl)
theorem dX0_at_58 : decode cX0_at 58 = .ok (.aload 7, 2) := dk_25 7 (dk_at dksX0_at_2 11 rfl rfl)
theorem dX0_at_60 : decode cX0_at 60 = .ok (.iload_n 2, 1) := dk_28 (dk_at dksX0_at_2 13 rfl rfl)
theorem dX0_at_61 : decode cX0_at 61 = .ok (.iload_n 3, 1) := dk_29 (dk_at dksX0_at_2 14 rfl rfl)
theorem dX0_at_62 : decode cX0_at 62 = .ok (.invokestatic 97, 3) := dk_184 0 97 (dk_at dksX0_at_2 15 rfl rfl)
theorem dX0_at_65 : decode cX0_at 65 = .ok (.goto 12, 3) := dk_167 0 12 (dk_at dksX0_at_2 18 rfl rfl)
theorem dX0_at_68 : decode cX0_at 68 = .ok (.aload 7, 2) := dk_25 7 (dk_at dksX0_at_2 21 rfl rfl)
theorem dX0_at_70 : decode cX0_at 70 = .ok (.bipush 8, 2) := dk_16 8 (dk_at dksX0_at_3 0 rfl rfl)
theorem dX0_at_72 : decode cX0_at 72 = .ok (.iload_n 2, 1) := dk_28 (dk_at dksX0_at_3 2 rfl rfl)
theorem dX0_at_73 : decode cX0_at 73 = .ok (.imul, 1) := dk_104 (dk_at dksX0_at_3 3 rfl rfl)
theorem dX0_at_74 : decode cX0_at 74 = .ok (.iload_n 3, 1) := dk_29 (dk_at dksX0_at_3 4 rfl rfl)
theorem dX0_at_75 : decode cX0_at 75 = .ok (.iadd, 1) := dk_96 (dk_at dksX0_at_3 5 rfl rfl)
theorem dX0_at_76 : decode cX0_at 76 = .ok (.iaload, 1) := dk_46 (dk_at dksX0_at_3 6 rfl rfl)
theorem dX0_at_77 : decode cX0_at 77 = .ok (.ireturn, 1) := dk_172 (dk_at dksX0_at_3 7 rfl rfl)
abbrev cX0_shaped : ByteArray := prog_1_method_13_code
def yX0_shaped : MethodName := ⟨RX0, "shaped", "([III)I"⟩
def dkwX0_shaped_4 : List UInt8 := [132, 5, 1, 167, 255, 180, 3, 21, 4, 184, 0, 104, 172]
abbrev dktX0_shaped_4 : List UInt8 := dkwX0_shaped_4 ++ []
def dkwX0_shaped_3 : List UInt8 := [54, 6, 21, 4, 21, 6, 153, 0, 13, 42, 180, 0, 34, 21, 5, 46, 167, 0, 4, 3, 96, 54, 4]
abbrev dktX0_shaped_3 : List UInt8 := dkwX0_shaped_3 ++ dktX0_shaped_4
def dkwX0_shaped_2 : List UInt8 := [153, 0, 22, 42, 180, 0, 31, 21, 5, 46, 29, 122, 4, 126, 4, 160, 0, 7, 4, 167, 0, 4, 3]
abbrev dktX0_shaped_2 : List UInt8 := dkwX0_shaped_2 ++ dktX0_shaped_3
def dkwX0_shaped_1 : List UInt8 := [180, 0, 101, 162, 0, 73, 28, 42, 180, 0, 25, 21, 5, 46, 42, 180, 0, 28, 21, 5, 46, 184, 0, 68]
abbrev dktX0_shaped_1 : List UInt8 := dkwX0_shaped_1 ++ dktX0_shaped_2
def dkwX0_shaped_0 : List UInt8 := [43, 28, 29, 184, 0, 97, 54, 4, 21, 4, 16, 247, 160, 0, 6, 16, 247, 172, 3, 54, 5, 21, 5, 42]
abbrev dktX0_shaped_0 : List UInt8 := dkwX0_shaped_0 ++ dktX0_shaped_1
theorem dksX0_shaped_0 : cX0_shaped.data.toList.drop 0 = dktX0_shaped_0 := by decide +kernel
theorem dksX0_shaped_1 : cX0_shaped.data.toList.drop 24 = dktX0_shaped_1 := dk_seg dksX0_shaped_0 24 rfl rfl
theorem dksX0_shaped_2 : cX0_shaped.data.toList.drop 48 = dktX0_shaped_2 := dk_seg dksX0_shaped_1 24 rfl rfl
theorem dksX0_shaped_3 : cX0_shaped.data.toList.drop 71 = dktX0_shaped_3 := dk_seg dksX0_shaped_2 23 rfl rfl
theorem dksX0_shaped_4 : cX0_shaped.data.toList.drop 94 = dktX0_shaped_4 := dk_seg dksX0_shaped_3 23 rfl rfl
theorem dX0_shaped_0 : decode cX0_shaped 0 = .ok (.aload_n 1, 1) := dk_43 (dk_at dksX0_shaped_0 0 rfl rfl)
theorem dX0_shaped_1 : decode cX0_shaped 1 = .ok (.iload_n 2, 1) := dk_28 (dk_at dksX0_shaped_0 1 rfl rfl)
theorem dX0_shaped_2 : decode cX0_shaped 2 = .ok (.iload_n 3, 1) := dk_29 (dk_at dksX0_shaped_0 2 rfl rfl)
theorem dX0_shaped_3 : decode cX0_shaped 3 = .ok (.invokestatic 97, 3) := dk_184 0 97 (dk_at dksX0_shaped_0 3 rfl rfl)
theorem dX0_shaped_6 : decode cX0_shaped 6 = .ok (.istore 4, 2) := dk_54 4 (dk_at dksX0_shaped_0 6 rfl rfl)
theorem dX0_shaped_8 : decode cX0_shaped 8 = .ok (.iload 4, 2) := dk_21 4 (dk_at dksX0_shaped_0 8 rfl rfl)
theorem dX0_shaped_10 : decode cX0_shaped 10 = .ok (.bipush (-9), 2) := dk_16 247 (dk_at dksX0_shaped_0 10 rfl rfl)
theorem dX0_shaped_12 : decode cX0_shaped 12 = .ok (.if_icmp .ne 6, 3) := dk_160 0 6 (dk_at dksX0_shaped_0 12 rfl rfl)
theorem dX0_shaped_15 : decode cX0_shaped 15 = .ok (.bipush (-9), 2) := dk_16 247 (dk_at dksX0_shaped_0 15 rfl rfl)
theorem dX0_shaped_17 : decode cX0_shaped 17 = .ok (.ireturn, 1) := dk_172 (dk_at dksX0_shaped_0 17 rfl rfl)
theorem dX0_shaped_18 : decode cX0_shaped 18 = .ok (.iconst 0, 1) := dk_3 (dk_at dksX0_shaped_0 18 rfl rfl)
theorem dX0_shaped_19 : decode cX0_shaped 19 = .ok (.istore 5, 2) := dk_54 5 (dk_at dksX0_shaped_0 19 rfl rfl)
theorem dX0_shaped_21 : decode cX0_shaped 21 = .ok (.iload 5, 2) := dk_21 5 (dk_at dksX0_shaped_0 21 rfl rfl)
theorem dX0_shaped_23 : decode cX0_shaped 23 = .ok (.aload_n 0, 1) := dk_42 (dk_at dksX0_shaped_0 23 rfl rfl)
theorem dX0_shaped_24 : decode cX0_shaped 24 = .ok (.getfield 101, 3) := dk_180 0 101 (dk_at dksX0_shaped_1 0 rfl rfl)
theorem dX0_shaped_27 : decode cX0_shaped 27 = .ok (.if_icmp .ge 73, 3) := dk_162 0 73 (dk_at dksX0_shaped_1 3 rfl rfl)
theorem dX0_shaped_30 : decode cX0_shaped 30 = .ok (.iload_n 2, 1) := dk_28 (dk_at dksX0_shaped_1 6 rfl rfl)
theorem dX0_shaped_31 : decode cX0_shaped 31 = .ok (.aload_n 0, 1) := dk_42 (dk_at dksX0_shaped_1 7 rfl rfl)
theorem dX0_shaped_32 : decode cX0_shaped 32 = .ok (.getfield 25, 3) := dk_180 0 25 (dk_at dksX0_shaped_1 8 rfl rfl)
theorem dX0_shaped_35 : decode cX0_shaped 35 = .ok (.iload 5, 2) := dk_21 5 (dk_at dksX0_shaped_1 11 rfl rfl)
theorem dX0_shaped_37 : decode cX0_shaped 37 = .ok (.iaload, 1) := dk_46 (dk_at dksX0_shaped_1 13 rfl rfl)
theorem dX0_shaped_38 : decode cX0_shaped 38 = .ok (.aload_n 0, 1) := dk_42 (dk_at dksX0_shaped_1 14 rfl rfl)
theorem dX0_shaped_39 : decode cX0_shaped 39 = .ok (.getfield 28, 3) := dk_180 0 28 (dk_at dksX0_shaped_1 15 rfl rfl)
theorem dX0_shaped_42 : decode cX0_shaped 42 = .ok (.iload 5, 2) := dk_21 5 (dk_at dksX0_shaped_1 18 rfl rfl)
theorem dX0_shaped_44 : decode cX0_shaped 44 = .ok (.iaload, 1) := dk_46 (dk_at dksX0_shaped_1 20 rfl rfl)
theorem dX0_shaped_45 : decode cX0_shaped 45 = .ok (.invokestatic 68, 3) := dk_184 0 68 (dk_at dksX0_shaped_1 21 rfl rfl)
theorem dX0_shaped_48 : decode cX0_shaped 48 = .ok (.ifCond .eq 22, 3) := dk_153 0 22 (dk_at dksX0_shaped_2 0 rfl rfl)
theorem dX0_shaped_51 : decode cX0_shaped 51 = .ok (.aload_n 0, 1) := dk_42 (dk_at dksX0_shaped_2 3 rfl rfl)
theorem dX0_shaped_52 : decode cX0_shaped 52 = .ok (.getfield 31, 3) := dk_180 0 31 (dk_at dksX0_shaped_2 4 rfl rfl)
theorem dX0_shaped_55 : decode cX0_shaped 55 = .ok (.iload 5, 2) := dk_21 5 (dk_at dksX0_shaped_2 7 rfl rfl)
theorem dX0_shaped_57 : decode cX0_shaped 57 = .ok (.iaload, 1) := dk_46 (dk_at dksX0_shaped_2 9 rfl rfl)
theorem dX0_shaped_58 : decode cX0_shaped 58 = .ok (.iload_n 3, 1) := dk_29 (dk_at dksX0_shaped_2 10 rfl rfl)
theorem dX0_shaped_59 : decode cX0_shaped 59 = .ok (.ishr, 1) := dk_122 (dk_at dksX0_shaped_2 11 rfl rfl)
theorem dX0_shaped_60 : decode cX0_shaped 60 = .ok (.iconst 1, 1) := dk_4 (dk_at dksX0_shaped_2 12 rfl rfl)
theorem dX0_shaped_61 : decode cX0_shaped 61 = .ok (.iand, 1) := dk_126 (dk_at dksX0_shaped_2 13 rfl rfl)
theorem dX0_shaped_62 : decode cX0_shaped 62 = .ok (.iconst 1, 1) := dk_4 (dk_at dksX0_shaped_2 14 rfl rfl)
theorem dX0_shaped_63 : decode cX0_shaped 63 = .ok (.if_icmp .ne 7, 3) := dk_160 0 7 (dk_at dksX0_shaped_2 15 rfl rfl)
theorem dX0_shaped_66 : decode cX0_shaped 66 = .ok (.iconst 1, 1) := dk_4 (dk_at dksX0_shaped_2 18 rfl rfl)
theorem dX0_shaped_67 : decode cX0_shaped 67 = .ok (.goto 4, 3) := dk_167 0 4 (dk_at dksX0_shaped_2 19 rfl rfl)
theorem dX0_shaped_70 : decode cX0_shaped 70 = .ok (.iconst 0, 1) := dk_3 (dk_at dksX0_shaped_2 22 rfl rfl)
theorem dX0_shaped_71 : decode cX0_shaped 71 = .ok (.istore 6, 2) := dk_54 6 (dk_at dksX0_shaped_3 0 rfl rfl)
theorem dX0_shaped_73 : decode cX0_shaped 73 = .ok (.iload 4, 2) := dk_21 4 (dk_at dksX0_shaped_3 2 rfl rfl)
theorem dX0_shaped_75 : decode cX0_shaped 75 = .ok (.iload 6, 2) := dk_21 6 (dk_at dksX0_shaped_3 4 rfl rfl)
theorem dX0_shaped_77 : decode cX0_shaped 77 = .ok (.ifCond .eq 13, 3) := dk_153 0 13 (dk_at dksX0_shaped_3 6 rfl rfl)
theorem dX0_shaped_80 : decode cX0_shaped 80 = .ok (.aload_n 0, 1) := dk_42 (dk_at dksX0_shaped_3 9 rfl rfl)
theorem dX0_shaped_81 : decode cX0_shaped 81 = .ok (.getfield 34, 3) := dk_180 0 34 (dk_at dksX0_shaped_3 10 rfl rfl)
theorem dX0_shaped_84 : decode cX0_shaped 84 = .ok (.iload 5, 2) := dk_21 5 (dk_at dksX0_shaped_3 13 rfl rfl)
theorem dX0_shaped_86 : decode cX0_shaped 86 = .ok (.iaload, 1) := dk_46 (dk_at dksX0_shaped_3 15 rfl rfl)
theorem dX0_shaped_87 : decode cX0_shaped 87 = .ok (.goto 4, 3) := dk_167 0 4 (dk_at dksX0_shaped_3 16 rfl rfl)
theorem dX0_shaped_90 : decode cX0_shaped 90 = .ok (.iconst 0, 1) := dk_3 (dk_at dksX0_shaped_3 19 rfl rfl)
theorem dX0_shaped_91 : decode cX0_shaped 91 = .ok (.iadd, 1) := dk_96 (dk_at dksX0_shaped_3 20 rfl rfl)
theorem dX0_shaped_92 : decode cX0_shaped 92 = .ok (.istore 4, 2) := dk_54 4 (dk_at dksX0_shaped_3 21 rfl rfl)
theorem dX0_shaped_94 : decode cX0_shaped 94 = .ok (.iinc 5 1, 3) := dk_132 5 1 (dk_at dksX0_shaped_4 0 rfl rfl)
theorem dX0_shaped_97 : decode cX0_shaped 97 = .ok (.goto (-76), 3) := dk_167 255 180 (dk_at dksX0_shaped_4 3 rfl rfl)
theorem dX0_shaped_100 : decode cX0_shaped 100 = .ok (.iconst 0, 1) := dk_3 (dk_at dksX0_shaped_4 6 rfl rfl)
theorem dX0_shaped_101 : decode cX0_shaped 101 = .ok (.iload 4, 2) := dk_21 4 (dk_at dksX0_shaped_4 7 rfl rfl)
theorem dX0_shaped_103 : decode cX0_shaped 103 = .ok (.invokestatic 104, 3) := dk_184 0 104 (dk_at dksX0_shaped_4 9 rfl rfl)
theorem dX0_shaped_106 : decode cX0_shaped 106 = .ok (.ireturn, 1) := dk_172 (dk_at dksX0_shaped_4 12 rfl rfl)
abbrev cX0_filled : ByteArray := prog_1_method_12_code
def yX0_filled : MethodName := ⟨RX0, "filled", "([III)I"⟩
def dkwX0_filled_3 : List UInt8 := [21, 5, 21, 4, 104, 21, 6, 29, 104, 96, 29, 21, 4, 96, 108, 172]
abbrev dktX0_filled_3 : List UInt8 := dkwX0_filled_3 ++ []
def dkwX0_filled_2 : List UInt8 := [184, 0, 87, 96, 46, 54, 5, 42, 16, 8, 27, 104, 28, 21, 4, 96, 16, 8, 112, 96, 46, 54, 6]
abbrev dktX0_filled_2 : List UInt8 := dkwX0_filled_2 ++ dktX0_filled_3
def dkwX0_filled_1 : List UInt8 := [96, 46, 172, 42, 27, 28, 4, 184, 0, 93, 54, 4, 42, 16, 8, 27, 104, 28, 29, 100, 16, 8]
abbrev dktX0_filled_1 : List UInt8 := dkwX0_filled_1 ++ dktX0_filled_2
def dkwX0_filled_0 : List UInt8 := [42, 27, 28, 2, 184, 0, 93, 62, 29, 16, 247, 159, 0, 7, 29, 154, 0, 12, 42, 16, 8, 27, 104, 28]
abbrev dktX0_filled_0 : List UInt8 := dkwX0_filled_0 ++ dktX0_filled_1
theorem dksX0_filled_0 : cX0_filled.data.toList.drop 0 = dktX0_filled_0 := by decide +kernel
theorem dksX0_filled_1 : cX0_filled.data.toList.drop 24 = dktX0_filled_1 := dk_seg dksX0_filled_0 24 rfl rfl
theorem dksX0_filled_2 : cX0_filled.data.toList.drop 46 = dktX0_filled_2 := dk_seg dksX0_filled_1 22 rfl rfl
theorem dksX0_filled_3 : cX0_filled.data.toList.drop 69 = dktX0_filled_3 := dk_seg dksX0_filled_2 23 rfl rfl
theorem dX0_filled_0 : decode cX0_filled 0 = .ok (.aload_n 0, 1) := dk_42 (dk_at dksX0_filled_0 0 rfl rfl)
theorem dX0_filled_1 : decode cX0_filled 1 = .ok (.iload_n 1, 1) := dk_27 (dk_at dksX0_filled_0 1 rfl rfl)
theorem dX0_filled_2 : decode cX0_filled 2 = .ok (.iload_n 2, 1) := dk_28 (dk_at dksX0_filled_0 2 rfl rfl)
theorem dX0_filled_3 : decode cX0_filled 3 = .ok (.iconst (-1), 1) := dk_2 (dk_at dksX0_filled_0 3 rfl rfl)
theorem dX0_filled_4 : decode cX0_filled 4 = .ok (.invokestatic 93, 3) := dk_184 0 93 (dk_at dksX0_filled_0 4 rfl rfl)
theorem dX0_filled_7 : decode cX0_filled 7 = .ok (.istore_n 3, 1) := dk_62 (dk_at dksX0_filled_0 7 rfl rfl)
theorem dX0_filled_8 : decode cX0_filled 8 = .ok (.iload_n 3, 1) := dk_29 (dk_at dksX0_filled_0 8 rfl rfl)
theorem dX0_filled_9 : decode cX0_filled 9 = .ok (.bipush (-9), 2) := dk_16 247 (dk_at dksX0_filled_0 9 rfl rfl)
theorem dX0_filled_11 : decode cX0_filled 11 = .ok (.if_icmp .eq 7, 3) := dk_159 0 7 (dk_at dksX0_filled_0 11 rfl rfl)
theorem dX0_filled_14 : decode cX0_filled 14 = .ok (.iload_n 3, 1) := dk_29 (dk_at dksX0_filled_0 14 rfl rfl)
theorem dX0_filled_15 : decode cX0_filled 15 = .ok (.ifCond .ne 12, 3) := dk_154 0 12 (dk_at dksX0_filled_0 15 rfl rfl)
theorem dX0_filled_18 : decode cX0_filled 18 = .ok (.aload_n 0, 1) := dk_42 (dk_at dksX0_filled_0 18 rfl rfl)
theorem dX0_filled_19 : decode cX0_filled 19 = .ok (.bipush 8, 2) := dk_16 8 (dk_at dksX0_filled_0 19 rfl rfl)
theorem dX0_filled_21 : decode cX0_filled 21 = .ok (.iload_n 1, 1) := dk_27 (dk_at dksX0_filled_0 21 rfl rfl)
theorem dX0_filled_22 : decode cX0_filled 22 = .ok (.imul, 1) := dk_104 (dk_at dksX0_filled_0 22 rfl rfl)
theorem dX0_filled_23 : decode cX0_filled 23 = .ok (.iload_n 2, 1) := dk_28 (dk_at dksX0_filled_0 23 rfl rfl)
theorem dX0_filled_24 : decode cX0_filled 24 = .ok (.iadd, 1) := dk_96 (dk_at dksX0_filled_1 0 rfl rfl)
theorem dX0_filled_25 : decode cX0_filled 25 = .ok (.iaload, 1) := dk_46 (dk_at dksX0_filled_1 1 rfl rfl)
theorem dX0_filled_26 : decode cX0_filled 26 = .ok (.ireturn, 1) := dk_172 (dk_at dksX0_filled_1 2 rfl rfl)
theorem dX0_filled_27 : decode cX0_filled 27 = .ok (.aload_n 0, 1) := dk_42 (dk_at dksX0_filled_1 3 rfl rfl)
theorem dX0_filled_28 : decode cX0_filled 28 = .ok (.iload_n 1, 1) := dk_27 (dk_at dksX0_filled_1 4 rfl rfl)
theorem dX0_filled_29 : decode cX0_filled 29 = .ok (.iload_n 2, 1) := dk_28 (dk_at dksX0_filled_1 5 rfl rfl)
theorem dX0_filled_30 : decode cX0_filled 30 = .ok (.iconst 1, 1) := dk_4 (dk_at dksX0_filled_1 6 rfl rfl)
theorem dX0_filled_31 : decode cX0_filled 31 = .ok (.invokestatic 93, 3) := dk_184 0 93 (dk_at dksX0_filled_1 7 rfl rfl)
theorem dX0_filled_34 : decode cX0_filled 34 = .ok (.istore 4, 2) := dk_54 4 (dk_at dksX0_filled_1 10 rfl rfl)
theorem dX0_filled_36 : decode cX0_filled 36 = .ok (.aload_n 0, 1) := dk_42 (dk_at dksX0_filled_1 12 rfl rfl)
theorem dX0_filled_37 : decode cX0_filled 37 = .ok (.bipush 8, 2) := dk_16 8 (dk_at dksX0_filled_1 13 rfl rfl)
theorem dX0_filled_39 : decode cX0_filled 39 = .ok (.iload_n 1, 1) := dk_27 (dk_at dksX0_filled_1 15 rfl rfl)
theorem dX0_filled_40 : decode cX0_filled 40 = .ok (.imul, 1) := dk_104 (dk_at dksX0_filled_1 16 rfl rfl)
theorem dX0_filled_41 : decode cX0_filled 41 = .ok (.iload_n 2, 1) := dk_28 (dk_at dksX0_filled_1 17 rfl rfl)
theorem dX0_filled_42 : decode cX0_filled 42 = .ok (.iload_n 3, 1) := dk_29 (dk_at dksX0_filled_1 18 rfl rfl)
theorem dX0_filled_43 : decode cX0_filled 43 = .ok (.isub, 1) := dk_100 (dk_at dksX0_filled_1 19 rfl rfl)
theorem dX0_filled_44 : decode cX0_filled 44 = .ok (.bipush 8, 2) := dk_16 8 (dk_at dksX0_filled_1 20 rfl rfl)
theorem dX0_filled_46 : decode cX0_filled 46 = .ok (.invokestatic 87, 3) := dk_184 0 87 (dk_at dksX0_filled_2 0 rfl rfl)
theorem dX0_filled_49 : decode cX0_filled 49 = .ok (.iadd, 1) := dk_96 (dk_at dksX0_filled_2 3 rfl rfl)
theorem dX0_filled_50 : decode cX0_filled 50 = .ok (.iaload, 1) := dk_46 (dk_at dksX0_filled_2 4 rfl rfl)
theorem dX0_filled_51 : decode cX0_filled 51 = .ok (.istore 5, 2) := dk_54 5 (dk_at dksX0_filled_2 5 rfl rfl)
theorem dX0_filled_53 : decode cX0_filled 53 = .ok (.aload_n 0, 1) := dk_42 (dk_at dksX0_filled_2 7 rfl rfl)
theorem dX0_filled_54 : decode cX0_filled 54 = .ok (.bipush 8, 2) := dk_16 8 (dk_at dksX0_filled_2 8 rfl rfl)
theorem dX0_filled_56 : decode cX0_filled 56 = .ok (.iload_n 1, 1) := dk_27 (dk_at dksX0_filled_2 10 rfl rfl)
theorem dX0_filled_57 : decode cX0_filled 57 = .ok (.imul, 1) := dk_104 (dk_at dksX0_filled_2 11 rfl rfl)
theorem dX0_filled_58 : decode cX0_filled 58 = .ok (.iload_n 2, 1) := dk_28 (dk_at dksX0_filled_2 12 rfl rfl)
theorem dX0_filled_59 : decode cX0_filled 59 = .ok (.iload 4, 2) := dk_21 4 (dk_at dksX0_filled_2 13 rfl rfl)
theorem dX0_filled_61 : decode cX0_filled 61 = .ok (.iadd, 1) := dk_96 (dk_at dksX0_filled_2 15 rfl rfl)
theorem dX0_filled_62 : decode cX0_filled 62 = .ok (.bipush 8, 2) := dk_16 8 (dk_at dksX0_filled_2 16 rfl rfl)
theorem dX0_filled_64 : decode cX0_filled 64 = .ok (.irem, 1) := dk_112 (dk_at dksX0_filled_2 18 rfl rfl)
theorem dX0_filled_65 : decode cX0_filled 65 = .ok (.iadd, 1) := dk_96 (dk_at dksX0_filled_2 19 rfl rfl)
theorem dX0_filled_66 : decode cX0_filled 66 = .ok (.iaload, 1) := dk_46 (dk_at dksX0_filled_2 20 rfl rfl)
theorem dX0_filled_67 : decode cX0_filled 67 = .ok (.istore 6, 2) := dk_54 6 (dk_at dksX0_filled_2 21 rfl rfl)
theorem dX0_filled_69 : decode cX0_filled 69 = .ok (.iload 5, 2) := dk_21 5 (dk_at dksX0_filled_3 0 rfl rfl)
theorem dX0_filled_71 : decode cX0_filled 71 = .ok (.iload 4, 2) := dk_21 4 (dk_at dksX0_filled_3 2 rfl rfl)
theorem dX0_filled_73 : decode cX0_filled 73 = .ok (.imul, 1) := dk_104 (dk_at dksX0_filled_3 4 rfl rfl)
theorem dX0_filled_74 : decode cX0_filled 74 = .ok (.iload 6, 2) := dk_21 6 (dk_at dksX0_filled_3 5 rfl rfl)
theorem dX0_filled_76 : decode cX0_filled 76 = .ok (.iload_n 3, 1) := dk_29 (dk_at dksX0_filled_3 7 rfl rfl)
theorem dX0_filled_77 : decode cX0_filled 77 = .ok (.imul, 1) := dk_104 (dk_at dksX0_filled_3 8 rfl rfl)
theorem dX0_filled_78 : decode cX0_filled 78 = .ok (.iadd, 1) := dk_96 (dk_at dksX0_filled_3 9 rfl rfl)
theorem dX0_filled_79 : decode cX0_filled 79 = .ok (.iload_n 3, 1) := dk_29 (dk_at dksX0_filled_3 10 rfl rfl)
theorem dX0_filled_80 : decode cX0_filled 80 = .ok (.iload 4, 2) := dk_21 4 (dk_at dksX0_filled_3 11 rfl rfl)
theorem dX0_filled_82 : decode cX0_filled 82 = .ok (.iadd, 1) := dk_96 (dk_at dksX0_filled_3 13 rfl rfl)
theorem dX0_filled_83 : decode cX0_filled 83 = .ok (.idiv, 1) := dk_108 (dk_at dksX0_filled_3 14 rfl rfl)
theorem dX0_filled_84 : decode cX0_filled 84 = .ok (.ireturn, 1) := dk_172 (dk_at dksX0_filled_3 15 rfl rfl)
abbrev cX0_stepsTo : ByteArray := prog_1_method_11_code
def yX0_stepsTo : MethodName := ⟨RX0, "stepsTo", "([IIII)I"⟩
def dkwX0_stepsTo_1 : List UInt8 := [184, 0, 87, 96, 46, 16, 247, 159, 0, 6, 21, 4, 172, 132, 4, 1, 167, 255, 220, 16, 247, 172]
abbrev dktX0_stepsTo_1 : List UInt8 := dkwX0_stepsTo_1 ++ []
def dkwX0_stepsTo_0 : List UInt8 := [3, 54, 4, 21, 4, 16, 8, 162, 0, 35, 42, 16, 8, 27, 104, 28, 29, 21, 4, 104, 96, 16, 8]
abbrev dktX0_stepsTo_0 : List UInt8 := dkwX0_stepsTo_0 ++ dktX0_stepsTo_1
theorem dksX0_stepsTo_0 : cX0_stepsTo.data.toList.drop 0 = dktX0_stepsTo_0 := by decide +kernel
theorem dksX0_stepsTo_1 : cX0_stepsTo.data.toList.drop 23 = dktX0_stepsTo_1 := dk_seg dksX0_stepsTo_0 23 rfl rfl
theorem dX0_stepsTo_0 : decode cX0_stepsTo 0 = .ok (.iconst 0, 1) := dk_3 (dk_at dksX0_stepsTo_0 0 rfl rfl)
theorem dX0_stepsTo_1 : decode cX0_stepsTo 1 = .ok (.istore 4, 2) := dk_54 4 (dk_at dksX0_stepsTo_0 1 rfl rfl)
theorem dX0_stepsTo_3 : decode cX0_stepsTo 3 = .ok (.iload 4, 2) := dk_21 4 (dk_at dksX0_stepsTo_0 3 rfl rfl)
theorem dX0_stepsTo_5 : decode cX0_stepsTo 5 = .ok (.bipush 8, 2) := dk_16 8 (dk_at dksX0_stepsTo_0 5 rfl rfl)
theorem dX0_stepsTo_7 : decode cX0_stepsTo 7 = .ok (.if_icmp .ge 35, 3) := dk_162 0 35 (dk_at dksX0_stepsTo_0 7 rfl rfl)
theorem dX0_stepsTo_10 : decode cX0_stepsTo 10 = .ok (.aload_n 0, 1) := dk_42 (dk_at dksX0_stepsTo_0 10 rfl rfl)
theorem dX0_stepsTo_11 : decode cX0_stepsTo 11 = .ok (.bipush 8, 2) := dk_16 8 (dk_at dksX0_stepsTo_0 11 rfl rfl)
theorem dX0_stepsTo_13 : decode cX0_stepsTo 13 = .ok (.iload_n 1, 1) := dk_27 (dk_at dksX0_stepsTo_0 13 rfl rfl)
theorem dX0_stepsTo_14 : decode cX0_stepsTo 14 = .ok (.imul, 1) := dk_104 (dk_at dksX0_stepsTo_0 14 rfl rfl)
theorem dX0_stepsTo_15 : decode cX0_stepsTo 15 = .ok (.iload_n 2, 1) := dk_28 (dk_at dksX0_stepsTo_0 15 rfl rfl)
theorem dX0_stepsTo_16 : decode cX0_stepsTo 16 = .ok (.iload_n 3, 1) := dk_29 (dk_at dksX0_stepsTo_0 16 rfl rfl)
theorem dX0_stepsTo_17 : decode cX0_stepsTo 17 = .ok (.iload 4, 2) := dk_21 4 (dk_at dksX0_stepsTo_0 17 rfl rfl)
theorem dX0_stepsTo_19 : decode cX0_stepsTo 19 = .ok (.imul, 1) := dk_104 (dk_at dksX0_stepsTo_0 19 rfl rfl)
theorem dX0_stepsTo_20 : decode cX0_stepsTo 20 = .ok (.iadd, 1) := dk_96 (dk_at dksX0_stepsTo_0 20 rfl rfl)
theorem dX0_stepsTo_21 : decode cX0_stepsTo 21 = .ok (.bipush 8, 2) := dk_16 8 (dk_at dksX0_stepsTo_0 21 rfl rfl)
theorem dX0_stepsTo_23 : decode cX0_stepsTo 23 = .ok (.invokestatic 87, 3) := dk_184 0 87 (dk_at dksX0_stepsTo_1 0 rfl rfl)
theorem dX0_stepsTo_26 : decode cX0_stepsTo 26 = .ok (.iadd, 1) := dk_96 (dk_at dksX0_stepsTo_1 3 rfl rfl)
theorem dX0_stepsTo_27 : decode cX0_stepsTo 27 = .ok (.iaload, 1) := dk_46 (dk_at dksX0_stepsTo_1 4 rfl rfl)
theorem dX0_stepsTo_28 : decode cX0_stepsTo 28 = .ok (.bipush (-9), 2) := dk_16 247 (dk_at dksX0_stepsTo_1 5 rfl rfl)
theorem dX0_stepsTo_30 : decode cX0_stepsTo 30 = .ok (.if_icmp .eq 6, 3) := dk_159 0 6 (dk_at dksX0_stepsTo_1 7 rfl rfl)
theorem dX0_stepsTo_33 : decode cX0_stepsTo 33 = .ok (.iload 4, 2) := dk_21 4 (dk_at dksX0_stepsTo_1 10 rfl rfl)
theorem dX0_stepsTo_35 : decode cX0_stepsTo 35 = .ok (.ireturn, 1) := dk_172 (dk_at dksX0_stepsTo_1 12 rfl rfl)
theorem dX0_stepsTo_36 : decode cX0_stepsTo 36 = .ok (.iinc 4 1, 3) := dk_132 4 1 (dk_at dksX0_stepsTo_1 13 rfl rfl)
theorem dX0_stepsTo_39 : decode cX0_stepsTo 39 = .ok (.goto (-36), 3) := dk_167 255 220 (dk_at dksX0_stepsTo_1 16 rfl rfl)
theorem dX0_stepsTo_42 : decode cX0_stepsTo 42 = .ok (.bipush (-9), 2) := dk_16 247 (dk_at dksX0_stepsTo_1 19 rfl rfl)
theorem dX0_stepsTo_44 : decode cX0_stepsTo 44 = .ok (.ireturn, 1) := dk_172 (dk_at dksX0_stepsTo_1 21 rfl rfl)
abbrev cX0_tear : ByteArray := prog_1_method_15_code
def yX0_tear : MethodName := ⟨RX0, "tear", "(I)I"⟩
def dkwX0_tear_0 : List UInt8 := [42, 27, 182, 0, 80, 61, 28, 156, 0, 5, 28, 172, 42, 180, 0, 21, 27, 1, 83, 4, 172]
abbrev dktX0_tear_0 : List UInt8 := dkwX0_tear_0 ++ []
theorem dksX0_tear_0 : cX0_tear.data.toList.drop 0 = dktX0_tear_0 := by decide +kernel
theorem dX0_tear_0 : decode cX0_tear 0 = .ok (.aload_n 0, 1) := dk_42 (dk_at dksX0_tear_0 0 rfl rfl)
theorem dX0_tear_1 : decode cX0_tear 1 = .ok (.iload_n 1, 1) := dk_27 (dk_at dksX0_tear_0 1 rfl rfl)
theorem dX0_tear_2 : decode cX0_tear 2 = .ok (.invokevirtual 80, 3) := dk_182 0 80 (dk_at dksX0_tear_0 2 rfl rfl)
theorem dX0_tear_5 : decode cX0_tear 5 = .ok (.istore_n 2, 1) := dk_61 (dk_at dksX0_tear_0 5 rfl rfl)
theorem dX0_tear_6 : decode cX0_tear 6 = .ok (.iload_n 2, 1) := dk_28 (dk_at dksX0_tear_0 6 rfl rfl)
theorem dX0_tear_7 : decode cX0_tear 7 = .ok (.ifCond .ge 5, 3) := dk_156 0 5 (dk_at dksX0_tear_0 7 rfl rfl)
theorem dX0_tear_10 : decode cX0_tear 10 = .ok (.iload_n 2, 1) := dk_28 (dk_at dksX0_tear_0 10 rfl rfl)
theorem dX0_tear_11 : decode cX0_tear 11 = .ok (.ireturn, 1) := dk_172 (dk_at dksX0_tear_0 11 rfl rfl)
theorem dX0_tear_12 : decode cX0_tear 12 = .ok (.aload_n 0, 1) := dk_42 (dk_at dksX0_tear_0 12 rfl rfl)
theorem dX0_tear_13 : decode cX0_tear 13 = .ok (.getfield 21, 3) := dk_180 0 21 (dk_at dksX0_tear_0 13 rfl rfl)
theorem dX0_tear_16 : decode cX0_tear 16 = .ok (.iload_n 1, 1) := dk_27 (dk_at dksX0_tear_0 16 rfl rfl)
theorem dX0_tear_17 : decode cX0_tear 17 = .ok (.aconst_null, 1) := dk_1 (dk_at dksX0_tear_0 17 rfl rfl)
theorem dX0_tear_18 : decode cX0_tear 18 = .ok (.aastore, 1) := dk_83 (dk_at dksX0_tear_0 18 rfl rfl)
theorem dX0_tear_19 : decode cX0_tear 19 = .ok (.iconst 1, 1) := dk_4 (dk_at dksX0_tear_0 19 rfl rfl)
theorem dX0_tear_20 : decode cX0_tear 20 = .ok (.ireturn, 1) := dk_172 (dk_at dksX0_tear_0 20 rfl rfl)
abbrev cX0_copy : ByteArray := prog_1_method_16_code
def yX0_copy : MethodName := ⟨RX0, "copy", "(IIIII)I"⟩
def dkwX0_copy_2 : List UInt8 := [4, 172, 58, 6, 42, 4, 182, 0, 76, 172, 58, 6, 42, 5, 182, 0, 76, 172]
abbrev dktX0_copy_2 : List UInt8 := dkwX0_copy_2 ++ []
def dkwX0_copy_1 : List UInt8 := [182, 0, 76, 172, 42, 180, 0, 21, 27, 50, 28, 42, 180, 0, 21, 29, 50, 21, 4, 21, 5, 184, 0, 110]
abbrev dktX0_copy_1 : List UInt8 := dkwX0_copy_1 ++ dktX0_copy_2
def dkwX0_copy_0 : List UInt8 := [27, 184, 0, 72, 153, 0, 10, 29, 184, 0, 72, 154, 0, 5, 2, 172, 21, 5, 156, 0, 9, 42, 8]
abbrev dktX0_copy_0 : List UInt8 := dkwX0_copy_0 ++ dktX0_copy_1
theorem dksX0_copy_0 : cX0_copy.data.toList.drop 0 = dktX0_copy_0 := by decide +kernel
theorem dksX0_copy_1 : cX0_copy.data.toList.drop 23 = dktX0_copy_1 := dk_seg dksX0_copy_0 23 rfl rfl
theorem dksX0_copy_2 : cX0_copy.data.toList.drop 47 = dktX0_copy_2 := dk_seg dksX0_copy_1 24 rfl rfl
theorem dX0_copy_0 : decode cX0_copy 0 = .ok (.iload_n 1, 1) := dk_27 (dk_at dksX0_copy_0 0 rfl rfl)
theorem dX0_copy_1 : decode cX0_copy 1 = .ok (.invokestatic 72, 3) := dk_184 0 72 (dk_at dksX0_copy_0 1 rfl rfl)
theorem dX0_copy_4 : decode cX0_copy 4 = .ok (.ifCond .eq 10, 3) := dk_153 0 10 (dk_at dksX0_copy_0 4 rfl rfl)
theorem dX0_copy_7 : decode cX0_copy 7 = .ok (.iload_n 3, 1) := dk_29 (dk_at dksX0_copy_0 7 rfl rfl)
theorem dX0_copy_8 : decode cX0_copy 8 = .ok (.invokestatic 72, 3) := dk_184 0 72 (dk_at dksX0_copy_0 8 rfl rfl)
theorem dX0_copy_11 : decode cX0_copy 11 = .ok (.ifCond .ne 5, 3) := dk_154 0 5 (dk_at dksX0_copy_0 11 rfl rfl)
theorem dX0_copy_14 : decode cX0_copy 14 = .ok (.iconst (-1), 1) := dk_2 (dk_at dksX0_copy_0 14 rfl rfl)
theorem dX0_copy_15 : decode cX0_copy 15 = .ok (.ireturn, 1) := dk_172 (dk_at dksX0_copy_0 15 rfl rfl)
theorem dX0_copy_16 : decode cX0_copy 16 = .ok (.iload 5, 2) := dk_21 5 (dk_at dksX0_copy_0 16 rfl rfl)
theorem dX0_copy_18 : decode cX0_copy 18 = .ok (.ifCond .ge 9, 3) := dk_156 0 9 (dk_at dksX0_copy_0 18 rfl rfl)
theorem dX0_copy_21 : decode cX0_copy 21 = .ok (.aload_n 0, 1) := dk_42 (dk_at dksX0_copy_0 21 rfl rfl)
theorem dX0_copy_22 : decode cX0_copy 22 = .ok (.iconst 5, 1) := dk_8 (dk_at dksX0_copy_0 22 rfl rfl)
theorem dX0_copy_23 : decode cX0_copy 23 = .ok (.invokevirtual 76, 3) := dk_182 0 76 (dk_at dksX0_copy_1 0 rfl rfl)
theorem dX0_copy_26 : decode cX0_copy 26 = .ok (.ireturn, 1) := dk_172 (dk_at dksX0_copy_1 3 rfl rfl)
theorem dX0_copy_27 : decode cX0_copy 27 = .ok (.aload_n 0, 1) := dk_42 (dk_at dksX0_copy_1 4 rfl rfl)
theorem dX0_copy_28 : decode cX0_copy 28 = .ok (.getfield 21, 3) := dk_180 0 21 (dk_at dksX0_copy_1 5 rfl rfl)
theorem dX0_copy_31 : decode cX0_copy 31 = .ok (.iload_n 1, 1) := dk_27 (dk_at dksX0_copy_1 8 rfl rfl)
theorem dX0_copy_32 : decode cX0_copy 32 = .ok (.aaload, 1) := dk_50 (dk_at dksX0_copy_1 9 rfl rfl)
theorem dX0_copy_33 : decode cX0_copy 33 = .ok (.iload_n 2, 1) := dk_28 (dk_at dksX0_copy_1 10 rfl rfl)
theorem dX0_copy_34 : decode cX0_copy 34 = .ok (.aload_n 0, 1) := dk_42 (dk_at dksX0_copy_1 11 rfl rfl)
theorem dX0_copy_35 : decode cX0_copy 35 = .ok (.getfield 21, 3) := dk_180 0 21 (dk_at dksX0_copy_1 12 rfl rfl)
theorem dX0_copy_38 : decode cX0_copy 38 = .ok (.iload_n 3, 1) := dk_29 (dk_at dksX0_copy_1 15 rfl rfl)
theorem dX0_copy_39 : decode cX0_copy 39 = .ok (.aaload, 1) := dk_50 (dk_at dksX0_copy_1 16 rfl rfl)
theorem dX0_copy_40 : decode cX0_copy 40 = .ok (.iload 4, 2) := dk_21 4 (dk_at dksX0_copy_1 17 rfl rfl)
theorem dX0_copy_42 : decode cX0_copy 42 = .ok (.iload 5, 2) := dk_21 5 (dk_at dksX0_copy_1 19 rfl rfl)
theorem dX0_copy_44 : decode cX0_copy 44 = .ok (.invokestatic 110, 3) := dk_184 0 110 (dk_at dksX0_copy_1 21 rfl rfl)
theorem dX0_copy_47 : decode cX0_copy 47 = .ok (.iconst 1, 1) := dk_4 (dk_at dksX0_copy_2 0 rfl rfl)
theorem dX0_copy_48 : decode cX0_copy 48 = .ok (.ireturn, 1) := dk_172 (dk_at dksX0_copy_2 1 rfl rfl)
theorem dX0_copy_49 : decode cX0_copy 49 = .ok (.astore 6, 2) := dk_58 6 (dk_at dksX0_copy_2 2 rfl rfl)
theorem dX0_copy_51 : decode cX0_copy 51 = .ok (.aload_n 0, 1) := dk_42 (dk_at dksX0_copy_2 4 rfl rfl)
theorem dX0_copy_52 : decode cX0_copy 52 = .ok (.iconst 1, 1) := dk_4 (dk_at dksX0_copy_2 5 rfl rfl)
theorem dX0_copy_53 : decode cX0_copy 53 = .ok (.invokevirtual 76, 3) := dk_182 0 76 (dk_at dksX0_copy_2 6 rfl rfl)
theorem dX0_copy_56 : decode cX0_copy 56 = .ok (.ireturn, 1) := dk_172 (dk_at dksX0_copy_2 9 rfl rfl)
theorem dX0_copy_57 : decode cX0_copy 57 = .ok (.astore 6, 2) := dk_58 6 (dk_at dksX0_copy_2 10 rfl rfl)
theorem dX0_copy_59 : decode cX0_copy 59 = .ok (.aload_n 0, 1) := dk_42 (dk_at dksX0_copy_2 12 rfl rfl)
theorem dX0_copy_60 : decode cX0_copy 60 = .ok (.iconst 2, 1) := dk_5 (dk_at dksX0_copy_2 13 rfl rfl)
theorem dX0_copy_61 : decode cX0_copy 61 = .ok (.invokevirtual 76, 3) := dk_182 0 76 (dk_at dksX0_copy_2 14 rfl rfl)
theorem dX0_copy_64 : decode cX0_copy 64 = .ok (.ireturn, 1) := dk_172 (dk_at dksX0_copy_2 17 rfl rfl)
abbrev cX0_ring : ByteArray := prog_1_method_18_code
def yX0_ring : MethodName := ⟨RX0, "ring", "(II)I"⟩
def dkwX0_ring_1 : List UInt8 := [42, 180, 0, 21, 27, 50, 28, 184, 0, 120, 167, 0, 8, 42, 5, 182, 0, 76, 172]
abbrev dktX0_ring_1 : List UInt8 := dkwX0_ring_1 ++ []
def dkwX0_ring_0 : List UInt8 := [42, 27, 182, 0, 80, 62, 29, 156, 0, 7, 29, 167, 0, 31, 28, 3, 16, 11, 184, 0, 68, 153, 0, 16]
abbrev dktX0_ring_0 : List UInt8 := dkwX0_ring_0 ++ dktX0_ring_1
theorem dksX0_ring_0 : cX0_ring.data.toList.drop 0 = dktX0_ring_0 := by decide +kernel
theorem dksX0_ring_1 : cX0_ring.data.toList.drop 24 = dktX0_ring_1 := dk_seg dksX0_ring_0 24 rfl rfl
theorem dX0_ring_0 : decode cX0_ring 0 = .ok (.aload_n 0, 1) := dk_42 (dk_at dksX0_ring_0 0 rfl rfl)
theorem dX0_ring_1 : decode cX0_ring 1 = .ok (.iload_n 1, 1) := dk_27 (dk_at dksX0_ring_0 1 rfl rfl)
theorem dX0_ring_2 : decode cX0_ring 2 = .ok (.invokevirtual 80, 3) := dk_182 0 80 (dk_at dksX0_ring_0 2 rfl rfl)
theorem dX0_ring_5 : decode cX0_ring 5 = .ok (.istore_n 3, 1) := dk_62 (dk_at dksX0_ring_0 5 rfl rfl)
theorem dX0_ring_6 : decode cX0_ring 6 = .ok (.iload_n 3, 1) := dk_29 (dk_at dksX0_ring_0 6 rfl rfl)
theorem dX0_ring_7 : decode cX0_ring 7 = .ok (.ifCond .ge 7, 3) := dk_156 0 7 (dk_at dksX0_ring_0 7 rfl rfl)
theorem dX0_ring_10 : decode cX0_ring 10 = .ok (.iload_n 3, 1) := dk_29 (dk_at dksX0_ring_0 10 rfl rfl)
theorem dX0_ring_11 : decode cX0_ring 11 = .ok (.goto 31, 3) := dk_167 0 31 (dk_at dksX0_ring_0 11 rfl rfl)
theorem dX0_ring_14 : decode cX0_ring 14 = .ok (.iload_n 2, 1) := dk_28 (dk_at dksX0_ring_0 14 rfl rfl)
theorem dX0_ring_15 : decode cX0_ring 15 = .ok (.iconst 0, 1) := dk_3 (dk_at dksX0_ring_0 15 rfl rfl)
theorem dX0_ring_16 : decode cX0_ring 16 = .ok (.bipush 11, 2) := dk_16 11 (dk_at dksX0_ring_0 16 rfl rfl)
theorem dX0_ring_18 : decode cX0_ring 18 = .ok (.invokestatic 68, 3) := dk_184 0 68 (dk_at dksX0_ring_0 18 rfl rfl)
theorem dX0_ring_21 : decode cX0_ring 21 = .ok (.ifCond .eq 16, 3) := dk_153 0 16 (dk_at dksX0_ring_0 21 rfl rfl)
theorem dX0_ring_24 : decode cX0_ring 24 = .ok (.aload_n 0, 1) := dk_42 (dk_at dksX0_ring_1 0 rfl rfl)
theorem dX0_ring_25 : decode cX0_ring 25 = .ok (.getfield 21, 3) := dk_180 0 21 (dk_at dksX0_ring_1 1 rfl rfl)
theorem dX0_ring_28 : decode cX0_ring 28 = .ok (.iload_n 1, 1) := dk_27 (dk_at dksX0_ring_1 4 rfl rfl)
theorem dX0_ring_29 : decode cX0_ring 29 = .ok (.aaload, 1) := dk_50 (dk_at dksX0_ring_1 5 rfl rfl)
theorem dX0_ring_30 : decode cX0_ring 30 = .ok (.iload_n 2, 1) := dk_28 (dk_at dksX0_ring_1 6 rfl rfl)
theorem dX0_ring_31 : decode cX0_ring 31 = .ok (.invokestatic 120, 3) := dk_184 0 120 (dk_at dksX0_ring_1 7 rfl rfl)
theorem dX0_ring_34 : decode cX0_ring 34 = .ok (.goto 8, 3) := dk_167 0 8 (dk_at dksX0_ring_1 10 rfl rfl)
theorem dX0_ring_37 : decode cX0_ring 37 = .ok (.aload_n 0, 1) := dk_42 (dk_at dksX0_ring_1 13 rfl rfl)
theorem dX0_ring_38 : decode cX0_ring 38 = .ok (.iconst 2, 1) := dk_5 (dk_at dksX0_ring_1 14 rfl rfl)
theorem dX0_ring_39 : decode cX0_ring 39 = .ok (.invokevirtual 76, 3) := dk_182 0 76 (dk_at dksX0_ring_1 15 rfl rfl)
theorem dX0_ring_42 : decode cX0_ring 42 = .ok (.ireturn, 1) := dk_172 (dk_at dksX0_ring_1 18 rfl rfl)
abbrev cX0_ringRoom : ByteArray := prog_1_method_17_code
def yX0_ringRoom : MethodName := ⟨RX0, "ringRoom", "([II)I"⟩
def dkwX0_ringRoom_2 : List UInt8 := [167, 255, 226, 28, 172]
abbrev dktX0_ringRoom_2 : List UInt8 := dkwX0_ringRoom_2 ++ []
def dkwX0_ringRoom_1 : List UInt8 := [28, 42, 27, 29, 184, 0, 97, 42, 27, 29, 4, 96, 16, 8, 112, 184, 0, 97, 104, 96, 61, 132, 3, 1]
abbrev dktX0_ringRoom_1 : List UInt8 := dkwX0_ringRoom_1 ++ dktX0_ringRoom_2
def dkwX0_ringRoom_0 : List UInt8 := [42, 27, 3, 184, 0, 97, 16, 247, 160, 0, 6, 16, 247, 172, 3, 61, 3, 62, 29, 16, 8, 162, 0, 30]
abbrev dktX0_ringRoom_0 : List UInt8 := dkwX0_ringRoom_0 ++ dktX0_ringRoom_1
theorem dksX0_ringRoom_0 : cX0_ringRoom.data.toList.drop 0 = dktX0_ringRoom_0 := by decide +kernel
theorem dksX0_ringRoom_1 : cX0_ringRoom.data.toList.drop 24 = dktX0_ringRoom_1 := dk_seg dksX0_ringRoom_0 24 rfl rfl
theorem dksX0_ringRoom_2 : cX0_ringRoom.data.toList.drop 48 = dktX0_ringRoom_2 := dk_seg dksX0_ringRoom_1 24 rfl rfl
theorem dX0_ringRoom_0 : decode cX0_ringRoom 0 = .ok (.aload_n 0, 1) := dk_42 (dk_at dksX0_ringRoom_0 0 rfl rfl)
theorem dX0_ringRoom_1 : decode cX0_ringRoom 1 = .ok (.iload_n 1, 1) := dk_27 (dk_at dksX0_ringRoom_0 1 rfl rfl)
theorem dX0_ringRoom_2 : decode cX0_ringRoom 2 = .ok (.iconst 0, 1) := dk_3 (dk_at dksX0_ringRoom_0 2 rfl rfl)
theorem dX0_ringRoom_3 : decode cX0_ringRoom 3 = .ok (.invokestatic 97, 3) := dk_184 0 97 (dk_at dksX0_ringRoom_0 3 rfl rfl)
theorem dX0_ringRoom_6 : decode cX0_ringRoom 6 = .ok (.bipush (-9), 2) := dk_16 247 (dk_at dksX0_ringRoom_0 6 rfl rfl)
theorem dX0_ringRoom_8 : decode cX0_ringRoom 8 = .ok (.if_icmp .ne 6, 3) := dk_160 0 6 (dk_at dksX0_ringRoom_0 8 rfl rfl)
theorem dX0_ringRoom_11 : decode cX0_ringRoom 11 = .ok (.bipush (-9), 2) := dk_16 247 (dk_at dksX0_ringRoom_0 11 rfl rfl)
theorem dX0_ringRoom_13 : decode cX0_ringRoom 13 = .ok (.ireturn, 1) := dk_172 (dk_at dksX0_ringRoom_0 13 rfl rfl)
theorem dX0_ringRoom_14 : decode cX0_ringRoom 14 = .ok (.iconst 0, 1) := dk_3 (dk_at dksX0_ringRoom_0 14 rfl rfl)
theorem dX0_ringRoom_15 : decode cX0_ringRoom 15 = .ok (.istore_n 2, 1) := dk_61 (dk_at dksX0_ringRoom_0 15 rfl rfl)
theorem dX0_ringRoom_16 : decode cX0_ringRoom 16 = .ok (.iconst 0, 1) := dk_3 (dk_at dksX0_ringRoom_0 16 rfl rfl)
theorem dX0_ringRoom_17 : decode cX0_ringRoom 17 = .ok (.istore_n 3, 1) := dk_62 (dk_at dksX0_ringRoom_0 17 rfl rfl)
theorem dX0_ringRoom_18 : decode cX0_ringRoom 18 = .ok (.iload_n 3, 1) := dk_29 (dk_at dksX0_ringRoom_0 18 rfl rfl)
theorem dX0_ringRoom_19 : decode cX0_ringRoom 19 = .ok (.bipush 8, 2) := dk_16 8 (dk_at dksX0_ringRoom_0 19 rfl rfl)
theorem dX0_ringRoom_21 : decode cX0_ringRoom 21 = .ok (.if_icmp .ge 30, 3) := dk_162 0 30 (dk_at dksX0_ringRoom_0 21 rfl rfl)
theorem dX0_ringRoom_24 : decode cX0_ringRoom 24 = .ok (.iload_n 2, 1) := dk_28 (dk_at dksX0_ringRoom_1 0 rfl rfl)
theorem dX0_ringRoom_25 : decode cX0_ringRoom 25 = .ok (.aload_n 0, 1) := dk_42 (dk_at dksX0_ringRoom_1 1 rfl rfl)
theorem dX0_ringRoom_26 : decode cX0_ringRoom 26 = .ok (.iload_n 1, 1) := dk_27 (dk_at dksX0_ringRoom_1 2 rfl rfl)
theorem dX0_ringRoom_27 : decode cX0_ringRoom 27 = .ok (.iload_n 3, 1) := dk_29 (dk_at dksX0_ringRoom_1 3 rfl rfl)
theorem dX0_ringRoom_28 : decode cX0_ringRoom 28 = .ok (.invokestatic 97, 3) := dk_184 0 97 (dk_at dksX0_ringRoom_1 4 rfl rfl)
theorem dX0_ringRoom_31 : decode cX0_ringRoom 31 = .ok (.aload_n 0, 1) := dk_42 (dk_at dksX0_ringRoom_1 7 rfl rfl)
theorem dX0_ringRoom_32 : decode cX0_ringRoom 32 = .ok (.iload_n 1, 1) := dk_27 (dk_at dksX0_ringRoom_1 8 rfl rfl)
theorem dX0_ringRoom_33 : decode cX0_ringRoom 33 = .ok (.iload_n 3, 1) := dk_29 (dk_at dksX0_ringRoom_1 9 rfl rfl)
theorem dX0_ringRoom_34 : decode cX0_ringRoom 34 = .ok (.iconst 1, 1) := dk_4 (dk_at dksX0_ringRoom_1 10 rfl rfl)
theorem dX0_ringRoom_35 : decode cX0_ringRoom 35 = .ok (.iadd, 1) := dk_96 (dk_at dksX0_ringRoom_1 11 rfl rfl)
theorem dX0_ringRoom_36 : decode cX0_ringRoom 36 = .ok (.bipush 8, 2) := dk_16 8 (dk_at dksX0_ringRoom_1 12 rfl rfl)
theorem dX0_ringRoom_38 : decode cX0_ringRoom 38 = .ok (.irem, 1) := dk_112 (dk_at dksX0_ringRoom_1 14 rfl rfl)
theorem dX0_ringRoom_39 : decode cX0_ringRoom 39 = .ok (.invokestatic 97, 3) := dk_184 0 97 (dk_at dksX0_ringRoom_1 15 rfl rfl)
theorem dX0_ringRoom_42 : decode cX0_ringRoom 42 = .ok (.imul, 1) := dk_104 (dk_at dksX0_ringRoom_1 18 rfl rfl)
theorem dX0_ringRoom_43 : decode cX0_ringRoom 43 = .ok (.iadd, 1) := dk_96 (dk_at dksX0_ringRoom_1 19 rfl rfl)
theorem dX0_ringRoom_44 : decode cX0_ringRoom 44 = .ok (.istore_n 2, 1) := dk_61 (dk_at dksX0_ringRoom_1 20 rfl rfl)
theorem dX0_ringRoom_45 : decode cX0_ringRoom 45 = .ok (.iinc 3 1, 3) := dk_132 3 1 (dk_at dksX0_ringRoom_1 21 rfl rfl)
theorem dX0_ringRoom_48 : decode cX0_ringRoom 48 = .ok (.goto (-30), 3) := dk_167 255 226 (dk_at dksX0_ringRoom_2 0 rfl rfl)
theorem dX0_ringRoom_51 : decode cX0_ringRoom 51 = .ok (.iload_n 2, 1) := dk_28 (dk_at dksX0_ringRoom_2 3 rfl rfl)
theorem dX0_ringRoom_52 : decode cX0_ringRoom 52 = .ok (.ireturn, 1) := dk_172 (dk_at dksX0_ringRoom_2 4 rfl rfl)
abbrev cX0_room : ByteArray := prog_1_method_21_code
def yX0_room : MethodName := ⟨RX0, "room", "(IZ)I"⟩
def dkwX0_room_1 : List UInt8 := [172]
abbrev dktX0_room_1 : List UInt8 := dkwX0_room_1 ++ []
def dkwX0_room_0 : List UInt8 := [42, 27, 182, 0, 80, 62, 29, 156, 0, 7, 29, 167, 0, 13, 42, 180, 0, 21, 27, 50, 28, 184, 0, 130]
abbrev dktX0_room_0 : List UInt8 := dkwX0_room_0 ++ dktX0_room_1
theorem dksX0_room_0 : cX0_room.data.toList.drop 0 = dktX0_room_0 := by decide +kernel
theorem dksX0_room_1 : cX0_room.data.toList.drop 24 = dktX0_room_1 := dk_seg dksX0_room_0 24 rfl rfl
theorem dX0_room_0 : decode cX0_room 0 = .ok (.aload_n 0, 1) := dk_42 (dk_at dksX0_room_0 0 rfl rfl)
theorem dX0_room_1 : decode cX0_room 1 = .ok (.iload_n 1, 1) := dk_27 (dk_at dksX0_room_0 1 rfl rfl)
theorem dX0_room_2 : decode cX0_room 2 = .ok (.invokevirtual 80, 3) := dk_182 0 80 (dk_at dksX0_room_0 2 rfl rfl)
theorem dX0_room_5 : decode cX0_room 5 = .ok (.istore_n 3, 1) := dk_62 (dk_at dksX0_room_0 5 rfl rfl)
theorem dX0_room_6 : decode cX0_room 6 = .ok (.iload_n 3, 1) := dk_29 (dk_at dksX0_room_0 6 rfl rfl)
theorem dX0_room_7 : decode cX0_room 7 = .ok (.ifCond .ge 7, 3) := dk_156 0 7 (dk_at dksX0_room_0 7 rfl rfl)
theorem dX0_room_10 : decode cX0_room 10 = .ok (.iload_n 3, 1) := dk_29 (dk_at dksX0_room_0 10 rfl rfl)
theorem dX0_room_11 : decode cX0_room 11 = .ok (.goto 13, 3) := dk_167 0 13 (dk_at dksX0_room_0 11 rfl rfl)
theorem dX0_room_14 : decode cX0_room 14 = .ok (.aload_n 0, 1) := dk_42 (dk_at dksX0_room_0 14 rfl rfl)
theorem dX0_room_15 : decode cX0_room 15 = .ok (.getfield 21, 3) := dk_180 0 21 (dk_at dksX0_room_0 15 rfl rfl)
theorem dX0_room_18 : decode cX0_room 18 = .ok (.iload_n 1, 1) := dk_27 (dk_at dksX0_room_0 18 rfl rfl)
theorem dX0_room_19 : decode cX0_room 19 = .ok (.aaload, 1) := dk_50 (dk_at dksX0_room_0 19 rfl rfl)
theorem dX0_room_20 : decode cX0_room 20 = .ok (.iload_n 2, 1) := dk_28 (dk_at dksX0_room_0 20 rfl rfl)
theorem dX0_room_21 : decode cX0_room 21 = .ok (.invokestatic 130, 3) := dk_184 0 130 (dk_at dksX0_room_0 21 rfl rfl)
theorem dX0_room_24 : decode cX0_room 24 = .ok (.ireturn, 1) := dk_172 (dk_at dksX0_room_1 0 rfl rfl)
abbrev cX0_roomOf : ByteArray := prog_1_method_20_code
def yX0_roomOf : MethodName := ⟨RX0, "roomOf", "([IZ)I"⟩
def dkwX0_roomOf_4 : List UInt8 := [21, 8, 96, 61, 132, 3, 1, 167, 255, 160, 28, 172]
abbrev dktX0_roomOf_4 : List UInt8 := dkwX0_roomOf_4 ++ []
def dkwX0_roomOf_3 : List UInt8 := [167, 0, 10, 21, 6, 21, 7, 184, 0, 127, 54, 8, 28, 21, 8, 16, 247, 160, 0, 7, 3, 167, 0, 5]
abbrev dktX0_roomOf_3 : List UInt8 := dkwX0_roomOf_3 ++ dktX0_roomOf_4
def dkwX0_roomOf_2 : List UInt8 := [160, 0, 8, 21, 4, 167, 0, 5, 21, 5, 54, 7, 27, 153, 0, 13, 21, 6, 21, 7, 184, 0, 104]
abbrev dktX0_roomOf_2 : List UInt8 := dkwX0_roomOf_2 ++ dktX0_roomOf_3
def dkwX0_roomOf_1 : List UInt8 := [54, 5, 21, 4, 16, 247, 160, 0, 8, 21, 5, 167, 0, 5, 21, 4, 54, 6, 21, 5, 16, 247]
abbrev dktX0_roomOf_1 : List UInt8 := dkwX0_roomOf_1 ++ dktX0_roomOf_2
def dkwX0_roomOf_0 : List UInt8 := [3, 61, 3, 62, 29, 16, 12, 162, 0, 96, 42, 29, 2, 184, 0, 124, 54, 4, 42, 29, 4, 184, 0, 124]
abbrev dktX0_roomOf_0 : List UInt8 := dkwX0_roomOf_0 ++ dktX0_roomOf_1
theorem dksX0_roomOf_0 : cX0_roomOf.data.toList.drop 0 = dktX0_roomOf_0 := by decide +kernel
theorem dksX0_roomOf_1 : cX0_roomOf.data.toList.drop 24 = dktX0_roomOf_1 := dk_seg dksX0_roomOf_0 24 rfl rfl
theorem dksX0_roomOf_2 : cX0_roomOf.data.toList.drop 46 = dktX0_roomOf_2 := dk_seg dksX0_roomOf_1 22 rfl rfl
theorem dksX0_roomOf_3 : cX0_roomOf.data.toList.drop 69 = dktX0_roomOf_3 := dk_seg dksX0_roomOf_2 23 rfl rfl
theorem dksX0_roomOf_4 : cX0_roomOf.data.toList.drop 93 = dktX0_roomOf_4 := dk_seg dksX0_roomOf_3 24 rfl rfl
theorem dX0_roomOf_0 : decode cX0_roomOf 0 = .ok (.iconst 0, 1) := dk_3 (dk_at dksX0_roomOf_0 0 rfl rfl)
theorem dX0_roomOf_1 : decode cX0_roomOf 1 = .ok (.istore_n 2, 1) := dk_61 (dk_at dksX0_roomOf_0 1 rfl rfl)
theorem dX0_roomOf_2 : decode cX0_roomOf 2 = .ok (.iconst 0, 1) := dk_3 (dk_at dksX0_roomOf_0 2 rfl rfl)
theorem dX0_roomOf_3 : decode cX0_roomOf 3 = .ok (.istore_n 3, 1) := dk_62 (dk_at dksX0_roomOf_0 3 rfl rfl)
theorem dX0_roomOf_4 : decode cX0_roomOf 4 = .ok (.iload_n 3, 1) := dk_29 (dk_at dksX0_roomOf_0 4 rfl rfl)
theorem dX0_roomOf_5 : decode cX0_roomOf 5 = .ok (.bipush 12, 2) := dk_16 12 (dk_at dksX0_roomOf_0 5 rfl rfl)
theorem dX0_roomOf_7 : decode cX0_roomOf 7 = .ok (.if_icmp .ge 96, 3) := dk_162 0 96 (dk_at dksX0_roomOf_0 7 rfl rfl)
theorem dX0_roomOf_10 : decode cX0_roomOf 10 = .ok (.aload_n 0, 1) := dk_42 (dk_at dksX0_roomOf_0 10 rfl rfl)
theorem dX0_roomOf_11 : decode cX0_roomOf 11 = .ok (.iload_n 3, 1) := dk_29 (dk_at dksX0_roomOf_0 11 rfl rfl)
theorem dX0_roomOf_12 : decode cX0_roomOf 12 = .ok (.iconst (-1), 1) := dk_2 (dk_at dksX0_roomOf_0 12 rfl rfl)
theorem dX0_roomOf_13 : decode cX0_roomOf 13 = .ok (.invokestatic 124, 3) := dk_184 0 124 (dk_at dksX0_roomOf_0 13 rfl rfl)
theorem dX0_roomOf_16 : decode cX0_roomOf 16 = .ok (.istore 4, 2) := dk_54 4 (dk_at dksX0_roomOf_0 16 rfl rfl)
theorem dX0_roomOf_18 : decode cX0_roomOf 18 = .ok (.aload_n 0, 1) := dk_42 (dk_at dksX0_roomOf_0 18 rfl rfl)
theorem dX0_roomOf_19 : decode cX0_roomOf 19 = .ok (.iload_n 3, 1) := dk_29 (dk_at dksX0_roomOf_0 19 rfl rfl)
theorem dX0_roomOf_20 : decode cX0_roomOf 20 = .ok (.iconst 1, 1) := dk_4 (dk_at dksX0_roomOf_0 20 rfl rfl)
theorem dX0_roomOf_21 : decode cX0_roomOf 21 = .ok (.invokestatic 124, 3) := dk_184 0 124 (dk_at dksX0_roomOf_0 21 rfl rfl)
theorem dX0_roomOf_24 : decode cX0_roomOf 24 = .ok (.istore 5, 2) := dk_54 5 (dk_at dksX0_roomOf_1 0 rfl rfl)
theorem dX0_roomOf_26 : decode cX0_roomOf 26 = .ok (.iload 4, 2) := dk_21 4 (dk_at dksX0_roomOf_1 2 rfl rfl)
theorem dX0_roomOf_28 : decode cX0_roomOf 28 = .ok (.bipush (-9), 2) := dk_16 247 (dk_at dksX0_roomOf_1 4 rfl rfl)
theorem dX0_roomOf_30 : decode cX0_roomOf 30 = .ok (.if_icmp .ne 8, 3) := dk_160 0 8 (dk_at dksX0_roomOf_1 6 rfl rfl)
theorem dX0_roomOf_33 : decode cX0_roomOf 33 = .ok (.iload 5, 2) := dk_21 5 (dk_at dksX0_roomOf_1 9 rfl rfl)
theorem dX0_roomOf_35 : decode cX0_roomOf 35 = .ok (.goto 5, 3) := dk_167 0 5 (dk_at dksX0_roomOf_1 11 rfl rfl)
theorem dX0_roomOf_38 : decode cX0_roomOf 38 = .ok (.iload 4, 2) := dk_21 4 (dk_at dksX0_roomOf_1 14 rfl rfl)
theorem dX0_roomOf_40 : decode cX0_roomOf 40 = .ok (.istore 6, 2) := dk_54 6 (dk_at dksX0_roomOf_1 16 rfl rfl)
theorem dX0_roomOf_42 : decode cX0_roomOf 42 = .ok (.iload 5, 2) := dk_21 5 (dk_at dksX0_roomOf_1 18 rfl rfl)
theorem dX0_roomOf_44 : decode cX0_roomOf 44 = .ok (.bipush (-9), 2) := dk_16 247 (dk_at dksX0_roomOf_1 20 rfl rfl)
theorem dX0_roomOf_46 : decode cX0_roomOf 46 = .ok (.if_icmp .ne 8, 3) := dk_160 0 8 (dk_at dksX0_roomOf_2 0 rfl rfl)
theorem dX0_roomOf_49 : decode cX0_roomOf 49 = .ok (.iload 4, 2) := dk_21 4 (dk_at dksX0_roomOf_2 3 rfl rfl)
theorem dX0_roomOf_51 : decode cX0_roomOf 51 = .ok (.goto 5, 3) := dk_167 0 5 (dk_at dksX0_roomOf_2 5 rfl rfl)
theorem dX0_roomOf_54 : decode cX0_roomOf 54 = .ok (.iload 5, 2) := dk_21 5 (dk_at dksX0_roomOf_2 8 rfl rfl)
theorem dX0_roomOf_56 : decode cX0_roomOf 56 = .ok (.istore 7, 2) := dk_54 7 (dk_at dksX0_roomOf_2 10 rfl rfl)
theorem dX0_roomOf_58 : decode cX0_roomOf 58 = .ok (.iload_n 1, 1) := dk_27 (dk_at dksX0_roomOf_2 12 rfl rfl)
theorem dX0_roomOf_59 : decode cX0_roomOf 59 = .ok (.ifCond .eq 13, 3) := dk_153 0 13 (dk_at dksX0_roomOf_2 13 rfl rfl)
theorem dX0_roomOf_62 : decode cX0_roomOf 62 = .ok (.iload 6, 2) := dk_21 6 (dk_at dksX0_roomOf_2 16 rfl rfl)
theorem dX0_roomOf_64 : decode cX0_roomOf 64 = .ok (.iload 7, 2) := dk_21 7 (dk_at dksX0_roomOf_2 18 rfl rfl)
theorem dX0_roomOf_66 : decode cX0_roomOf 66 = .ok (.invokestatic 104, 3) := dk_184 0 104 (dk_at dksX0_roomOf_2 20 rfl rfl)
theorem dX0_roomOf_69 : decode cX0_roomOf 69 = .ok (.goto 10, 3) := dk_167 0 10 (dk_at dksX0_roomOf_3 0 rfl rfl)
theorem dX0_roomOf_72 : decode cX0_roomOf 72 = .ok (.iload 6, 2) := dk_21 6 (dk_at dksX0_roomOf_3 3 rfl rfl)
theorem dX0_roomOf_74 : decode cX0_roomOf 74 = .ok (.iload 7, 2) := dk_21 7 (dk_at dksX0_roomOf_3 5 rfl rfl)
theorem dX0_roomOf_76 : decode cX0_roomOf 76 = .ok (.invokestatic 127, 3) := dk_184 0 127 (dk_at dksX0_roomOf_3 7 rfl rfl)
theorem dX0_roomOf_79 : decode cX0_roomOf 79 = .ok (.istore 8, 2) := dk_54 8 (dk_at dksX0_roomOf_3 10 rfl rfl)
theorem dX0_roomOf_81 : decode cX0_roomOf 81 = .ok (.iload_n 2, 1) := dk_28 (dk_at dksX0_roomOf_3 12 rfl rfl)
theorem dX0_roomOf_82 : decode cX0_roomOf 82 = .ok (.iload 8, 2) := dk_21 8 (dk_at dksX0_roomOf_3 13 rfl rfl)
theorem dX0_roomOf_84 : decode cX0_roomOf 84 = .ok (.bipush (-9), 2) := dk_16 247 (dk_at dksX0_roomOf_3 15 rfl rfl)
theorem dX0_roomOf_86 : decode cX0_roomOf 86 = .ok (.if_icmp .ne 7, 3) := dk_160 0 7 (dk_at dksX0_roomOf_3 17 rfl rfl)
theorem dX0_roomOf_89 : decode cX0_roomOf 89 = .ok (.iconst 0, 1) := dk_3 (dk_at dksX0_roomOf_3 20 rfl rfl)
theorem dX0_roomOf_90 : decode cX0_roomOf 90 = .ok (.goto 5, 3) := dk_167 0 5 (dk_at dksX0_roomOf_3 21 rfl rfl)
theorem dX0_roomOf_93 : decode cX0_roomOf 93 = .ok (.iload 8, 2) := dk_21 8 (dk_at dksX0_roomOf_4 0 rfl rfl)
theorem dX0_roomOf_95 : decode cX0_roomOf 95 = .ok (.iadd, 1) := dk_96 (dk_at dksX0_roomOf_4 2 rfl rfl)
theorem dX0_roomOf_96 : decode cX0_roomOf 96 = .ok (.istore_n 2, 1) := dk_61 (dk_at dksX0_roomOf_4 3 rfl rfl)
theorem dX0_roomOf_97 : decode cX0_roomOf 97 = .ok (.iinc 3 1, 3) := dk_132 3 1 (dk_at dksX0_roomOf_4 4 rfl rfl)
theorem dX0_roomOf_100 : decode cX0_roomOf 100 = .ok (.goto (-96), 3) := dk_167 255 160 (dk_at dksX0_roomOf_4 7 rfl rfl)
theorem dX0_roomOf_103 : decode cX0_roomOf 103 = .ok (.iload_n 2, 1) := dk_28 (dk_at dksX0_roomOf_4 10 rfl rfl)
theorem dX0_roomOf_104 : decode cX0_roomOf 104 = .ok (.ireturn, 1) := dk_172 (dk_at dksX0_roomOf_4 11 rfl rfl)
abbrev cX0_nearestRoom : ByteArray := prog_1_method_19_code
def yX0_nearestRoom : MethodName := ⟨RX0, "nearestRoom", "([III)I"⟩
def dkwX0_nearestRoom_1 : List UInt8 := [21, 4, 184, 0, 120, 62, 21, 4, 28, 96, 54, 4, 167, 255, 226, 29, 172]
abbrev dktX0_nearestRoom_1 : List UInt8 := dkwX0_nearestRoom_1 ++ []
def dkwX0_nearestRoom_0 : List UInt8 := [16, 247, 62, 27, 54, 4, 21, 4, 3, 16, 11, 184, 0, 68, 153, 0, 25, 29, 16, 247, 160, 0, 19, 42]
abbrev dktX0_nearestRoom_0 : List UInt8 := dkwX0_nearestRoom_0 ++ dktX0_nearestRoom_1
theorem dksX0_nearestRoom_0 : cX0_nearestRoom.data.toList.drop 0 = dktX0_nearestRoom_0 := by decide +kernel
theorem dksX0_nearestRoom_1 : cX0_nearestRoom.data.toList.drop 24 = dktX0_nearestRoom_1 := dk_seg dksX0_nearestRoom_0 24 rfl rfl
theorem dX0_nearestRoom_0 : decode cX0_nearestRoom 0 = .ok (.bipush (-9), 2) := dk_16 247 (dk_at dksX0_nearestRoom_0 0 rfl rfl)
theorem dX0_nearestRoom_2 : decode cX0_nearestRoom 2 = .ok (.istore_n 3, 1) := dk_62 (dk_at dksX0_nearestRoom_0 2 rfl rfl)
theorem dX0_nearestRoom_3 : decode cX0_nearestRoom 3 = .ok (.iload_n 1, 1) := dk_27 (dk_at dksX0_nearestRoom_0 3 rfl rfl)
theorem dX0_nearestRoom_4 : decode cX0_nearestRoom 4 = .ok (.istore 4, 2) := dk_54 4 (dk_at dksX0_nearestRoom_0 4 rfl rfl)
theorem dX0_nearestRoom_6 : decode cX0_nearestRoom 6 = .ok (.iload 4, 2) := dk_21 4 (dk_at dksX0_nearestRoom_0 6 rfl rfl)
theorem dX0_nearestRoom_8 : decode cX0_nearestRoom 8 = .ok (.iconst 0, 1) := dk_3 (dk_at dksX0_nearestRoom_0 8 rfl rfl)
theorem dX0_nearestRoom_9 : decode cX0_nearestRoom 9 = .ok (.bipush 11, 2) := dk_16 11 (dk_at dksX0_nearestRoom_0 9 rfl rfl)
theorem dX0_nearestRoom_11 : decode cX0_nearestRoom 11 = .ok (.invokestatic 68, 3) := dk_184 0 68 (dk_at dksX0_nearestRoom_0 11 rfl rfl)
theorem dX0_nearestRoom_14 : decode cX0_nearestRoom 14 = .ok (.ifCond .eq 25, 3) := dk_153 0 25 (dk_at dksX0_nearestRoom_0 14 rfl rfl)
theorem dX0_nearestRoom_17 : decode cX0_nearestRoom 17 = .ok (.iload_n 3, 1) := dk_29 (dk_at dksX0_nearestRoom_0 17 rfl rfl)
theorem dX0_nearestRoom_18 : decode cX0_nearestRoom 18 = .ok (.bipush (-9), 2) := dk_16 247 (dk_at dksX0_nearestRoom_0 18 rfl rfl)
theorem dX0_nearestRoom_20 : decode cX0_nearestRoom 20 = .ok (.if_icmp .ne 19, 3) := dk_160 0 19 (dk_at dksX0_nearestRoom_0 20 rfl rfl)
theorem dX0_nearestRoom_23 : decode cX0_nearestRoom 23 = .ok (.aload_n 0, 1) := dk_42 (dk_at dksX0_nearestRoom_0 23 rfl rfl)
theorem dX0_nearestRoom_24 : decode cX0_nearestRoom 24 = .ok (.iload 4, 2) := dk_21 4 (dk_at dksX0_nearestRoom_1 0 rfl rfl)
theorem dX0_nearestRoom_26 : decode cX0_nearestRoom 26 = .ok (.invokestatic 120, 3) := dk_184 0 120 (dk_at dksX0_nearestRoom_1 2 rfl rfl)
theorem dX0_nearestRoom_29 : decode cX0_nearestRoom 29 = .ok (.istore_n 3, 1) := dk_62 (dk_at dksX0_nearestRoom_1 5 rfl rfl)
theorem dX0_nearestRoom_30 : decode cX0_nearestRoom 30 = .ok (.iload 4, 2) := dk_21 4 (dk_at dksX0_nearestRoom_1 6 rfl rfl)
theorem dX0_nearestRoom_32 : decode cX0_nearestRoom 32 = .ok (.iload_n 2, 1) := dk_28 (dk_at dksX0_nearestRoom_1 8 rfl rfl)
theorem dX0_nearestRoom_33 : decode cX0_nearestRoom 33 = .ok (.iadd, 1) := dk_96 (dk_at dksX0_nearestRoom_1 9 rfl rfl)
theorem dX0_nearestRoom_34 : decode cX0_nearestRoom 34 = .ok (.istore 4, 2) := dk_54 4 (dk_at dksX0_nearestRoom_1 10 rfl rfl)
theorem dX0_nearestRoom_36 : decode cX0_nearestRoom 36 = .ok (.goto (-30), 3) := dk_167 255 226 (dk_at dksX0_nearestRoom_1 12 rfl rfl)
theorem dX0_nearestRoom_39 : decode cX0_nearestRoom 39 = .ok (.iload_n 3, 1) := dk_29 (dk_at dksX0_nearestRoom_1 15 rfl rfl)
theorem dX0_nearestRoom_40 : decode cX0_nearestRoom 40 = .ok (.ireturn, 1) := dk_172 (dk_at dksX0_nearestRoom_1 16 rfl rfl)
abbrev cX0_mean : ByteArray := prog_1_method_22_code
def yX0_mean : MethodName := ⟨RX0, "mean", "(I)I"⟩
def dkwX0_mean_4 : List UInt8 := [58, 5, 42, 7, 182, 0, 76, 172]
abbrev dktX0_mean_4 : List UInt8 := dkwX0_mean_4 ++ []
def dkwX0_mean_3 : List UInt8 := [21, 6, 153, 0, 7, 4, 167, 0, 4, 3, 96, 54, 4, 132, 5, 1, 167, 255, 189, 29, 21, 4, 108, 172]
abbrev dktX0_mean_3 : List UInt8 := dkwX0_mean_3 ++ dktX0_mean_4
def dkwX0_mean_2 : List UInt8 := [29, 21, 6, 153, 0, 15, 42, 180, 0, 21, 27, 50, 21, 5, 46, 167, 0, 4, 3, 96, 62, 21, 4]
abbrev dktX0_mean_2 : List UInt8 := dkwX0_mean_2 ++ dktX0_mean_3
def dkwX0_mean_1 : List UInt8 := [162, 0, 66, 42, 180, 0, 21, 27, 50, 21, 5, 46, 16, 247, 159, 0, 7, 4, 167, 0, 4, 3, 54, 6]
abbrev dktX0_mean_1 : List UInt8 := dkwX0_mean_1 ++ dktX0_mean_2
def dkwX0_mean_0 : List UInt8 := [42, 27, 182, 0, 80, 61, 28, 156, 0, 5, 28, 172, 3, 62, 3, 54, 4, 3, 54, 5, 21, 5, 16, 96]
abbrev dktX0_mean_0 : List UInt8 := dkwX0_mean_0 ++ dktX0_mean_1
theorem dksX0_mean_0 : cX0_mean.data.toList.drop 0 = dktX0_mean_0 := by decide +kernel
theorem dksX0_mean_1 : cX0_mean.data.toList.drop 24 = dktX0_mean_1 := dk_seg dksX0_mean_0 24 rfl rfl
theorem dksX0_mean_2 : cX0_mean.data.toList.drop 48 = dktX0_mean_2 := dk_seg dksX0_mean_1 24 rfl rfl
theorem dksX0_mean_3 : cX0_mean.data.toList.drop 71 = dktX0_mean_3 := dk_seg dksX0_mean_2 23 rfl rfl
theorem dksX0_mean_4 : cX0_mean.data.toList.drop 95 = dktX0_mean_4 := dk_seg dksX0_mean_3 24 rfl rfl
theorem dX0_mean_0 : decode cX0_mean 0 = .ok (.aload_n 0, 1) := dk_42 (dk_at dksX0_mean_0 0 rfl rfl)
theorem dX0_mean_1 : decode cX0_mean 1 = .ok (.iload_n 1, 1) := dk_27 (dk_at dksX0_mean_0 1 rfl rfl)
theorem dX0_mean_2 : decode cX0_mean 2 = .ok (.invokevirtual 80, 3) := dk_182 0 80 (dk_at dksX0_mean_0 2 rfl rfl)
theorem dX0_mean_5 : decode cX0_mean 5 = .ok (.istore_n 2, 1) := dk_61 (dk_at dksX0_mean_0 5 rfl rfl)
theorem dX0_mean_6 : decode cX0_mean 6 = .ok (.iload_n 2, 1) := dk_28 (dk_at dksX0_mean_0 6 rfl rfl)
theorem dX0_mean_7 : decode cX0_mean 7 = .ok (.ifCond .ge 5, 3) := dk_156 0 5 (dk_at dksX0_mean_0 7 rfl rfl)
theorem dX0_mean_10 : decode cX0_mean 10 = .ok (.iload_n 2, 1) := dk_28 (dk_at dksX0_mean_0 10 rfl rfl)
theorem dX0_mean_11 : decode cX0_mean 11 = .ok (.ireturn, 1) := dk_172 (dk_at dksX0_mean_0 11 rfl rfl)
theorem dX0_mean_12 : decode cX0_mean 12 = .ok (.iconst 0, 1) := dk_3 (dk_at dksX0_mean_0 12 rfl rfl)
theorem dX0_mean_13 : decode cX0_mean 13 = .ok (.istore_n 3, 1) := dk_62 (dk_at dksX0_mean_0 13 rfl rfl)
theorem dX0_mean_14 : decode cX0_mean 14 = .ok (.iconst 0, 1) := dk_3 (dk_at dksX0_mean_0 14 rfl rfl)
theorem dX0_mean_15 : decode cX0_mean 15 = .ok (.istore 4, 2) := dk_54 4 (dk_at dksX0_mean_0 15 rfl rfl)
theorem dX0_mean_17 : decode cX0_mean 17 = .ok (.iconst 0, 1) := dk_3 (dk_at dksX0_mean_0 17 rfl rfl)
theorem dX0_mean_18 : decode cX0_mean 18 = .ok (.istore 5, 2) := dk_54 5 (dk_at dksX0_mean_0 18 rfl rfl)
theorem dX0_mean_20 : decode cX0_mean 20 = .ok (.iload 5, 2) := dk_21 5 (dk_at dksX0_mean_0 20 rfl rfl)
theorem dX0_mean_22 : decode cX0_mean 22 = .ok (.bipush 96, 2) := dk_16 96 (dk_at dksX0_mean_0 22 rfl rfl)
theorem dX0_mean_24 : decode cX0_mean 24 = .ok (.if_icmp .ge 66, 3) := dk_162 0 66 (dk_at dksX0_mean_1 0 rfl rfl)
theorem dX0_mean_27 : decode cX0_mean 27 = .ok (.aload_n 0, 1) := dk_42 (dk_at dksX0_mean_1 3 rfl rfl)
theorem dX0_mean_28 : decode cX0_mean 28 = .ok (.getfield 21, 3) := dk_180 0 21 (dk_at dksX0_mean_1 4 rfl rfl)
theorem dX0_mean_31 : decode cX0_mean 31 = .ok (.iload_n 1, 1) := dk_27 (dk_at dksX0_mean_1 7 rfl rfl)
theorem dX0_mean_32 : decode cX0_mean 32 = .ok (.aaload, 1) := dk_50 (dk_at dksX0_mean_1 8 rfl rfl)
theorem dX0_mean_33 : decode cX0_mean 33 = .ok (.iload 5, 2) := dk_21 5 (dk_at dksX0_mean_1 9 rfl rfl)
theorem dX0_mean_35 : decode cX0_mean 35 = .ok (.iaload, 1) := dk_46 (dk_at dksX0_mean_1 11 rfl rfl)
theorem dX0_mean_36 : decode cX0_mean 36 = .ok (.bipush (-9), 2) := dk_16 247 (dk_at dksX0_mean_1 12 rfl rfl)
theorem dX0_mean_38 : decode cX0_mean 38 = .ok (.if_icmp .eq 7, 3) := dk_159 0 7 (dk_at dksX0_mean_1 14 rfl rfl)
theorem dX0_mean_41 : decode cX0_mean 41 = .ok (.iconst 1, 1) := dk_4 (dk_at dksX0_mean_1 17 rfl rfl)
theorem dX0_mean_42 : decode cX0_mean 42 = .ok (.goto 4, 3) := dk_167 0 4 (dk_at dksX0_mean_1 18 rfl rfl)
theorem dX0_mean_45 : decode cX0_mean 45 = .ok (.iconst 0, 1) := dk_3 (dk_at dksX0_mean_1 21 rfl rfl)
theorem dX0_mean_46 : decode cX0_mean 46 = .ok (.istore 6, 2) := dk_54 6 (dk_at dksX0_mean_1 22 rfl rfl)
theorem dX0_mean_48 : decode cX0_mean 48 = .ok (.iload_n 3, 1) := dk_29 (dk_at dksX0_mean_2 0 rfl rfl)
theorem dX0_mean_49 : decode cX0_mean 49 = .ok (.iload 6, 2) := dk_21 6 (dk_at dksX0_mean_2 1 rfl rfl)
theorem dX0_mean_51 : decode cX0_mean 51 = .ok (.ifCond .eq 15, 3) := dk_153 0 15 (dk_at dksX0_mean_2 3 rfl rfl)
theorem dX0_mean_54 : decode cX0_mean 54 = .ok (.aload_n 0, 1) := dk_42 (dk_at dksX0_mean_2 6 rfl rfl)
theorem dX0_mean_55 : decode cX0_mean 55 = .ok (.getfield 21, 3) := dk_180 0 21 (dk_at dksX0_mean_2 7 rfl rfl)
theorem dX0_mean_58 : decode cX0_mean 58 = .ok (.iload_n 1, 1) := dk_27 (dk_at dksX0_mean_2 10 rfl rfl)
theorem dX0_mean_59 : decode cX0_mean 59 = .ok (.aaload, 1) := dk_50 (dk_at dksX0_mean_2 11 rfl rfl)
theorem dX0_mean_60 : decode cX0_mean 60 = .ok (.iload 5, 2) := dk_21 5 (dk_at dksX0_mean_2 12 rfl rfl)
theorem dX0_mean_62 : decode cX0_mean 62 = .ok (.iaload, 1) := dk_46 (dk_at dksX0_mean_2 14 rfl rfl)
theorem dX0_mean_63 : decode cX0_mean 63 = .ok (.goto 4, 3) := dk_167 0 4 (dk_at dksX0_mean_2 15 rfl rfl)
theorem dX0_mean_66 : decode cX0_mean 66 = .ok (.iconst 0, 1) := dk_3 (dk_at dksX0_mean_2 18 rfl rfl)
theorem dX0_mean_67 : decode cX0_mean 67 = .ok (.iadd, 1) := dk_96 (dk_at dksX0_mean_2 19 rfl rfl)
theorem dX0_mean_68 : decode cX0_mean 68 = .ok (.istore_n 3, 1) := dk_62 (dk_at dksX0_mean_2 20 rfl rfl)
theorem dX0_mean_69 : decode cX0_mean 69 = .ok (.iload 4, 2) := dk_21 4 (dk_at dksX0_mean_2 21 rfl rfl)
theorem dX0_mean_71 : decode cX0_mean 71 = .ok (.iload 6, 2) := dk_21 6 (dk_at dksX0_mean_3 0 rfl rfl)
theorem dX0_mean_73 : decode cX0_mean 73 = .ok (.ifCond .eq 7, 3) := dk_153 0 7 (dk_at dksX0_mean_3 2 rfl rfl)
theorem dX0_mean_76 : decode cX0_mean 76 = .ok (.iconst 1, 1) := dk_4 (dk_at dksX0_mean_3 5 rfl rfl)
theorem dX0_mean_77 : decode cX0_mean 77 = .ok (.goto 4, 3) := dk_167 0 4 (dk_at dksX0_mean_3 6 rfl rfl)
theorem dX0_mean_80 : decode cX0_mean 80 = .ok (.iconst 0, 1) := dk_3 (dk_at dksX0_mean_3 9 rfl rfl)
theorem dX0_mean_81 : decode cX0_mean 81 = .ok (.iadd, 1) := dk_96 (dk_at dksX0_mean_3 10 rfl rfl)
theorem dX0_mean_82 : decode cX0_mean 82 = .ok (.istore 4, 2) := dk_54 4 (dk_at dksX0_mean_3 11 rfl rfl)
theorem dX0_mean_84 : decode cX0_mean 84 = .ok (.iinc 5 1, 3) := dk_132 5 1 (dk_at dksX0_mean_3 13 rfl rfl)
theorem dX0_mean_87 : decode cX0_mean 87 = .ok (.goto (-67), 3) := dk_167 255 189 (dk_at dksX0_mean_3 16 rfl rfl)
theorem dX0_mean_90 : decode cX0_mean 90 = .ok (.iload_n 3, 1) := dk_29 (dk_at dksX0_mean_3 19 rfl rfl)
theorem dX0_mean_91 : decode cX0_mean 91 = .ok (.iload 4, 2) := dk_21 4 (dk_at dksX0_mean_3 20 rfl rfl)
theorem dX0_mean_93 : decode cX0_mean 93 = .ok (.idiv, 1) := dk_108 (dk_at dksX0_mean_3 22 rfl rfl)
theorem dX0_mean_94 : decode cX0_mean 94 = .ok (.ireturn, 1) := dk_172 (dk_at dksX0_mean_3 23 rfl rfl)
theorem dX0_mean_95 : decode cX0_mean 95 = .ok (.astore 5, 2) := dk_58 5 (dk_at dksX0_mean_4 0 rfl rfl)
theorem dX0_mean_97 : decode cX0_mean 97 = .ok (.aload_n 0, 1) := dk_42 (dk_at dksX0_mean_4 2 rfl rfl)
theorem dX0_mean_98 : decode cX0_mean 98 = .ok (.iconst 4, 1) := dk_7 (dk_at dksX0_mean_4 3 rfl rfl)
theorem dX0_mean_99 : decode cX0_mean 99 = .ok (.invokevirtual 76, 3) := dk_182 0 76 (dk_at dksX0_mean_4 4 rfl rfl)
theorem dX0_mean_102 : decode cX0_mean 102 = .ok (.ireturn, 1) := dk_172 (dk_at dksX0_mean_4 7 rfl rfl)
abbrev cX0_rule : ByteArray := prog_1_method_23_code
def yX0_rule : MethodName := ⟨RX0, "rule", "(IIII)I"⟩
def dkwX0_rule_4 : List UInt8 := [180, 0, 101, 21, 4, 79, 42, 89, 180, 0, 101, 4, 96, 181, 0, 101, 42, 180, 0, 101, 4, 100, 172]
abbrev dktX0_rule_4 : List UInt8 := dkwX0_rule_4 ++ []
def dkwX0_rule_3 : List UInt8 := [180, 0, 28, 42, 180, 0, 101, 28, 79, 42, 180, 0, 31, 42, 180, 0, 101, 29, 79, 42, 180, 0, 34, 42]
abbrev dktX0_rule_3 : List UInt8 := dkwX0_rule_3 ++ dktX0_rule_4
def dkwX0_rule_2 : List UInt8 := [180, 0, 101, 16, 12, 160, 0, 6, 16, 254, 172, 42, 180, 0, 25, 42, 180, 0, 101, 27, 79, 42]
abbrev dktX0_rule_2 : List UInt8 := dkwX0_rule_2 ++ dktX0_rule_3
def dkwX0_rule_1 : List UInt8 := [17, 0, 255, 184, 0, 68, 153, 0, 15, 21, 4, 16, 206, 16, 50, 184, 0, 68, 154, 0, 5, 2, 172, 42]
abbrev dktX0_rule_1 : List UInt8 := dkwX0_rule_1 ++ dktX0_rule_2
def dkwX0_rule_0 : List UInt8 := [27, 3, 16, 11, 184, 0, 68, 153, 0, 36, 28, 27, 16, 11, 184, 0, 68, 153, 0, 26, 29, 4]
abbrev dktX0_rule_0 : List UInt8 := dkwX0_rule_0 ++ dktX0_rule_1
theorem dksX0_rule_0 : cX0_rule.data.toList.drop 0 = dktX0_rule_0 := by decide +kernel
theorem dksX0_rule_1 : cX0_rule.data.toList.drop 22 = dktX0_rule_1 := dk_seg dksX0_rule_0 22 rfl rfl
theorem dksX0_rule_2 : cX0_rule.data.toList.drop 46 = dktX0_rule_2 := dk_seg dksX0_rule_1 24 rfl rfl
theorem dksX0_rule_3 : cX0_rule.data.toList.drop 68 = dktX0_rule_3 := dk_seg dksX0_rule_2 22 rfl rfl
theorem dksX0_rule_4 : cX0_rule.data.toList.drop 92 = dktX0_rule_4 := dk_seg dksX0_rule_3 24 rfl rfl
theorem dX0_rule_0 : decode cX0_rule 0 = .ok (.iload_n 1, 1) := dk_27 (dk_at dksX0_rule_0 0 rfl rfl)
theorem dX0_rule_1 : decode cX0_rule 1 = .ok (.iconst 0, 1) := dk_3 (dk_at dksX0_rule_0 1 rfl rfl)
theorem dX0_rule_2 : decode cX0_rule 2 = .ok (.bipush 11, 2) := dk_16 11 (dk_at dksX0_rule_0 2 rfl rfl)
theorem dX0_rule_4 : decode cX0_rule 4 = .ok (.invokestatic 68, 3) := dk_184 0 68 (dk_at dksX0_rule_0 4 rfl rfl)
theorem dX0_rule_7 : decode cX0_rule 7 = .ok (.ifCond .eq 36, 3) := dk_153 0 36 (dk_at dksX0_rule_0 7 rfl rfl)
theorem dX0_rule_10 : decode cX0_rule 10 = .ok (.iload_n 2, 1) := dk_28 (dk_at dksX0_rule_0 10 rfl rfl)
theorem dX0_rule_11 : decode cX0_rule 11 = .ok (.iload_n 1, 1) := dk_27 (dk_at dksX0_rule_0 11 rfl rfl)
theorem dX0_rule_12 : decode cX0_rule 12 = .ok (.bipush 11, 2) := dk_16 11 (dk_at dksX0_rule_0 12 rfl rfl)
theorem dX0_rule_14 : decode cX0_rule 14 = .ok (.invokestatic 68, 3) := dk_184 0 68 (dk_at dksX0_rule_0 14 rfl rfl)
theorem dX0_rule_17 : decode cX0_rule 17 = .ok (.ifCond .eq 26, 3) := dk_153 0 26 (dk_at dksX0_rule_0 17 rfl rfl)
theorem dX0_rule_20 : decode cX0_rule 20 = .ok (.iload_n 3, 1) := dk_29 (dk_at dksX0_rule_0 20 rfl rfl)
theorem dX0_rule_21 : decode cX0_rule 21 = .ok (.iconst 1, 1) := dk_4 (dk_at dksX0_rule_0 21 rfl rfl)
theorem dX0_rule_22 : decode cX0_rule 22 = .ok (.sipush 255, 3) := dk_17 0 255 (dk_at dksX0_rule_1 0 rfl rfl)
theorem dX0_rule_25 : decode cX0_rule 25 = .ok (.invokestatic 68, 3) := dk_184 0 68 (dk_at dksX0_rule_1 3 rfl rfl)
theorem dX0_rule_28 : decode cX0_rule 28 = .ok (.ifCond .eq 15, 3) := dk_153 0 15 (dk_at dksX0_rule_1 6 rfl rfl)
theorem dX0_rule_31 : decode cX0_rule 31 = .ok (.iload 4, 2) := dk_21 4 (dk_at dksX0_rule_1 9 rfl rfl)
theorem dX0_rule_33 : decode cX0_rule 33 = .ok (.bipush (-50), 2) := dk_16 206 (dk_at dksX0_rule_1 11 rfl rfl)
theorem dX0_rule_35 : decode cX0_rule 35 = .ok (.bipush 50, 2) := dk_16 50 (dk_at dksX0_rule_1 13 rfl rfl)
theorem dX0_rule_37 : decode cX0_rule 37 = .ok (.invokestatic 68, 3) := dk_184 0 68 (dk_at dksX0_rule_1 15 rfl rfl)
theorem dX0_rule_40 : decode cX0_rule 40 = .ok (.ifCond .ne 5, 3) := dk_154 0 5 (dk_at dksX0_rule_1 18 rfl rfl)
theorem dX0_rule_43 : decode cX0_rule 43 = .ok (.iconst (-1), 1) := dk_2 (dk_at dksX0_rule_1 21 rfl rfl)
theorem dX0_rule_44 : decode cX0_rule 44 = .ok (.ireturn, 1) := dk_172 (dk_at dksX0_rule_1 22 rfl rfl)
theorem dX0_rule_45 : decode cX0_rule 45 = .ok (.aload_n 0, 1) := dk_42 (dk_at dksX0_rule_1 23 rfl rfl)
theorem dX0_rule_46 : decode cX0_rule 46 = .ok (.getfield 101, 3) := dk_180 0 101 (dk_at dksX0_rule_2 0 rfl rfl)
theorem dX0_rule_49 : decode cX0_rule 49 = .ok (.bipush 12, 2) := dk_16 12 (dk_at dksX0_rule_2 3 rfl rfl)
theorem dX0_rule_51 : decode cX0_rule 51 = .ok (.if_icmp .ne 6, 3) := dk_160 0 6 (dk_at dksX0_rule_2 5 rfl rfl)
theorem dX0_rule_54 : decode cX0_rule 54 = .ok (.bipush (-2), 2) := dk_16 254 (dk_at dksX0_rule_2 8 rfl rfl)
theorem dX0_rule_56 : decode cX0_rule 56 = .ok (.ireturn, 1) := dk_172 (dk_at dksX0_rule_2 10 rfl rfl)
theorem dX0_rule_57 : decode cX0_rule 57 = .ok (.aload_n 0, 1) := dk_42 (dk_at dksX0_rule_2 11 rfl rfl)
theorem dX0_rule_58 : decode cX0_rule 58 = .ok (.getfield 25, 3) := dk_180 0 25 (dk_at dksX0_rule_2 12 rfl rfl)
theorem dX0_rule_61 : decode cX0_rule 61 = .ok (.aload_n 0, 1) := dk_42 (dk_at dksX0_rule_2 15 rfl rfl)
theorem dX0_rule_62 : decode cX0_rule 62 = .ok (.getfield 101, 3) := dk_180 0 101 (dk_at dksX0_rule_2 16 rfl rfl)
theorem dX0_rule_65 : decode cX0_rule 65 = .ok (.iload_n 1, 1) := dk_27 (dk_at dksX0_rule_2 19 rfl rfl)
theorem dX0_rule_66 : decode cX0_rule 66 = .ok (.iastore, 1) := dk_79 (dk_at dksX0_rule_2 20 rfl rfl)
theorem dX0_rule_67 : decode cX0_rule 67 = .ok (.aload_n 0, 1) := dk_42 (dk_at dksX0_rule_2 21 rfl rfl)
theorem dX0_rule_68 : decode cX0_rule 68 = .ok (.getfield 28, 3) := dk_180 0 28 (dk_at dksX0_rule_3 0 rfl rfl)
theorem dX0_rule_71 : decode cX0_rule 71 = .ok (.aload_n 0, 1) := dk_42 (dk_at dksX0_rule_3 3 rfl rfl)
theorem dX0_rule_72 : decode cX0_rule 72 = .ok (.getfield 101, 3) := dk_180 0 101 (dk_at dksX0_rule_3 4 rfl rfl)
theorem dX0_rule_75 : decode cX0_rule 75 = .ok (.iload_n 2, 1) := dk_28 (dk_at dksX0_rule_3 7 rfl rfl)
theorem dX0_rule_76 : decode cX0_rule 76 = .ok (.iastore, 1) := dk_79 (dk_at dksX0_rule_3 8 rfl rfl)
theorem dX0_rule_77 : decode cX0_rule 77 = .ok (.aload_n 0, 1) := dk_42 (dk_at dksX0_rule_3 9 rfl rfl)
theorem dX0_rule_78 : decode cX0_rule 78 = .ok (.getfield 31, 3) := dk_180 0 31 (dk_at dksX0_rule_3 10 rfl rfl)
theorem dX0_rule_81 : decode cX0_rule 81 = .ok (.aload_n 0, 1) := dk_42 (dk_at dksX0_rule_3 13 rfl rfl)
theorem dX0_rule_82 : decode cX0_rule 82 = .ok (.getfield 101, 3) := dk_180 0 101 (dk_at dksX0_rule_3 14 rfl rfl)
theorem dX0_rule_85 : decode cX0_rule 85 = .ok (.iload_n 3, 1) := dk_29 (dk_at dksX0_rule_3 17 rfl rfl)
theorem dX0_rule_86 : decode cX0_rule 86 = .ok (.iastore, 1) := dk_79 (dk_at dksX0_rule_3 18 rfl rfl)
theorem dX0_rule_87 : decode cX0_rule 87 = .ok (.aload_n 0, 1) := dk_42 (dk_at dksX0_rule_3 19 rfl rfl)
theorem dX0_rule_88 : decode cX0_rule 88 = .ok (.getfield 34, 3) := dk_180 0 34 (dk_at dksX0_rule_3 20 rfl rfl)
theorem dX0_rule_91 : decode cX0_rule 91 = .ok (.aload_n 0, 1) := dk_42 (dk_at dksX0_rule_3 23 rfl rfl)
theorem dX0_rule_92 : decode cX0_rule 92 = .ok (.getfield 101, 3) := dk_180 0 101 (dk_at dksX0_rule_4 0 rfl rfl)
theorem dX0_rule_95 : decode cX0_rule 95 = .ok (.iload 4, 2) := dk_21 4 (dk_at dksX0_rule_4 3 rfl rfl)
theorem dX0_rule_97 : decode cX0_rule 97 = .ok (.iastore, 1) := dk_79 (dk_at dksX0_rule_4 5 rfl rfl)
theorem dX0_rule_98 : decode cX0_rule 98 = .ok (.aload_n 0, 1) := dk_42 (dk_at dksX0_rule_4 6 rfl rfl)
theorem dX0_rule_99 : decode cX0_rule 99 = .ok (.dup, 1) := dk_89 (dk_at dksX0_rule_4 7 rfl rfl)
theorem dX0_rule_100 : decode cX0_rule 100 = .ok (.getfield 101, 3) := dk_180 0 101 (dk_at dksX0_rule_4 8 rfl rfl)
theorem dX0_rule_103 : decode cX0_rule 103 = .ok (.iconst 1, 1) := dk_4 (dk_at dksX0_rule_4 11 rfl rfl)
theorem dX0_rule_104 : decode cX0_rule 104 = .ok (.iadd, 1) := dk_96 (dk_at dksX0_rule_4 12 rfl rfl)
theorem dX0_rule_105 : decode cX0_rule 105 = .ok (.putfield 101, 3) := dk_181 0 101 (dk_at dksX0_rule_4 13 rfl rfl)
theorem dX0_rule_108 : decode cX0_rule 108 = .ok (.aload_n 0, 1) := dk_42 (dk_at dksX0_rule_4 16 rfl rfl)
theorem dX0_rule_109 : decode cX0_rule 109 = .ok (.getfield 101, 3) := dk_180 0 101 (dk_at dksX0_rule_4 17 rfl rfl)
theorem dX0_rule_112 : decode cX0_rule 112 = .ok (.iconst 1, 1) := dk_4 (dk_at dksX0_rule_4 20 rfl rfl)
theorem dX0_rule_113 : decode cX0_rule 113 = .ok (.isub, 1) := dk_100 (dk_at dksX0_rule_4 21 rfl rfl)
theorem dX0_rule_114 : decode cX0_rule 114 = .ok (.ireturn, 1) := dk_172 (dk_at dksX0_rule_4 22 rfl rfl)
abbrev cX0_ply : ByteArray := prog_1_method_24_code
def yX0_ply : MethodName := ⟨RX0, "ply", "(I)I"⟩
def dkwX0_ply_3 : List UInt8 := [172]
abbrev dktX0_ply_3 : List UInt8 := dkwX0_ply_3 ++ []
def dkwX0_ply_2 : List UInt8 := [42, 180, 0, 37, 42, 180, 0, 136, 27, 79, 42, 89, 180, 0, 136, 4, 96, 181, 0, 136, 42, 180, 0, 136]
abbrev dktX0_ply_2 : List UInt8 := dkwX0_ply_2 ++ dktX0_ply_3
def dkwX0_ply_1 : List UInt8 := [96, 17, 3, 232, 184, 0, 68, 154, 0, 5, 2, 172, 42, 180, 0, 136, 16, 8, 160, 0, 6, 16, 254, 172]
abbrev dktX0_ply_1 : List UInt8 := dkwX0_ply_1 ++ dktX0_ply_2
def dkwX0_ply_0 : List UInt8 := [27, 42, 180, 0, 136, 154, 0, 7, 4, 167, 0, 16, 42, 180, 0, 37, 42, 180, 0, 136, 4, 100, 46, 4]
abbrev dktX0_ply_0 : List UInt8 := dkwX0_ply_0 ++ dktX0_ply_1
theorem dksX0_ply_0 : cX0_ply.data.toList.drop 0 = dktX0_ply_0 := by decide +kernel
theorem dksX0_ply_1 : cX0_ply.data.toList.drop 24 = dktX0_ply_1 := dk_seg dksX0_ply_0 24 rfl rfl
theorem dksX0_ply_2 : cX0_ply.data.toList.drop 48 = dktX0_ply_2 := dk_seg dksX0_ply_1 24 rfl rfl
theorem dksX0_ply_3 : cX0_ply.data.toList.drop 72 = dktX0_ply_3 := dk_seg dksX0_ply_2 24 rfl rfl
theorem dX0_ply_0 : decode cX0_ply 0 = .ok (.iload_n 1, 1) := dk_27 (dk_at dksX0_ply_0 0 rfl rfl)
theorem dX0_ply_1 : decode cX0_ply 1 = .ok (.aload_n 0, 1) := dk_42 (dk_at dksX0_ply_0 1 rfl rfl)
theorem dX0_ply_2 : decode cX0_ply 2 = .ok (.getfield 136, 3) := dk_180 0 136 (dk_at dksX0_ply_0 2 rfl rfl)
theorem dX0_ply_5 : decode cX0_ply 5 = .ok (.ifCond .ne 7, 3) := dk_154 0 7 (dk_at dksX0_ply_0 5 rfl rfl)
theorem dX0_ply_8 : decode cX0_ply 8 = .ok (.iconst 1, 1) := dk_4 (dk_at dksX0_ply_0 8 rfl rfl)
theorem dX0_ply_9 : decode cX0_ply 9 = .ok (.goto 16, 3) := dk_167 0 16 (dk_at dksX0_ply_0 9 rfl rfl)
theorem dX0_ply_12 : decode cX0_ply 12 = .ok (.aload_n 0, 1) := dk_42 (dk_at dksX0_ply_0 12 rfl rfl)
theorem dX0_ply_13 : decode cX0_ply 13 = .ok (.getfield 37, 3) := dk_180 0 37 (dk_at dksX0_ply_0 13 rfl rfl)
theorem dX0_ply_16 : decode cX0_ply 16 = .ok (.aload_n 0, 1) := dk_42 (dk_at dksX0_ply_0 16 rfl rfl)
theorem dX0_ply_17 : decode cX0_ply 17 = .ok (.getfield 136, 3) := dk_180 0 136 (dk_at dksX0_ply_0 17 rfl rfl)
theorem dX0_ply_20 : decode cX0_ply 20 = .ok (.iconst 1, 1) := dk_4 (dk_at dksX0_ply_0 20 rfl rfl)
theorem dX0_ply_21 : decode cX0_ply 21 = .ok (.isub, 1) := dk_100 (dk_at dksX0_ply_0 21 rfl rfl)
theorem dX0_ply_22 : decode cX0_ply 22 = .ok (.iaload, 1) := dk_46 (dk_at dksX0_ply_0 22 rfl rfl)
theorem dX0_ply_23 : decode cX0_ply 23 = .ok (.iconst 1, 1) := dk_4 (dk_at dksX0_ply_0 23 rfl rfl)
theorem dX0_ply_24 : decode cX0_ply 24 = .ok (.iadd, 1) := dk_96 (dk_at dksX0_ply_1 0 rfl rfl)
theorem dX0_ply_25 : decode cX0_ply 25 = .ok (.sipush 1000, 3) := dk_17 3 232 (dk_at dksX0_ply_1 1 rfl rfl)
theorem dX0_ply_28 : decode cX0_ply 28 = .ok (.invokestatic 68, 3) := dk_184 0 68 (dk_at dksX0_ply_1 4 rfl rfl)
theorem dX0_ply_31 : decode cX0_ply 31 = .ok (.ifCond .ne 5, 3) := dk_154 0 5 (dk_at dksX0_ply_1 7 rfl rfl)
theorem dX0_ply_34 : decode cX0_ply 34 = .ok (.iconst (-1), 1) := dk_2 (dk_at dksX0_ply_1 10 rfl rfl)
theorem dX0_ply_35 : decode cX0_ply 35 = .ok (.ireturn, 1) := dk_172 (dk_at dksX0_ply_1 11 rfl rfl)
theorem dX0_ply_36 : decode cX0_ply 36 = .ok (.aload_n 0, 1) := dk_42 (dk_at dksX0_ply_1 12 rfl rfl)
theorem dX0_ply_37 : decode cX0_ply 37 = .ok (.getfield 136, 3) := dk_180 0 136 (dk_at dksX0_ply_1 13 rfl rfl)
theorem dX0_ply_40 : decode cX0_ply 40 = .ok (.bipush 8, 2) := dk_16 8 (dk_at dksX0_ply_1 16 rfl rfl)
theorem dX0_ply_42 : decode cX0_ply 42 = .ok (.if_icmp .ne 6, 3) := dk_160 0 6 (dk_at dksX0_ply_1 18 rfl rfl)
theorem dX0_ply_45 : decode cX0_ply 45 = .ok (.bipush (-2), 2) := dk_16 254 (dk_at dksX0_ply_1 21 rfl rfl)
theorem dX0_ply_47 : decode cX0_ply 47 = .ok (.ireturn, 1) := dk_172 (dk_at dksX0_ply_1 23 rfl rfl)
theorem dX0_ply_48 : decode cX0_ply 48 = .ok (.aload_n 0, 1) := dk_42 (dk_at dksX0_ply_2 0 rfl rfl)
theorem dX0_ply_49 : decode cX0_ply 49 = .ok (.getfield 37, 3) := dk_180 0 37 (dk_at dksX0_ply_2 1 rfl rfl)
theorem dX0_ply_52 : decode cX0_ply 52 = .ok (.aload_n 0, 1) := dk_42 (dk_at dksX0_ply_2 4 rfl rfl)
theorem dX0_ply_53 : decode cX0_ply 53 = .ok (.getfield 136, 3) := dk_180 0 136 (dk_at dksX0_ply_2 5 rfl rfl)
theorem dX0_ply_56 : decode cX0_ply 56 = .ok (.iload_n 1, 1) := dk_27 (dk_at dksX0_ply_2 8 rfl rfl)
theorem dX0_ply_57 : decode cX0_ply 57 = .ok (.iastore, 1) := dk_79 (dk_at dksX0_ply_2 9 rfl rfl)
theorem dX0_ply_58 : decode cX0_ply 58 = .ok (.aload_n 0, 1) := dk_42 (dk_at dksX0_ply_2 10 rfl rfl)
theorem dX0_ply_59 : decode cX0_ply 59 = .ok (.dup, 1) := dk_89 (dk_at dksX0_ply_2 11 rfl rfl)
theorem dX0_ply_60 : decode cX0_ply 60 = .ok (.getfield 136, 3) := dk_180 0 136 (dk_at dksX0_ply_2 12 rfl rfl)
theorem dX0_ply_63 : decode cX0_ply 63 = .ok (.iconst 1, 1) := dk_4 (dk_at dksX0_ply_2 15 rfl rfl)
theorem dX0_ply_64 : decode cX0_ply 64 = .ok (.iadd, 1) := dk_96 (dk_at dksX0_ply_2 16 rfl rfl)
theorem dX0_ply_65 : decode cX0_ply 65 = .ok (.putfield 136, 3) := dk_181 0 136 (dk_at dksX0_ply_2 17 rfl rfl)
theorem dX0_ply_68 : decode cX0_ply 68 = .ok (.aload_n 0, 1) := dk_42 (dk_at dksX0_ply_2 20 rfl rfl)
theorem dX0_ply_69 : decode cX0_ply 69 = .ok (.getfield 136, 3) := dk_180 0 136 (dk_at dksX0_ply_2 21 rfl rfl)
theorem dX0_ply_72 : decode cX0_ply 72 = .ok (.ireturn, 1) := dk_172 (dk_at dksX0_ply_3 0 rfl rfl)
abbrev cX0_plies : ByteArray := prog_1_method_25_code
def yX0_plies : MethodName := ⟨RX0, "plies", "(II)I"⟩
def dkwX0_plies_5 : List UInt8 := [132, 8, 1, 167, 255, 220, 21, 7, 172, 58, 5, 42, 7, 182, 0, 76, 172]
abbrev dktX0_plies_5 : List UInt8 := dkwX0_plies_5 ++ []
def dkwX0_plies_4 : List UInt8 := [42, 180, 0, 37, 21, 8, 46, 133, 22, 5, 148, 157, 0, 7, 4, 167, 0, 4, 3, 96, 54, 7]
abbrev dktX0_plies_4 : List UInt8 := dkwX0_plies_4 ++ dktX0_plies_5
def dkwX0_plies_3 : List UInt8 := [133, 105, 29, 133, 109, 55, 5, 3, 54, 7, 3, 54, 8, 21, 8, 42, 180, 0, 136, 162, 0, 33, 21, 7]
abbrev dktX0_plies_3 : List UInt8 := dkwX0_plies_3 ++ dktX0_plies_4
def dkwX0_plies_2 : List UInt8 := [3, 184, 0, 130, 62, 42, 180, 0, 21, 28, 50, 3, 184, 0, 130, 54, 4, 20, 0, 139, 29, 21, 4, 100]
abbrev dktX0_plies_2 : List UInt8 := dkwX0_plies_2 ++ dktX0_plies_3
def dkwX0_plies_1 : List UInt8 := [198, 0, 12, 42, 180, 0, 21, 28, 50, 199, 0, 9, 42, 4, 182, 0, 76, 172, 42, 180, 0, 21, 27, 50]
abbrev dktX0_plies_1 : List UInt8 := dkwX0_plies_1 ++ dktX0_plies_2
def dkwX0_plies_0 : List UInt8 := [27, 184, 0, 72, 153, 0, 10, 28, 184, 0, 72, 154, 0, 5, 2, 172, 42, 180, 0, 21, 27, 50]
abbrev dktX0_plies_0 : List UInt8 := dkwX0_plies_0 ++ dktX0_plies_1
theorem dksX0_plies_0 : cX0_plies.data.toList.drop 0 = dktX0_plies_0 := by decide +kernel
theorem dksX0_plies_1 : cX0_plies.data.toList.drop 22 = dktX0_plies_1 := dk_seg dksX0_plies_0 22 rfl rfl
theorem dksX0_plies_2 : cX0_plies.data.toList.drop 46 = dktX0_plies_2 := dk_seg dksX0_plies_1 24 rfl rfl
theorem dksX0_plies_3 : cX0_plies.data.toList.drop 70 = dktX0_plies_3 := dk_seg dksX0_plies_2 24 rfl rfl
theorem dksX0_plies_4 : cX0_plies.data.toList.drop 94 = dktX0_plies_4 := dk_seg dksX0_plies_3 24 rfl rfl
theorem dksX0_plies_5 : cX0_plies.data.toList.drop 116 = dktX0_plies_5 := dk_seg dksX0_plies_4 22 rfl rfl
theorem dX0_plies_0 : decode cX0_plies 0 = .ok (.iload_n 1, 1) := dk_27 (dk_at dksX0_plies_0 0 rfl rfl)
theorem dX0_plies_1 : decode cX0_plies 1 = .ok (.invokestatic 72, 3) := dk_184 0 72 (dk_at dksX0_plies_0 1 rfl rfl)
theorem dX0_plies_4 : decode cX0_plies 4 = .ok (.ifCond .eq 10, 3) := dk_153 0 10 (dk_at dksX0_plies_0 4 rfl rfl)
theorem dX0_plies_7 : decode cX0_plies 7 = .ok (.iload_n 2, 1) := dk_28 (dk_at dksX0_plies_0 7 rfl rfl)
theorem dX0_plies_8 : decode cX0_plies 8 = .ok (.invokestatic 72, 3) := dk_184 0 72 (dk_at dksX0_plies_0 8 rfl rfl)
theorem dX0_plies_11 : decode cX0_plies 11 = .ok (.ifCond .ne 5, 3) := dk_154 0 5 (dk_at dksX0_plies_0 11 rfl rfl)
theorem dX0_plies_14 : decode cX0_plies 14 = .ok (.iconst (-1), 1) := dk_2 (dk_at dksX0_plies_0 14 rfl rfl)
theorem dX0_plies_15 : decode cX0_plies 15 = .ok (.ireturn, 1) := dk_172 (dk_at dksX0_plies_0 15 rfl rfl)
theorem dX0_plies_16 : decode cX0_plies 16 = .ok (.aload_n 0, 1) := dk_42 (dk_at dksX0_plies_0 16 rfl rfl)
theorem dX0_plies_17 : decode cX0_plies 17 = .ok (.getfield 21, 3) := dk_180 0 21 (dk_at dksX0_plies_0 17 rfl rfl)
theorem dX0_plies_20 : decode cX0_plies 20 = .ok (.iload_n 1, 1) := dk_27 (dk_at dksX0_plies_0 20 rfl rfl)
theorem dX0_plies_21 : decode cX0_plies 21 = .ok (.aaload, 1) := dk_50 (dk_at dksX0_plies_0 21 rfl rfl)
theorem dX0_plies_22 : decode cX0_plies 22 = .ok (.ifnull 12, 3) := dk_198 0 12 (dk_at dksX0_plies_1 0 rfl rfl)
theorem dX0_plies_25 : decode cX0_plies 25 = .ok (.aload_n 0, 1) := dk_42 (dk_at dksX0_plies_1 3 rfl rfl)
theorem dX0_plies_26 : decode cX0_plies 26 = .ok (.getfield 21, 3) := dk_180 0 21 (dk_at dksX0_plies_1 4 rfl rfl)
theorem dX0_plies_29 : decode cX0_plies 29 = .ok (.iload_n 2, 1) := dk_28 (dk_at dksX0_plies_1 7 rfl rfl)
theorem dX0_plies_30 : decode cX0_plies 30 = .ok (.aaload, 1) := dk_50 (dk_at dksX0_plies_1 8 rfl rfl)
theorem dX0_plies_31 : decode cX0_plies 31 = .ok (.ifnonnull 9, 3) := dk_199 0 9 (dk_at dksX0_plies_1 9 rfl rfl)
theorem dX0_plies_34 : decode cX0_plies 34 = .ok (.aload_n 0, 1) := dk_42 (dk_at dksX0_plies_1 12 rfl rfl)
theorem dX0_plies_35 : decode cX0_plies 35 = .ok (.iconst 1, 1) := dk_4 (dk_at dksX0_plies_1 13 rfl rfl)
theorem dX0_plies_36 : decode cX0_plies 36 = .ok (.invokevirtual 76, 3) := dk_182 0 76 (dk_at dksX0_plies_1 14 rfl rfl)
theorem dX0_plies_39 : decode cX0_plies 39 = .ok (.ireturn, 1) := dk_172 (dk_at dksX0_plies_1 17 rfl rfl)
theorem dX0_plies_40 : decode cX0_plies 40 = .ok (.aload_n 0, 1) := dk_42 (dk_at dksX0_plies_1 18 rfl rfl)
theorem dX0_plies_41 : decode cX0_plies 41 = .ok (.getfield 21, 3) := dk_180 0 21 (dk_at dksX0_plies_1 19 rfl rfl)
theorem dX0_plies_44 : decode cX0_plies 44 = .ok (.iload_n 1, 1) := dk_27 (dk_at dksX0_plies_1 22 rfl rfl)
theorem dX0_plies_45 : decode cX0_plies 45 = .ok (.aaload, 1) := dk_50 (dk_at dksX0_plies_1 23 rfl rfl)
theorem dX0_plies_46 : decode cX0_plies 46 = .ok (.iconst 0, 1) := dk_3 (dk_at dksX0_plies_2 0 rfl rfl)
theorem dX0_plies_47 : decode cX0_plies 47 = .ok (.invokestatic 130, 3) := dk_184 0 130 (dk_at dksX0_plies_2 1 rfl rfl)
theorem dX0_plies_50 : decode cX0_plies 50 = .ok (.istore_n 3, 1) := dk_62 (dk_at dksX0_plies_2 4 rfl rfl)
theorem dX0_plies_51 : decode cX0_plies 51 = .ok (.aload_n 0, 1) := dk_42 (dk_at dksX0_plies_2 5 rfl rfl)
theorem dX0_plies_52 : decode cX0_plies 52 = .ok (.getfield 21, 3) := dk_180 0 21 (dk_at dksX0_plies_2 6 rfl rfl)
theorem dX0_plies_55 : decode cX0_plies 55 = .ok (.iload_n 2, 1) := dk_28 (dk_at dksX0_plies_2 9 rfl rfl)
theorem dX0_plies_56 : decode cX0_plies 56 = .ok (.aaload, 1) := dk_50 (dk_at dksX0_plies_2 10 rfl rfl)
theorem dX0_plies_57 : decode cX0_plies 57 = .ok (.iconst 0, 1) := dk_3 (dk_at dksX0_plies_2 11 rfl rfl)
theorem dX0_plies_58 : decode cX0_plies 58 = .ok (.invokestatic 130, 3) := dk_184 0 130 (dk_at dksX0_plies_2 12 rfl rfl)
theorem dX0_plies_61 : decode cX0_plies 61 = .ok (.istore 4, 2) := dk_54 4 (dk_at dksX0_plies_2 15 rfl rfl)
theorem dX0_plies_63 : decode cX0_plies 63 = .ok (.ldc2_w 139, 3) := dk_20 0 139 (dk_at dksX0_plies_2 17 rfl rfl)
theorem dX0_plies_66 : decode cX0_plies 66 = .ok (.iload_n 3, 1) := dk_29 (dk_at dksX0_plies_2 20 rfl rfl)
theorem dX0_plies_67 : decode cX0_plies 67 = .ok (.iload 4, 2) := dk_21 4 (dk_at dksX0_plies_2 21 rfl rfl)
theorem dX0_plies_69 : decode cX0_plies 69 = .ok (.isub, 1) := dk_100 (dk_at dksX0_plies_2 23 rfl rfl)
theorem dX0_plies_70 : decode cX0_plies 70 = .ok (.i2l, 1) := dk_133 (dk_at dksX0_plies_3 0 rfl rfl)
theorem dX0_plies_71 : decode cX0_plies 71 = .ok (.lmul, 1) := dk_105 (dk_at dksX0_plies_3 1 rfl rfl)
theorem dX0_plies_72 : decode cX0_plies 72 = .ok (.iload_n 3, 1) := dk_29 (dk_at dksX0_plies_3 2 rfl rfl)
theorem dX0_plies_73 : decode cX0_plies 73 = .ok (.i2l, 1) := dk_133 (dk_at dksX0_plies_3 3 rfl rfl)
theorem dX0_plies_74 : decode cX0_plies 74 = .ok (.ldiv, 1) := dk_109 (dk_at dksX0_plies_3 4 rfl rfl)
theorem dX0_plies_75 : decode cX0_plies 75 = .ok (.lstore 5, 2) := dk_55 5 (dk_at dksX0_plies_3 5 rfl rfl)
theorem dX0_plies_77 : decode cX0_plies 77 = .ok (.iconst 0, 1) := dk_3 (dk_at dksX0_plies_3 7 rfl rfl)
theorem dX0_plies_78 : decode cX0_plies 78 = .ok (.istore 7, 2) := dk_54 7 (dk_at dksX0_plies_3 8 rfl rfl)
theorem dX0_plies_80 : decode cX0_plies 80 = .ok (.iconst 0, 1) := dk_3 (dk_at dksX0_plies_3 10 rfl rfl)
theorem dX0_plies_81 : decode cX0_plies 81 = .ok (.istore 8, 2) := dk_54 8 (dk_at dksX0_plies_3 11 rfl rfl)
theorem dX0_plies_83 : decode cX0_plies 83 = .ok (.iload 8, 2) := dk_21 8 (dk_at dksX0_plies_3 13 rfl rfl)
theorem dX0_plies_85 : decode cX0_plies 85 = .ok (.aload_n 0, 1) := dk_42 (dk_at dksX0_plies_3 15 rfl rfl)
theorem dX0_plies_86 : decode cX0_plies 86 = .ok (.getfield 136, 3) := dk_180 0 136 (dk_at dksX0_plies_3 16 rfl rfl)
theorem dX0_plies_89 : decode cX0_plies 89 = .ok (.if_icmp .ge 33, 3) := dk_162 0 33 (dk_at dksX0_plies_3 19 rfl rfl)
theorem dX0_plies_92 : decode cX0_plies 92 = .ok (.iload 7, 2) := dk_21 7 (dk_at dksX0_plies_3 22 rfl rfl)
theorem dX0_plies_94 : decode cX0_plies 94 = .ok (.aload_n 0, 1) := dk_42 (dk_at dksX0_plies_4 0 rfl rfl)
theorem dX0_plies_95 : decode cX0_plies 95 = .ok (.getfield 37, 3) := dk_180 0 37 (dk_at dksX0_plies_4 1 rfl rfl)
theorem dX0_plies_98 : decode cX0_plies 98 = .ok (.iload 8, 2) := dk_21 8 (dk_at dksX0_plies_4 4 rfl rfl)
theorem dX0_plies_100 : decode cX0_plies 100 = .ok (.iaload, 1) := dk_46 (dk_at dksX0_plies_4 6 rfl rfl)
theorem dX0_plies_101 : decode cX0_plies 101 = .ok (.i2l, 1) := dk_133 (dk_at dksX0_plies_4 7 rfl rfl)
theorem dX0_plies_102 : decode cX0_plies 102 = .ok (.lload 5, 2) := dk_22 5 (dk_at dksX0_plies_4 8 rfl rfl)
theorem dX0_plies_104 : decode cX0_plies 104 = .ok (.lcmp, 1) := dk_148 (dk_at dksX0_plies_4 10 rfl rfl)
theorem dX0_plies_105 : decode cX0_plies 105 = .ok (.ifCond .gt 7, 3) := dk_157 0 7 (dk_at dksX0_plies_4 11 rfl rfl)
theorem dX0_plies_108 : decode cX0_plies 108 = .ok (.iconst 1, 1) := dk_4 (dk_at dksX0_plies_4 14 rfl rfl)
theorem dX0_plies_109 : decode cX0_plies 109 = .ok (.goto 4, 3) := dk_167 0 4 (dk_at dksX0_plies_4 15 rfl rfl)
theorem dX0_plies_112 : decode cX0_plies 112 = .ok (.iconst 0, 1) := dk_3 (dk_at dksX0_plies_4 18 rfl rfl)
theorem dX0_plies_113 : decode cX0_plies 113 = .ok (.iadd, 1) := dk_96 (dk_at dksX0_plies_4 19 rfl rfl)
theorem dX0_plies_114 : decode cX0_plies 114 = .ok (.istore 7, 2) := dk_54 7 (dk_at dksX0_plies_4 20 rfl rfl)
theorem dX0_plies_116 : decode cX0_plies 116 = .ok (.iinc 8 1, 3) := dk_132 8 1 (dk_at dksX0_plies_5 0 rfl rfl)
theorem dX0_plies_119 : decode cX0_plies 119 = .ok (.goto (-36), 3) := dk_167 255 220 (dk_at dksX0_plies_5 3 rfl rfl)
theorem dX0_plies_122 : decode cX0_plies 122 = .ok (.iload 7, 2) := dk_21 7 (dk_at dksX0_plies_5 6 rfl rfl)
theorem dX0_plies_124 : decode cX0_plies 124 = .ok (.ireturn, 1) := dk_172 (dk_at dksX0_plies_5 8 rfl rfl)
theorem dX0_plies_125 : decode cX0_plies 125 = .ok (.astore 5, 2) := dk_58 5 (dk_at dksX0_plies_5 9 rfl rfl)
theorem dX0_plies_127 : decode cX0_plies 127 = .ok (.aload_n 0, 1) := dk_42 (dk_at dksX0_plies_5 11 rfl rfl)
theorem dX0_plies_128 : decode cX0_plies 128 = .ok (.iconst 4, 1) := dk_7 (dk_at dksX0_plies_5 12 rfl rfl)
theorem dX0_plies_129 : decode cX0_plies 129 = .ok (.invokevirtual 76, 3) := dk_182 0 76 (dk_at dksX0_plies_5 13 rfl rfl)
theorem dX0_plies_132 : decode cX0_plies 132 = .ok (.ireturn, 1) := dk_172 (dk_at dksX0_plies_5 16 rfl rfl)
abbrev cX0_part : ByteArray := prog_1_method_28_code
def yX0_part : MethodName := ⟨RX0, "part", "(IIIIIII)I"⟩
def dkwX0_part_12 : List UInt8 := [180, 0, 141, 4, 96, 181, 0, 141, 21, 8, 172]
abbrev dktX0_part_12 : List UInt8 := dkwX0_part_12 ++ []
def dkwX0_part_11 : List UInt8 := [21, 8, 187, 0, 40, 89, 42, 21, 8, 28, 29, 21, 4, 21, 5, 21, 6, 183, 0, 163, 83, 42, 89]
abbrev dktX0_part_11 : List UInt8 := dkwX0_part_11 ++ dktX0_part_12
def dkwX0_part_10 : List UInt8 := [21, 8, 28, 29, 21, 4, 21, 5, 21, 6, 21, 7, 183, 0, 160, 83, 167, 0, 28, 42, 180, 0, 42]
abbrev dktX0_part_10 : List UInt8 := dkwX0_part_10 ++ dktX0_part_11
def dkwX0_part_9 : List UInt8 := [21, 4, 21, 5, 21, 6, 183, 0, 157, 83, 167, 0, 58, 42, 180, 0, 42, 21, 8, 187, 0, 158, 89, 42]
abbrev dktX0_part_9 : List UInt8 := dkwX0_part_9 ++ dktX0_part_10
def dkwX0_part_8 : List UInt8 := [21, 6, 183, 0, 154, 83, 167, 0, 86, 42, 180, 0, 42, 21, 8, 187, 0, 155, 89, 42, 21, 8, 28, 29]
abbrev dktX0_part_8 : List UInt8 := dkwX0_part_8 ++ dktX0_part_9
def dkwX0_part_7 : List UInt8 := [83, 167, 0, 114, 42, 180, 0, 42, 21, 8, 187, 0, 152, 89, 42, 21, 8, 28, 29, 21, 4, 21, 5]
abbrev dktX0_part_7 : List UInt8 := dkwX0_part_7 ++ dktX0_part_8
def dkwX0_part_6 : List UInt8 := [42, 180, 0, 42, 21, 8, 187, 0, 147, 89, 42, 21, 8, 28, 29, 21, 4, 21, 5, 21, 6, 183, 0, 149]
abbrev dktX0_part_6 : List UInt8 := dkwX0_part_6 ++ dktX0_part_7
def dkwX0_part_5 : List UInt8 := [170, 0, 0, 0, 143, 0, 0, 0, 1, 0, 0, 0, 4, 0, 0, 0, 29, 0, 0, 0, 57, 0, 0, 0, 85, 0, 0, 0, 113]
abbrev dktX0_part_5 : List UInt8 := dkwX0_part_5 ++ dktX0_part_6
def dkwX0_part_4 : List UInt8 := [160, 0, 6, 16, 254, 172, 42, 180, 0, 141, 54, 8, 27]
abbrev dktX0_part_4 : List UInt8 := dkwX0_part_4 ++ dktX0_part_5
def dkwX0_part_3 : List UInt8 := [17, 1, 44, 28, 4, 100, 184, 0, 127, 184, 0, 68, 154, 0, 5, 2, 172, 42, 180, 0, 141, 16, 16]
abbrev dktX0_part_3 : List UInt8 := dkwX0_part_3 ++ dktX0_part_4
def dkwX0_part_2 : List UInt8 := [184, 0, 144, 153, 0, 34, 21, 6, 184, 0, 144, 153, 0, 26, 27, 7, 160, 0, 23, 21, 7, 3]
abbrev dktX0_part_2 : List UInt8 := dkwX0_part_2 ++ dktX0_part_3
def dkwX0_part_1 : List UInt8 := [17, 1, 44, 184, 0, 68, 153, 0, 54, 21, 4, 3, 17, 39, 16, 184, 0, 68, 153, 0, 42, 21, 5]
abbrev dktX0_part_1 : List UInt8 := dkwX0_part_1 ++ dktX0_part_2
def dkwX0_part_0 : List UInt8 := [27, 3, 7, 184, 0, 68, 153, 0, 76, 28, 4, 17, 1, 244, 184, 0, 68, 153, 0, 65, 29, 4]
abbrev dktX0_part_0 : List UInt8 := dkwX0_part_0 ++ dktX0_part_1
theorem dksX0_part_0 : cX0_part.data.toList.drop 0 = dktX0_part_0 := by decide +kernel
theorem dksX0_part_1 : cX0_part.data.toList.drop 22 = dktX0_part_1 := dk_seg dksX0_part_0 22 rfl rfl
theorem dksX0_part_2 : cX0_part.data.toList.drop 45 = dktX0_part_2 := dk_seg dksX0_part_1 23 rfl rfl
theorem dksX0_part_3 : cX0_part.data.toList.drop 67 = dktX0_part_3 := dk_seg dksX0_part_2 22 rfl rfl
theorem dksX0_part_4 : cX0_part.data.toList.drop 90 = dktX0_part_4 := dk_seg dksX0_part_3 23 rfl rfl
theorem dksX0_part_5 : cX0_part.data.toList.drop 103 = dktX0_part_5 := dk_seg dksX0_part_4 13 rfl rfl
theorem dksX0_part_6 : cX0_part.data.toList.drop 132 = dktX0_part_6 := dk_seg dksX0_part_5 29 rfl rfl
theorem dksX0_part_7 : cX0_part.data.toList.drop 156 = dktX0_part_7 := dk_seg dksX0_part_6 24 rfl rfl
theorem dksX0_part_8 : cX0_part.data.toList.drop 179 = dktX0_part_8 := dk_seg dksX0_part_7 23 rfl rfl
theorem dksX0_part_9 : cX0_part.data.toList.drop 203 = dktX0_part_9 := dk_seg dksX0_part_8 24 rfl rfl
theorem dksX0_part_10 : cX0_part.data.toList.drop 227 = dktX0_part_10 := dk_seg dksX0_part_9 24 rfl rfl
theorem dksX0_part_11 : cX0_part.data.toList.drop 250 = dktX0_part_11 := dk_seg dksX0_part_10 23 rfl rfl
theorem dksX0_part_12 : cX0_part.data.toList.drop 273 = dktX0_part_12 := dk_seg dksX0_part_11 23 rfl rfl
theorem dX0_part_0 : decode cX0_part 0 = .ok (.iload_n 1, 1) := dk_27 (dk_at dksX0_part_0 0 rfl rfl)
theorem dX0_part_1 : decode cX0_part 1 = .ok (.iconst 0, 1) := dk_3 (dk_at dksX0_part_0 1 rfl rfl)
theorem dX0_part_2 : decode cX0_part 2 = .ok (.iconst 4, 1) := dk_7 (dk_at dksX0_part_0 2 rfl rfl)
theorem dX0_part_3 : decode cX0_part 3 = .ok (.invokestatic 68, 3) := dk_184 0 68 (dk_at dksX0_part_0 3 rfl rfl)
theorem dX0_part_6 : decode cX0_part 6 = .ok (.ifCond .eq 76, 3) := dk_153 0 76 (dk_at dksX0_part_0 6 rfl rfl)
theorem dX0_part_9 : decode cX0_part 9 = .ok (.iload_n 2, 1) := dk_28 (dk_at dksX0_part_0 9 rfl rfl)
theorem dX0_part_10 : decode cX0_part 10 = .ok (.iconst 1, 1) := dk_4 (dk_at dksX0_part_0 10 rfl rfl)
theorem dX0_part_11 : decode cX0_part 11 = .ok (.sipush 500, 3) := dk_17 1 244 (dk_at dksX0_part_0 11 rfl rfl)
theorem dX0_part_14 : decode cX0_part 14 = .ok (.invokestatic 68, 3) := dk_184 0 68 (dk_at dksX0_part_0 14 rfl rfl)
theorem dX0_part_17 : decode cX0_part 17 = .ok (.ifCond .eq 65, 3) := dk_153 0 65 (dk_at dksX0_part_0 17 rfl rfl)
theorem dX0_part_20 : decode cX0_part 20 = .ok (.iload_n 3, 1) := dk_29 (dk_at dksX0_part_0 20 rfl rfl)
theorem dX0_part_21 : decode cX0_part 21 = .ok (.iconst 1, 1) := dk_4 (dk_at dksX0_part_0 21 rfl rfl)
theorem dX0_part_22 : decode cX0_part 22 = .ok (.sipush 300, 3) := dk_17 1 44 (dk_at dksX0_part_1 0 rfl rfl)
theorem dX0_part_25 : decode cX0_part 25 = .ok (.invokestatic 68, 3) := dk_184 0 68 (dk_at dksX0_part_1 3 rfl rfl)
theorem dX0_part_28 : decode cX0_part 28 = .ok (.ifCond .eq 54, 3) := dk_153 0 54 (dk_at dksX0_part_1 6 rfl rfl)
theorem dX0_part_31 : decode cX0_part 31 = .ok (.iload 4, 2) := dk_21 4 (dk_at dksX0_part_1 9 rfl rfl)
theorem dX0_part_33 : decode cX0_part 33 = .ok (.iconst 0, 1) := dk_3 (dk_at dksX0_part_1 11 rfl rfl)
theorem dX0_part_34 : decode cX0_part 34 = .ok (.sipush 10000, 3) := dk_17 39 16 (dk_at dksX0_part_1 12 rfl rfl)
theorem dX0_part_37 : decode cX0_part 37 = .ok (.invokestatic 68, 3) := dk_184 0 68 (dk_at dksX0_part_1 15 rfl rfl)
theorem dX0_part_40 : decode cX0_part 40 = .ok (.ifCond .eq 42, 3) := dk_153 0 42 (dk_at dksX0_part_1 18 rfl rfl)
theorem dX0_part_43 : decode cX0_part 43 = .ok (.iload 5, 2) := dk_21 5 (dk_at dksX0_part_1 21 rfl rfl)
theorem dX0_part_45 : decode cX0_part 45 = .ok (.invokestatic 144, 3) := dk_184 0 144 (dk_at dksX0_part_2 0 rfl rfl)
theorem dX0_part_48 : decode cX0_part 48 = .ok (.ifCond .eq 34, 3) := dk_153 0 34 (dk_at dksX0_part_2 3 rfl rfl)
theorem dX0_part_51 : decode cX0_part 51 = .ok (.iload 6, 2) := dk_21 6 (dk_at dksX0_part_2 6 rfl rfl)
theorem dX0_part_53 : decode cX0_part 53 = .ok (.invokestatic 144, 3) := dk_184 0 144 (dk_at dksX0_part_2 8 rfl rfl)
theorem dX0_part_56 : decode cX0_part 56 = .ok (.ifCond .eq 26, 3) := dk_153 0 26 (dk_at dksX0_part_2 11 rfl rfl)
theorem dX0_part_59 : decode cX0_part 59 = .ok (.iload_n 1, 1) := dk_27 (dk_at dksX0_part_2 14 rfl rfl)
theorem dX0_part_60 : decode cX0_part 60 = .ok (.iconst 4, 1) := dk_7 (dk_at dksX0_part_2 15 rfl rfl)
theorem dX0_part_61 : decode cX0_part 61 = .ok (.if_icmp .ne 23, 3) := dk_160 0 23 (dk_at dksX0_part_2 16 rfl rfl)
theorem dX0_part_64 : decode cX0_part 64 = .ok (.iload 7, 2) := dk_21 7 (dk_at dksX0_part_2 19 rfl rfl)
theorem dX0_part_66 : decode cX0_part 66 = .ok (.iconst 0, 1) := dk_3 (dk_at dksX0_part_2 21 rfl rfl)
theorem dX0_part_67 : decode cX0_part 67 = .ok (.sipush 300, 3) := dk_17 1 44 (dk_at dksX0_part_3 0 rfl rfl)
theorem dX0_part_70 : decode cX0_part 70 = .ok (.iload_n 2, 1) := dk_28 (dk_at dksX0_part_3 3 rfl rfl)
theorem dX0_part_71 : decode cX0_part 71 = .ok (.iconst 1, 1) := dk_4 (dk_at dksX0_part_3 4 rfl rfl)
theorem dX0_part_72 : decode cX0_part 72 = .ok (.isub, 1) := dk_100 (dk_at dksX0_part_3 5 rfl rfl)
theorem dX0_part_73 : decode cX0_part 73 = .ok (.invokestatic 127, 3) := dk_184 0 127 (dk_at dksX0_part_3 6 rfl rfl)
theorem dX0_part_76 : decode cX0_part 76 = .ok (.invokestatic 68, 3) := dk_184 0 68 (dk_at dksX0_part_3 9 rfl rfl)
theorem dX0_part_79 : decode cX0_part 79 = .ok (.ifCond .ne 5, 3) := dk_154 0 5 (dk_at dksX0_part_3 12 rfl rfl)
theorem dX0_part_82 : decode cX0_part 82 = .ok (.iconst (-1), 1) := dk_2 (dk_at dksX0_part_3 15 rfl rfl)
theorem dX0_part_83 : decode cX0_part 83 = .ok (.ireturn, 1) := dk_172 (dk_at dksX0_part_3 16 rfl rfl)
theorem dX0_part_84 : decode cX0_part 84 = .ok (.aload_n 0, 1) := dk_42 (dk_at dksX0_part_3 17 rfl rfl)
theorem dX0_part_85 : decode cX0_part 85 = .ok (.getfield 141, 3) := dk_180 0 141 (dk_at dksX0_part_3 18 rfl rfl)
theorem dX0_part_88 : decode cX0_part 88 = .ok (.bipush 16, 2) := dk_16 16 (dk_at dksX0_part_3 21 rfl rfl)
theorem dX0_part_90 : decode cX0_part 90 = .ok (.if_icmp .ne 6, 3) := dk_160 0 6 (dk_at dksX0_part_4 0 rfl rfl)
theorem dX0_part_93 : decode cX0_part 93 = .ok (.bipush (-2), 2) := dk_16 254 (dk_at dksX0_part_4 3 rfl rfl)
theorem dX0_part_95 : decode cX0_part 95 = .ok (.ireturn, 1) := dk_172 (dk_at dksX0_part_4 5 rfl rfl)
theorem dX0_part_96 : decode cX0_part 96 = .ok (.aload_n 0, 1) := dk_42 (dk_at dksX0_part_4 6 rfl rfl)
theorem dX0_part_97 : decode cX0_part 97 = .ok (.getfield 141, 3) := dk_180 0 141 (dk_at dksX0_part_4 7 rfl rfl)
theorem dX0_part_100 : decode cX0_part 100 = .ok (.istore 8, 2) := dk_54 8 (dk_at dksX0_part_4 10 rfl rfl)
theorem dX0_part_102 : decode cX0_part 102 = .ok (.iload_n 1, 1) := dk_27 (dk_at dksX0_part_4 12 rfl rfl)
theorem dX0_part_103 : decode cX0_part 103 = .ok (.tableswitch 143 1 4 #[29, 57, 85, 113], 29) := by decide +kernel
theorem dX0_part_132 : decode cX0_part 132 = .ok (.aload_n 0, 1) := dk_42 (dk_at dksX0_part_6 0 rfl rfl)
theorem dX0_part_133 : decode cX0_part 133 = .ok (.getfield 42, 3) := dk_180 0 42 (dk_at dksX0_part_6 1 rfl rfl)
theorem dX0_part_136 : decode cX0_part 136 = .ok (.iload 8, 2) := dk_21 8 (dk_at dksX0_part_6 4 rfl rfl)
theorem dX0_part_138 : decode cX0_part 138 = .ok (.new 147, 3) := dk_187 0 147 (dk_at dksX0_part_6 6 rfl rfl)
theorem dX0_part_141 : decode cX0_part 141 = .ok (.dup, 1) := dk_89 (dk_at dksX0_part_6 9 rfl rfl)
theorem dX0_part_142 : decode cX0_part 142 = .ok (.aload_n 0, 1) := dk_42 (dk_at dksX0_part_6 10 rfl rfl)
theorem dX0_part_143 : decode cX0_part 143 = .ok (.iload 8, 2) := dk_21 8 (dk_at dksX0_part_6 11 rfl rfl)
theorem dX0_part_145 : decode cX0_part 145 = .ok (.iload_n 2, 1) := dk_28 (dk_at dksX0_part_6 13 rfl rfl)
theorem dX0_part_146 : decode cX0_part 146 = .ok (.iload_n 3, 1) := dk_29 (dk_at dksX0_part_6 14 rfl rfl)
theorem dX0_part_147 : decode cX0_part 147 = .ok (.iload 4, 2) := dk_21 4 (dk_at dksX0_part_6 15 rfl rfl)
theorem dX0_part_149 : decode cX0_part 149 = .ok (.iload 5, 2) := dk_21 5 (dk_at dksX0_part_6 17 rfl rfl)
theorem dX0_part_151 : decode cX0_part 151 = .ok (.iload 6, 2) := dk_21 6 (dk_at dksX0_part_6 19 rfl rfl)
theorem dX0_part_153 : decode cX0_part 153 = .ok (.invokespecial 149, 3) := dk_183 0 149 (dk_at dksX0_part_6 21 rfl rfl)
theorem dX0_part_156 : decode cX0_part 156 = .ok (.aastore, 1) := dk_83 (dk_at dksX0_part_7 0 rfl rfl)
theorem dX0_part_157 : decode cX0_part 157 = .ok (.goto 114, 3) := dk_167 0 114 (dk_at dksX0_part_7 1 rfl rfl)
theorem dX0_part_160 : decode cX0_part 160 = .ok (.aload_n 0, 1) := dk_42 (dk_at dksX0_part_7 4 rfl rfl)
theorem dX0_part_161 : decode cX0_part 161 = .ok (.getfield 42, 3) := dk_180 0 42 (dk_at dksX0_part_7 5 rfl rfl)
theorem dX0_part_164 : decode cX0_part 164 = .ok (.iload 8, 2) := dk_21 8 (dk_at dksX0_part_7 8 rfl rfl)
theorem dX0_part_166 : decode cX0_part 166 = .ok (.new 152, 3) := dk_187 0 152 (dk_at dksX0_part_7 10 rfl rfl)
theorem dX0_part_169 : decode cX0_part 169 = .ok (.dup, 1) := dk_89 (dk_at dksX0_part_7 13 rfl rfl)
theorem dX0_part_170 : decode cX0_part 170 = .ok (.aload_n 0, 1) := dk_42 (dk_at dksX0_part_7 14 rfl rfl)
theorem dX0_part_171 : decode cX0_part 171 = .ok (.iload 8, 2) := dk_21 8 (dk_at dksX0_part_7 15 rfl rfl)
theorem dX0_part_173 : decode cX0_part 173 = .ok (.iload_n 2, 1) := dk_28 (dk_at dksX0_part_7 17 rfl rfl)
theorem dX0_part_174 : decode cX0_part 174 = .ok (.iload_n 3, 1) := dk_29 (dk_at dksX0_part_7 18 rfl rfl)
theorem dX0_part_175 : decode cX0_part 175 = .ok (.iload 4, 2) := dk_21 4 (dk_at dksX0_part_7 19 rfl rfl)
theorem dX0_part_177 : decode cX0_part 177 = .ok (.iload 5, 2) := dk_21 5 (dk_at dksX0_part_7 21 rfl rfl)
theorem dX0_part_179 : decode cX0_part 179 = .ok (.iload 6, 2) := dk_21 6 (dk_at dksX0_part_8 0 rfl rfl)
theorem dX0_part_181 : decode cX0_part 181 = .ok (.invokespecial 154, 3) := dk_183 0 154 (dk_at dksX0_part_8 2 rfl rfl)
theorem dX0_part_184 : decode cX0_part 184 = .ok (.aastore, 1) := dk_83 (dk_at dksX0_part_8 5 rfl rfl)
theorem dX0_part_185 : decode cX0_part 185 = .ok (.goto 86, 3) := dk_167 0 86 (dk_at dksX0_part_8 6 rfl rfl)
theorem dX0_part_188 : decode cX0_part 188 = .ok (.aload_n 0, 1) := dk_42 (dk_at dksX0_part_8 9 rfl rfl)
theorem dX0_part_189 : decode cX0_part 189 = .ok (.getfield 42, 3) := dk_180 0 42 (dk_at dksX0_part_8 10 rfl rfl)
theorem dX0_part_192 : decode cX0_part 192 = .ok (.iload 8, 2) := dk_21 8 (dk_at dksX0_part_8 13 rfl rfl)
theorem dX0_part_194 : decode cX0_part 194 = .ok (.new 155, 3) := dk_187 0 155 (dk_at dksX0_part_8 15 rfl rfl)
theorem dX0_part_197 : decode cX0_part 197 = .ok (.dup, 1) := dk_89 (dk_at dksX0_part_8 18 rfl rfl)
theorem dX0_part_198 : decode cX0_part 198 = .ok (.aload_n 0, 1) := dk_42 (dk_at dksX0_part_8 19 rfl rfl)
theorem dX0_part_199 : decode cX0_part 199 = .ok (.iload 8, 2) := dk_21 8 (dk_at dksX0_part_8 20 rfl rfl)
theorem dX0_part_201 : decode cX0_part 201 = .ok (.iload_n 2, 1) := dk_28 (dk_at dksX0_part_8 22 rfl rfl)
theorem dX0_part_202 : decode cX0_part 202 = .ok (.iload_n 3, 1) := dk_29 (dk_at dksX0_part_8 23 rfl rfl)
theorem dX0_part_203 : decode cX0_part 203 = .ok (.iload 4, 2) := dk_21 4 (dk_at dksX0_part_9 0 rfl rfl)
theorem dX0_part_205 : decode cX0_part 205 = .ok (.iload 5, 2) := dk_21 5 (dk_at dksX0_part_9 2 rfl rfl)
theorem dX0_part_207 : decode cX0_part 207 = .ok (.iload 6, 2) := dk_21 6 (dk_at dksX0_part_9 4 rfl rfl)
theorem dX0_part_209 : decode cX0_part 209 = .ok (.invokespecial 157, 3) := dk_183 0 157 (dk_at dksX0_part_9 6 rfl rfl)
theorem dX0_part_212 : decode cX0_part 212 = .ok (.aastore, 1) := dk_83 (dk_at dksX0_part_9 9 rfl rfl)
theorem dX0_part_213 : decode cX0_part 213 = .ok (.goto 58, 3) := dk_167 0 58 (dk_at dksX0_part_9 10 rfl rfl)
theorem dX0_part_216 : decode cX0_part 216 = .ok (.aload_n 0, 1) := dk_42 (dk_at dksX0_part_9 13 rfl rfl)
theorem dX0_part_217 : decode cX0_part 217 = .ok (.getfield 42, 3) := dk_180 0 42 (dk_at dksX0_part_9 14 rfl rfl)
theorem dX0_part_220 : decode cX0_part 220 = .ok (.iload 8, 2) := dk_21 8 (dk_at dksX0_part_9 17 rfl rfl)
theorem dX0_part_222 : decode cX0_part 222 = .ok (.new 158, 3) := dk_187 0 158 (dk_at dksX0_part_9 19 rfl rfl)
theorem dX0_part_225 : decode cX0_part 225 = .ok (.dup, 1) := dk_89 (dk_at dksX0_part_9 22 rfl rfl)
theorem dX0_part_226 : decode cX0_part 226 = .ok (.aload_n 0, 1) := dk_42 (dk_at dksX0_part_9 23 rfl rfl)
theorem dX0_part_227 : decode cX0_part 227 = .ok (.iload 8, 2) := dk_21 8 (dk_at dksX0_part_10 0 rfl rfl)
theorem dX0_part_229 : decode cX0_part 229 = .ok (.iload_n 2, 1) := dk_28 (dk_at dksX0_part_10 2 rfl rfl)
theorem dX0_part_230 : decode cX0_part 230 = .ok (.iload_n 3, 1) := dk_29 (dk_at dksX0_part_10 3 rfl rfl)
theorem dX0_part_231 : decode cX0_part 231 = .ok (.iload 4, 2) := dk_21 4 (dk_at dksX0_part_10 4 rfl rfl)
theorem dX0_part_233 : decode cX0_part 233 = .ok (.iload 5, 2) := dk_21 5 (dk_at dksX0_part_10 6 rfl rfl)
theorem dX0_part_235 : decode cX0_part 235 = .ok (.iload 6, 2) := dk_21 6 (dk_at dksX0_part_10 8 rfl rfl)
theorem dX0_part_237 : decode cX0_part 237 = .ok (.iload 7, 2) := dk_21 7 (dk_at dksX0_part_10 10 rfl rfl)
theorem dX0_part_239 : decode cX0_part 239 = .ok (.invokespecial 160, 3) := dk_183 0 160 (dk_at dksX0_part_10 12 rfl rfl)
theorem dX0_part_242 : decode cX0_part 242 = .ok (.aastore, 1) := dk_83 (dk_at dksX0_part_10 15 rfl rfl)
theorem dX0_part_243 : decode cX0_part 243 = .ok (.goto 28, 3) := dk_167 0 28 (dk_at dksX0_part_10 16 rfl rfl)
theorem dX0_part_246 : decode cX0_part 246 = .ok (.aload_n 0, 1) := dk_42 (dk_at dksX0_part_10 19 rfl rfl)
theorem dX0_part_247 : decode cX0_part 247 = .ok (.getfield 42, 3) := dk_180 0 42 (dk_at dksX0_part_10 20 rfl rfl)
theorem dX0_part_250 : decode cX0_part 250 = .ok (.iload 8, 2) := dk_21 8 (dk_at dksX0_part_11 0 rfl rfl)
theorem dX0_part_252 : decode cX0_part 252 = .ok (.new 40, 3) := dk_187 0 40 (dk_at dksX0_part_11 2 rfl rfl)
theorem dX0_part_255 : decode cX0_part 255 = .ok (.dup, 1) := dk_89 (dk_at dksX0_part_11 5 rfl rfl)
theorem dX0_part_256 : decode cX0_part 256 = .ok (.aload_n 0, 1) := dk_42 (dk_at dksX0_part_11 6 rfl rfl)
theorem dX0_part_257 : decode cX0_part 257 = .ok (.iload 8, 2) := dk_21 8 (dk_at dksX0_part_11 7 rfl rfl)
theorem dX0_part_259 : decode cX0_part 259 = .ok (.iload_n 2, 1) := dk_28 (dk_at dksX0_part_11 9 rfl rfl)
theorem dX0_part_260 : decode cX0_part 260 = .ok (.iload_n 3, 1) := dk_29 (dk_at dksX0_part_11 10 rfl rfl)
theorem dX0_part_261 : decode cX0_part 261 = .ok (.iload 4, 2) := dk_21 4 (dk_at dksX0_part_11 11 rfl rfl)
theorem dX0_part_263 : decode cX0_part 263 = .ok (.iload 5, 2) := dk_21 5 (dk_at dksX0_part_11 13 rfl rfl)
theorem dX0_part_265 : decode cX0_part 265 = .ok (.iload 6, 2) := dk_21 6 (dk_at dksX0_part_11 15 rfl rfl)
theorem dX0_part_267 : decode cX0_part 267 = .ok (.invokespecial 163, 3) := dk_183 0 163 (dk_at dksX0_part_11 17 rfl rfl)
theorem dX0_part_270 : decode cX0_part 270 = .ok (.aastore, 1) := dk_83 (dk_at dksX0_part_11 20 rfl rfl)
theorem dX0_part_271 : decode cX0_part 271 = .ok (.aload_n 0, 1) := dk_42 (dk_at dksX0_part_11 21 rfl rfl)
theorem dX0_part_272 : decode cX0_part 272 = .ok (.dup, 1) := dk_89 (dk_at dksX0_part_11 22 rfl rfl)
theorem dX0_part_273 : decode cX0_part 273 = .ok (.getfield 141, 3) := dk_180 0 141 (dk_at dksX0_part_12 0 rfl rfl)
theorem dX0_part_276 : decode cX0_part 276 = .ok (.iconst 1, 1) := dk_4 (dk_at dksX0_part_12 3 rfl rfl)
theorem dX0_part_277 : decode cX0_part 277 = .ok (.iadd, 1) := dk_96 (dk_at dksX0_part_12 4 rfl rfl)
theorem dX0_part_278 : decode cX0_part 278 = .ok (.putfield 141, 3) := dk_181 0 141 (dk_at dksX0_part_12 5 rfl rfl)
theorem dX0_part_281 : decode cX0_part 281 = .ok (.iload 8, 2) := dk_21 8 (dk_at dksX0_part_12 8 rfl rfl)
theorem dX0_part_283 : decode cX0_part 283 = .ok (.ireturn, 1) := dk_172 (dk_at dksX0_part_12 10 rfl rfl)
abbrev cX0_isEnd : ByteArray := prog_1_method_27_code
def yX0_isEnd : MethodName := ⟨RX0, "isEnd", "(I)Z"⟩
def dkwX0_isEnd_0 : List UInt8 := [26, 3, 16, 7, 184, 0, 68, 172]
abbrev dktX0_isEnd_0 : List UInt8 := dkwX0_isEnd_0 ++ []
theorem dksX0_isEnd_0 : cX0_isEnd.data.toList.drop 0 = dktX0_isEnd_0 := by decide +kernel
theorem dX0_isEnd_0 : decode cX0_isEnd 0 = .ok (.iload_n 0, 1) := dk_26 (dk_at dksX0_isEnd_0 0 rfl rfl)
theorem dX0_isEnd_1 : decode cX0_isEnd 1 = .ok (.iconst 0, 1) := dk_3 (dk_at dksX0_isEnd_0 1 rfl rfl)
theorem dX0_isEnd_2 : decode cX0_isEnd 2 = .ok (.bipush 7, 2) := dk_16 7 (dk_at dksX0_isEnd_0 2 rfl rfl)
theorem dX0_isEnd_4 : decode cX0_isEnd 4 = .ok (.invokestatic 68, 3) := dk_184 0 68 (dk_at dksX0_isEnd_0 4 rfl rfl)
theorem dX0_isEnd_7 : decode cX0_isEnd 7 = .ok (.ireturn, 1) := dk_172 (dk_at dksX0_isEnd_0 7 rfl rfl)
abbrev cX0_told : ByteArray := prog_1_method_30_code
def yX0_told : MethodName := ⟨RX0, "told", "(II)I"⟩
def dkwX0_told_1 : List UInt8 := [28, 184, 0, 190, 167, 0, 4, 2, 172]
abbrev dktX0_told_1 : List UInt8 := dkwX0_told_1 ++ []
def dkwX0_told_0 : List UInt8 := [42, 27, 182, 0, 187, 153, 0, 26, 28, 3, 16, 6, 184, 0, 68, 153, 0, 16, 42, 180, 0, 42, 27, 50]
abbrev dktX0_told_0 : List UInt8 := dkwX0_told_0 ++ dktX0_told_1
theorem dksX0_told_0 : cX0_told.data.toList.drop 0 = dktX0_told_0 := by decide +kernel
theorem dksX0_told_1 : cX0_told.data.toList.drop 24 = dktX0_told_1 := dk_seg dksX0_told_0 24 rfl rfl
theorem dX0_told_0 : decode cX0_told 0 = .ok (.aload_n 0, 1) := dk_42 (dk_at dksX0_told_0 0 rfl rfl)
theorem dX0_told_1 : decode cX0_told 1 = .ok (.iload_n 1, 1) := dk_27 (dk_at dksX0_told_0 1 rfl rfl)
theorem dX0_told_2 : decode cX0_told 2 = .ok (.invokevirtual 187, 3) := dk_182 0 187 (dk_at dksX0_told_0 2 rfl rfl)
theorem dX0_told_5 : decode cX0_told 5 = .ok (.ifCond .eq 26, 3) := dk_153 0 26 (dk_at dksX0_told_0 5 rfl rfl)
theorem dX0_told_8 : decode cX0_told 8 = .ok (.iload_n 2, 1) := dk_28 (dk_at dksX0_told_0 8 rfl rfl)
theorem dX0_told_9 : decode cX0_told 9 = .ok (.iconst 0, 1) := dk_3 (dk_at dksX0_told_0 9 rfl rfl)
theorem dX0_told_10 : decode cX0_told 10 = .ok (.bipush 6, 2) := dk_16 6 (dk_at dksX0_told_0 10 rfl rfl)
theorem dX0_told_12 : decode cX0_told 12 = .ok (.invokestatic 68, 3) := dk_184 0 68 (dk_at dksX0_told_0 12 rfl rfl)
theorem dX0_told_15 : decode cX0_told 15 = .ok (.ifCond .eq 16, 3) := dk_153 0 16 (dk_at dksX0_told_0 15 rfl rfl)
theorem dX0_told_18 : decode cX0_told 18 = .ok (.aload_n 0, 1) := dk_42 (dk_at dksX0_told_0 18 rfl rfl)
theorem dX0_told_19 : decode cX0_told 19 = .ok (.getfield 42, 3) := dk_180 0 42 (dk_at dksX0_told_0 19 rfl rfl)
theorem dX0_told_22 : decode cX0_told 22 = .ok (.iload_n 1, 1) := dk_27 (dk_at dksX0_told_0 22 rfl rfl)
theorem dX0_told_23 : decode cX0_told 23 = .ok (.aaload, 1) := dk_50 (dk_at dksX0_told_0 23 rfl rfl)
theorem dX0_told_24 : decode cX0_told 24 = .ok (.iload_n 2, 1) := dk_28 (dk_at dksX0_told_1 0 rfl rfl)
theorem dX0_told_25 : decode cX0_told 25 = .ok (.invokestatic 190, 3) := dk_184 0 190 (dk_at dksX0_told_1 1 rfl rfl)
theorem dX0_told_28 : decode cX0_told 28 = .ok (.goto 4, 3) := dk_167 0 4 (dk_at dksX0_told_1 4 rfl rfl)
theorem dX0_told_31 : decode cX0_told 31 = .ok (.iconst (-1), 1) := dk_2 (dk_at dksX0_told_1 7 rfl rfl)
theorem dX0_told_32 : decode cX0_told 32 = .ok (.ireturn, 1) := dk_172 (dk_at dksX0_told_1 8 rfl rfl)
abbrev cX0_isPart : ByteArray := prog_1_method_26_code
def yX0_isPart : MethodName := ⟨RX0, "isPart", "(I)Z"⟩
def dkwX0_isPart_0 : List UInt8 := [27, 3, 42, 180, 0, 141, 4, 100, 184, 0, 68, 172]
abbrev dktX0_isPart_0 : List UInt8 := dkwX0_isPart_0 ++ []
theorem dksX0_isPart_0 : cX0_isPart.data.toList.drop 0 = dktX0_isPart_0 := by decide +kernel
theorem dX0_isPart_0 : decode cX0_isPart 0 = .ok (.iload_n 1, 1) := dk_27 (dk_at dksX0_isPart_0 0 rfl rfl)
theorem dX0_isPart_1 : decode cX0_isPart 1 = .ok (.iconst 0, 1) := dk_3 (dk_at dksX0_isPart_0 1 rfl rfl)
theorem dX0_isPart_2 : decode cX0_isPart 2 = .ok (.aload_n 0, 1) := dk_42 (dk_at dksX0_isPart_0 2 rfl rfl)
theorem dX0_isPart_3 : decode cX0_isPart 3 = .ok (.getfield 141, 3) := dk_180 0 141 (dk_at dksX0_isPart_0 3 rfl rfl)
theorem dX0_isPart_6 : decode cX0_isPart 6 = .ok (.iconst 1, 1) := dk_4 (dk_at dksX0_isPart_0 6 rfl rfl)
theorem dX0_isPart_7 : decode cX0_isPart 7 = .ok (.isub, 1) := dk_100 (dk_at dksX0_isPart_0 7 rfl rfl)
theorem dX0_isPart_8 : decode cX0_isPart 8 = .ok (.invokestatic 68, 3) := dk_184 0 68 (dk_at dksX0_isPart_0 8 rfl rfl)
theorem dX0_isPart_11 : decode cX0_isPart 11 = .ok (.ireturn, 1) := dk_172 (dk_at dksX0_isPart_0 11 rfl rfl)
abbrev cX0_toldOf : ByteArray := prog_1_method_29_code
def yX0_toldOf : MethodName := ⟨RX0, "toldOf", "(LLimbMaker$Part;I)I"⟩
def dkwX0_toldOf_3 : List UInt8 := [172, 42, 180, 0, 180, 172, 42, 180, 0, 183, 153, 0, 7, 4, 167, 0, 4, 3, 172]
abbrev dktX0_toldOf_3 : List UInt8 := dkwX0_toldOf_3 ++ []
def dkwX0_toldOf_2 : List UInt8 := [42, 182, 0, 164, 172, 42, 180, 0, 168, 172, 42, 180, 0, 171, 172, 42, 180, 0, 174, 172, 42, 180, 0, 177]
abbrev dktX0_toldOf_2 : List UInt8 := dkwX0_toldOf_2 ++ dktX0_toldOf_3
def dkwX0_toldOf_1 : List UInt8 := [170, 0, 0, 0, 0, 0, 69, 0, 0, 0, 0, 0, 0, 0, 5, 0, 0, 0, 39, 0, 0, 0, 44, 0, 0, 0, 49, 0, 0, 0, 54, 0, 0, 0, 59, 0, 0, 0, 64]
abbrev dktX0_toldOf_1 : List UInt8 := dkwX0_toldOf_1 ++ dktX0_toldOf_2
def dkwX0_toldOf_0 : List UInt8 := [27]
abbrev dktX0_toldOf_0 : List UInt8 := dkwX0_toldOf_0 ++ dktX0_toldOf_1
theorem dksX0_toldOf_0 : cX0_toldOf.data.toList.drop 0 = dktX0_toldOf_0 := by decide +kernel
theorem dksX0_toldOf_1 : cX0_toldOf.data.toList.drop 1 = dktX0_toldOf_1 := dk_seg dksX0_toldOf_0 1 rfl rfl
theorem dksX0_toldOf_2 : cX0_toldOf.data.toList.drop 40 = dktX0_toldOf_2 := dk_seg dksX0_toldOf_1 39 rfl rfl
theorem dksX0_toldOf_3 : cX0_toldOf.data.toList.drop 64 = dktX0_toldOf_3 := dk_seg dksX0_toldOf_2 24 rfl rfl
theorem dX0_toldOf_0 : decode cX0_toldOf 0 = .ok (.iload_n 1, 1) := dk_27 (dk_at dksX0_toldOf_0 0 rfl rfl)
theorem dX0_toldOf_1 : decode cX0_toldOf 1 = .ok (.tableswitch 69 0 5 #[39, 44, 49, 54, 59, 64], 39) := by decide +kernel
theorem dX0_toldOf_40 : decode cX0_toldOf 40 = .ok (.aload_n 0, 1) := dk_42 (dk_at dksX0_toldOf_2 0 rfl rfl)
theorem dX0_toldOf_41 : decode cX0_toldOf 41 = .ok (.invokevirtual 164, 3) := dk_182 0 164 (dk_at dksX0_toldOf_2 1 rfl rfl)
theorem dX0_toldOf_44 : decode cX0_toldOf 44 = .ok (.ireturn, 1) := dk_172 (dk_at dksX0_toldOf_2 4 rfl rfl)
theorem dX0_toldOf_45 : decode cX0_toldOf 45 = .ok (.aload_n 0, 1) := dk_42 (dk_at dksX0_toldOf_2 5 rfl rfl)
theorem dX0_toldOf_46 : decode cX0_toldOf 46 = .ok (.getfield 168, 3) := dk_180 0 168 (dk_at dksX0_toldOf_2 6 rfl rfl)
theorem dX0_toldOf_49 : decode cX0_toldOf 49 = .ok (.ireturn, 1) := dk_172 (dk_at dksX0_toldOf_2 9 rfl rfl)
theorem dX0_toldOf_50 : decode cX0_toldOf 50 = .ok (.aload_n 0, 1) := dk_42 (dk_at dksX0_toldOf_2 10 rfl rfl)
theorem dX0_toldOf_51 : decode cX0_toldOf 51 = .ok (.getfield 171, 3) := dk_180 0 171 (dk_at dksX0_toldOf_2 11 rfl rfl)
theorem dX0_toldOf_54 : decode cX0_toldOf 54 = .ok (.ireturn, 1) := dk_172 (dk_at dksX0_toldOf_2 14 rfl rfl)
theorem dX0_toldOf_55 : decode cX0_toldOf 55 = .ok (.aload_n 0, 1) := dk_42 (dk_at dksX0_toldOf_2 15 rfl rfl)
theorem dX0_toldOf_56 : decode cX0_toldOf 56 = .ok (.getfield 174, 3) := dk_180 0 174 (dk_at dksX0_toldOf_2 16 rfl rfl)
theorem dX0_toldOf_59 : decode cX0_toldOf 59 = .ok (.ireturn, 1) := dk_172 (dk_at dksX0_toldOf_2 19 rfl rfl)
theorem dX0_toldOf_60 : decode cX0_toldOf 60 = .ok (.aload_n 0, 1) := dk_42 (dk_at dksX0_toldOf_2 20 rfl rfl)
theorem dX0_toldOf_61 : decode cX0_toldOf 61 = .ok (.getfield 177, 3) := dk_180 0 177 (dk_at dksX0_toldOf_2 21 rfl rfl)
theorem dX0_toldOf_64 : decode cX0_toldOf 64 = .ok (.ireturn, 1) := dk_172 (dk_at dksX0_toldOf_3 0 rfl rfl)
theorem dX0_toldOf_65 : decode cX0_toldOf 65 = .ok (.aload_n 0, 1) := dk_42 (dk_at dksX0_toldOf_3 1 rfl rfl)
theorem dX0_toldOf_66 : decode cX0_toldOf 66 = .ok (.getfield 180, 3) := dk_180 0 180 (dk_at dksX0_toldOf_3 2 rfl rfl)
theorem dX0_toldOf_69 : decode cX0_toldOf 69 = .ok (.ireturn, 1) := dk_172 (dk_at dksX0_toldOf_3 5 rfl rfl)
theorem dX0_toldOf_70 : decode cX0_toldOf 70 = .ok (.aload_n 0, 1) := dk_42 (dk_at dksX0_toldOf_3 6 rfl rfl)
theorem dX0_toldOf_71 : decode cX0_toldOf 71 = .ok (.getfield 183, 3) := dk_180 0 183 (dk_at dksX0_toldOf_3 7 rfl rfl)
theorem dX0_toldOf_74 : decode cX0_toldOf 74 = .ok (.ifCond .eq 7, 3) := dk_153 0 7 (dk_at dksX0_toldOf_3 10 rfl rfl)
theorem dX0_toldOf_77 : decode cX0_toldOf 77 = .ok (.iconst 1, 1) := dk_4 (dk_at dksX0_toldOf_3 13 rfl rfl)
theorem dX0_toldOf_78 : decode cX0_toldOf 78 = .ok (.goto 4, 3) := dk_167 0 4 (dk_at dksX0_toldOf_3 14 rfl rfl)
theorem dX0_toldOf_81 : decode cX0_toldOf 81 = .ok (.iconst 0, 1) := dk_3 (dk_at dksX0_toldOf_3 17 rfl rfl)
theorem dX0_toldOf_82 : decode cX0_toldOf 82 = .ok (.ireturn, 1) := dk_172 (dk_at dksX0_toldOf_3 18 rfl rfl)
abbrev cX0_mark : ByteArray := prog_1_method_31_code
def yX0_mark : MethodName := ⟨RX0, "mark", "(II)I"⟩
def dkwX0_mark_5 : List UInt8 := [58, 4, 42, 6, 182, 0, 76, 172]
abbrev dktX0_mark_5 : List UInt8 := dkwX0_mark_5 ++ []
def dkwX0_mark_4 : List UInt8 := [45, 192, 0, 155, 58, 6, 25, 6, 182, 0, 198, 172, 45, 192, 0, 158, 58, 7, 25, 7, 182, 0, 199, 172]
abbrev dktX0_mark_4 : List UInt8 := dkwX0_mark_4 ++ dktX0_mark_5
def dkwX0_mark_3 : List UInt8 := [45, 192, 0, 147, 58, 4, 25, 4, 182, 0, 194, 172, 45, 192, 0, 152, 58, 5, 25, 5, 182, 0, 197, 172]
abbrev dktX0_mark_3 : List UInt8 := dkwX0_mark_3 ++ dktX0_mark_4
def dkwX0_mark_2 : List UInt8 := [170, 0, 0, 0, 61, 0, 0, 0, 1, 0, 0, 0, 3, 0, 0, 0, 25, 0, 0, 0, 37, 0, 0, 0, 49]
abbrev dktX0_mark_2 : List UInt8 := dkwX0_mark_2 ++ dktX0_mark_3
def dkwX0_mark_1 : List UInt8 := [50, 78, 28]
abbrev dktX0_mark_1 : List UInt8 := dkwX0_mark_1 ++ dktX0_mark_2
def dkwX0_mark_0 : List UInt8 := [42, 27, 182, 0, 187, 153, 0, 12, 28, 4, 7, 184, 0, 68, 154, 0, 5, 2, 172, 42, 180, 0, 42, 27]
abbrev dktX0_mark_0 : List UInt8 := dkwX0_mark_0 ++ dktX0_mark_1
theorem dksX0_mark_0 : cX0_mark.data.toList.drop 0 = dktX0_mark_0 := by decide +kernel
theorem dksX0_mark_1 : cX0_mark.data.toList.drop 24 = dktX0_mark_1 := dk_seg dksX0_mark_0 24 rfl rfl
theorem dksX0_mark_2 : cX0_mark.data.toList.drop 27 = dktX0_mark_2 := dk_seg dksX0_mark_1 3 rfl rfl
theorem dksX0_mark_3 : cX0_mark.data.toList.drop 52 = dktX0_mark_3 := dk_seg dksX0_mark_2 25 rfl rfl
theorem dksX0_mark_4 : cX0_mark.data.toList.drop 76 = dktX0_mark_4 := dk_seg dksX0_mark_3 24 rfl rfl
theorem dksX0_mark_5 : cX0_mark.data.toList.drop 100 = dktX0_mark_5 := dk_seg dksX0_mark_4 24 rfl rfl
theorem dX0_mark_0 : decode cX0_mark 0 = .ok (.aload_n 0, 1) := dk_42 (dk_at dksX0_mark_0 0 rfl rfl)
theorem dX0_mark_1 : decode cX0_mark 1 = .ok (.iload_n 1, 1) := dk_27 (dk_at dksX0_mark_0 1 rfl rfl)
theorem dX0_mark_2 : decode cX0_mark 2 = .ok (.invokevirtual 187, 3) := dk_182 0 187 (dk_at dksX0_mark_0 2 rfl rfl)
theorem dX0_mark_5 : decode cX0_mark 5 = .ok (.ifCond .eq 12, 3) := dk_153 0 12 (dk_at dksX0_mark_0 5 rfl rfl)
theorem dX0_mark_8 : decode cX0_mark 8 = .ok (.iload_n 2, 1) := dk_28 (dk_at dksX0_mark_0 8 rfl rfl)
theorem dX0_mark_9 : decode cX0_mark 9 = .ok (.iconst 1, 1) := dk_4 (dk_at dksX0_mark_0 9 rfl rfl)
theorem dX0_mark_10 : decode cX0_mark 10 = .ok (.iconst 4, 1) := dk_7 (dk_at dksX0_mark_0 10 rfl rfl)
theorem dX0_mark_11 : decode cX0_mark 11 = .ok (.invokestatic 68, 3) := dk_184 0 68 (dk_at dksX0_mark_0 11 rfl rfl)
theorem dX0_mark_14 : decode cX0_mark 14 = .ok (.ifCond .ne 5, 3) := dk_154 0 5 (dk_at dksX0_mark_0 14 rfl rfl)
theorem dX0_mark_17 : decode cX0_mark 17 = .ok (.iconst (-1), 1) := dk_2 (dk_at dksX0_mark_0 17 rfl rfl)
theorem dX0_mark_18 : decode cX0_mark 18 = .ok (.ireturn, 1) := dk_172 (dk_at dksX0_mark_0 18 rfl rfl)
theorem dX0_mark_19 : decode cX0_mark 19 = .ok (.aload_n 0, 1) := dk_42 (dk_at dksX0_mark_0 19 rfl rfl)
theorem dX0_mark_20 : decode cX0_mark 20 = .ok (.getfield 42, 3) := dk_180 0 42 (dk_at dksX0_mark_0 20 rfl rfl)
theorem dX0_mark_23 : decode cX0_mark 23 = .ok (.iload_n 1, 1) := dk_27 (dk_at dksX0_mark_0 23 rfl rfl)
theorem dX0_mark_24 : decode cX0_mark 24 = .ok (.aaload, 1) := dk_50 (dk_at dksX0_mark_1 0 rfl rfl)
theorem dX0_mark_25 : decode cX0_mark 25 = .ok (.astore_n 3, 1) := dk_78 (dk_at dksX0_mark_1 1 rfl rfl)
theorem dX0_mark_26 : decode cX0_mark 26 = .ok (.iload_n 2, 1) := dk_28 (dk_at dksX0_mark_1 2 rfl rfl)
theorem dX0_mark_27 : decode cX0_mark 27 = .ok (.tableswitch 61 1 3 #[25, 37, 49], 25) := by decide +kernel
theorem dX0_mark_52 : decode cX0_mark 52 = .ok (.aload_n 3, 1) := dk_45 (dk_at dksX0_mark_3 0 rfl rfl)
theorem dX0_mark_53 : decode cX0_mark 53 = .ok (.checkcast 147, 3) := dk_192 0 147 (dk_at dksX0_mark_3 1 rfl rfl)
theorem dX0_mark_56 : decode cX0_mark 56 = .ok (.astore 4, 2) := dk_58 4 (dk_at dksX0_mark_3 4 rfl rfl)
theorem dX0_mark_58 : decode cX0_mark 58 = .ok (.aload 4, 2) := dk_25 4 (dk_at dksX0_mark_3 6 rfl rfl)
theorem dX0_mark_60 : decode cX0_mark 60 = .ok (.invokevirtual 194, 3) := dk_182 0 194 (dk_at dksX0_mark_3 8 rfl rfl)
theorem dX0_mark_63 : decode cX0_mark 63 = .ok (.ireturn, 1) := dk_172 (dk_at dksX0_mark_3 11 rfl rfl)
theorem dX0_mark_64 : decode cX0_mark 64 = .ok (.aload_n 3, 1) := dk_45 (dk_at dksX0_mark_3 12 rfl rfl)
theorem dX0_mark_65 : decode cX0_mark 65 = .ok (.checkcast 152, 3) := dk_192 0 152 (dk_at dksX0_mark_3 13 rfl rfl)
theorem dX0_mark_68 : decode cX0_mark 68 = .ok (.astore 5, 2) := dk_58 5 (dk_at dksX0_mark_3 16 rfl rfl)
theorem dX0_mark_70 : decode cX0_mark 70 = .ok (.aload 5, 2) := dk_25 5 (dk_at dksX0_mark_3 18 rfl rfl)
theorem dX0_mark_72 : decode cX0_mark 72 = .ok (.invokevirtual 197, 3) := dk_182 0 197 (dk_at dksX0_mark_3 20 rfl rfl)
theorem dX0_mark_75 : decode cX0_mark 75 = .ok (.ireturn, 1) := dk_172 (dk_at dksX0_mark_3 23 rfl rfl)
theorem dX0_mark_76 : decode cX0_mark 76 = .ok (.aload_n 3, 1) := dk_45 (dk_at dksX0_mark_4 0 rfl rfl)
theorem dX0_mark_77 : decode cX0_mark 77 = .ok (.checkcast 155, 3) := dk_192 0 155 (dk_at dksX0_mark_4 1 rfl rfl)
theorem dX0_mark_80 : decode cX0_mark 80 = .ok (.astore 6, 2) := dk_58 6 (dk_at dksX0_mark_4 4 rfl rfl)
theorem dX0_mark_82 : decode cX0_mark 82 = .ok (.aload 6, 2) := dk_25 6 (dk_at dksX0_mark_4 6 rfl rfl)
theorem dX0_mark_84 : decode cX0_mark 84 = .ok (.invokevirtual 198, 3) := dk_182 0 198 (dk_at dksX0_mark_4 8 rfl rfl)
theorem dX0_mark_87 : decode cX0_mark 87 = .ok (.ireturn, 1) := dk_172 (dk_at dksX0_mark_4 11 rfl rfl)
theorem dX0_mark_88 : decode cX0_mark 88 = .ok (.aload_n 3, 1) := dk_45 (dk_at dksX0_mark_4 12 rfl rfl)
theorem dX0_mark_89 : decode cX0_mark 89 = .ok (.checkcast 158, 3) := dk_192 0 158 (dk_at dksX0_mark_4 13 rfl rfl)
theorem dX0_mark_92 : decode cX0_mark 92 = .ok (.astore 7, 2) := dk_58 7 (dk_at dksX0_mark_4 16 rfl rfl)
theorem dX0_mark_94 : decode cX0_mark 94 = .ok (.aload 7, 2) := dk_25 7 (dk_at dksX0_mark_4 18 rfl rfl)
theorem dX0_mark_96 : decode cX0_mark 96 = .ok (.invokevirtual 199, 3) := dk_182 0 199 (dk_at dksX0_mark_4 20 rfl rfl)
theorem dX0_mark_99 : decode cX0_mark 99 = .ok (.ireturn, 1) := dk_172 (dk_at dksX0_mark_4 23 rfl rfl)
theorem dX0_mark_100 : decode cX0_mark 100 = .ok (.astore 4, 2) := dk_58 4 (dk_at dksX0_mark_5 0 rfl rfl)
theorem dX0_mark_102 : decode cX0_mark 102 = .ok (.aload_n 0, 1) := dk_42 (dk_at dksX0_mark_5 2 rfl rfl)
theorem dX0_mark_103 : decode cX0_mark 103 = .ok (.iconst 3, 1) := dk_6 (dk_at dksX0_mark_5 3 rfl rfl)
theorem dX0_mark_104 : decode cX0_mark 104 = .ok (.invokevirtual 76, 3) := dk_182 0 76 (dk_at dksX0_mark_5 4 rfl rfl)
theorem dX0_mark_107 : decode cX0_mark 107 = .ok (.ireturn, 1) := dk_172 (dk_at dksX0_mark_5 7 rfl rfl)
abbrev cX0_recall : ByteArray := prog_1_method_32_code
def yX0_recall : MethodName := ⟨RX0, "recall", "(IZ)I"⟩
def dkwX0_recall_1 : List UInt8 := [167, 0, 4, 3, 62, 42, 180, 0, 42, 27, 50, 28, 181, 0, 183, 29, 172]
abbrev dktX0_recall_1 : List UInt8 := dkwX0_recall_1 ++ []
def dkwX0_recall_0 : List UInt8 := [42, 27, 182, 0, 187, 154, 0, 5, 2, 172, 42, 180, 0, 42, 27, 50, 180, 0, 183, 153, 0, 7, 4]
abbrev dktX0_recall_0 : List UInt8 := dkwX0_recall_0 ++ dktX0_recall_1
theorem dksX0_recall_0 : cX0_recall.data.toList.drop 0 = dktX0_recall_0 := by decide +kernel
theorem dksX0_recall_1 : cX0_recall.data.toList.drop 23 = dktX0_recall_1 := dk_seg dksX0_recall_0 23 rfl rfl
theorem dX0_recall_0 : decode cX0_recall 0 = .ok (.aload_n 0, 1) := dk_42 (dk_at dksX0_recall_0 0 rfl rfl)
theorem dX0_recall_1 : decode cX0_recall 1 = .ok (.iload_n 1, 1) := dk_27 (dk_at dksX0_recall_0 1 rfl rfl)
theorem dX0_recall_2 : decode cX0_recall 2 = .ok (.invokevirtual 187, 3) := dk_182 0 187 (dk_at dksX0_recall_0 2 rfl rfl)
theorem dX0_recall_5 : decode cX0_recall 5 = .ok (.ifCond .ne 5, 3) := dk_154 0 5 (dk_at dksX0_recall_0 5 rfl rfl)
theorem dX0_recall_8 : decode cX0_recall 8 = .ok (.iconst (-1), 1) := dk_2 (dk_at dksX0_recall_0 8 rfl rfl)
theorem dX0_recall_9 : decode cX0_recall 9 = .ok (.ireturn, 1) := dk_172 (dk_at dksX0_recall_0 9 rfl rfl)
theorem dX0_recall_10 : decode cX0_recall 10 = .ok (.aload_n 0, 1) := dk_42 (dk_at dksX0_recall_0 10 rfl rfl)
theorem dX0_recall_11 : decode cX0_recall 11 = .ok (.getfield 42, 3) := dk_180 0 42 (dk_at dksX0_recall_0 11 rfl rfl)
theorem dX0_recall_14 : decode cX0_recall 14 = .ok (.iload_n 1, 1) := dk_27 (dk_at dksX0_recall_0 14 rfl rfl)
theorem dX0_recall_15 : decode cX0_recall 15 = .ok (.aaload, 1) := dk_50 (dk_at dksX0_recall_0 15 rfl rfl)
theorem dX0_recall_16 : decode cX0_recall 16 = .ok (.getfield 183, 3) := dk_180 0 183 (dk_at dksX0_recall_0 16 rfl rfl)
theorem dX0_recall_19 : decode cX0_recall 19 = .ok (.ifCond .eq 7, 3) := dk_153 0 7 (dk_at dksX0_recall_0 19 rfl rfl)
theorem dX0_recall_22 : decode cX0_recall 22 = .ok (.iconst 1, 1) := dk_4 (dk_at dksX0_recall_0 22 rfl rfl)
theorem dX0_recall_23 : decode cX0_recall 23 = .ok (.goto 4, 3) := dk_167 0 4 (dk_at dksX0_recall_1 0 rfl rfl)
theorem dX0_recall_26 : decode cX0_recall 26 = .ok (.iconst 0, 1) := dk_3 (dk_at dksX0_recall_1 3 rfl rfl)
theorem dX0_recall_27 : decode cX0_recall 27 = .ok (.istore_n 3, 1) := dk_62 (dk_at dksX0_recall_1 4 rfl rfl)
theorem dX0_recall_28 : decode cX0_recall 28 = .ok (.aload_n 0, 1) := dk_42 (dk_at dksX0_recall_1 5 rfl rfl)
theorem dX0_recall_29 : decode cX0_recall 29 = .ok (.getfield 42, 3) := dk_180 0 42 (dk_at dksX0_recall_1 6 rfl rfl)
theorem dX0_recall_32 : decode cX0_recall 32 = .ok (.iload_n 1, 1) := dk_27 (dk_at dksX0_recall_1 9 rfl rfl)
theorem dX0_recall_33 : decode cX0_recall 33 = .ok (.aaload, 1) := dk_50 (dk_at dksX0_recall_1 10 rfl rfl)
theorem dX0_recall_34 : decode cX0_recall 34 = .ok (.iload_n 2, 1) := dk_28 (dk_at dksX0_recall_1 11 rfl rfl)
theorem dX0_recall_35 : decode cX0_recall 35 = .ok (.putfield 183, 3) := dk_181 0 183 (dk_at dksX0_recall_1 12 rfl rfl)
theorem dX0_recall_38 : decode cX0_recall 38 = .ok (.iload_n 3, 1) := dk_29 (dk_at dksX0_recall_1 15 rfl rfl)
theorem dX0_recall_39 : decode cX0_recall 39 = .ok (.ireturn, 1) := dk_172 (dk_at dksX0_recall_1 16 rfl rfl)
abbrev cX0_unfit : ByteArray := prog_1_method_33_code
def yX0_unfit : MethodName := ⟨RX0, "unfit", "(II)I"⟩
def dkwX0_unfit_5 : List UInt8 := [160, 0, 17, 25, 4, 182, 0, 164, 5, 160, 0, 8, 16, 8, 167, 0, 4, 3, 128, 172]
abbrev dktX0_unfit_5 : List UInt8 := dkwX0_unfit_5 ++ []
def dkwX0_unfit_4 : List UInt8 := [182, 0, 164, 4, 160, 0, 7, 7, 167, 0, 4, 3, 128, 54, 5, 21, 5, 45, 182, 0, 164, 5]
abbrev dktX0_unfit_4 : List UInt8 := dkwX0_unfit_4 ++ dktX0_unfit_5
def dkwX0_unfit_3 : List UInt8 := [153, 0, 7, 5, 167, 0, 4, 3, 128, 54, 5, 21, 5, 45, 182, 0, 164, 6, 159, 0, 12, 25, 4]
abbrev dktX0_unfit_3 : List UInt8 := dkwX0_unfit_3 ++ dktX0_unfit_4
def dkwX0_unfit_2 : List UInt8 := [160, 0, 7, 3, 167, 0, 4, 4, 54, 5, 21, 5, 45, 180, 0, 183, 154, 0, 11, 25, 4, 180, 0, 183]
abbrev dktX0_unfit_2 : List UInt8 := dkwX0_unfit_2 ++ dktX0_unfit_3
def dkwX0_unfit_1 : List UInt8 := [180, 0, 42, 27, 50, 78, 42, 180, 0, 42, 28, 50, 58, 4, 45, 180, 0, 180, 25, 4, 180, 0, 177]
abbrev dktX0_unfit_1 : List UInt8 := dkwX0_unfit_1 ++ dktX0_unfit_2
def dkwX0_unfit_0 : List UInt8 := [42, 27, 182, 0, 187, 153, 0, 16, 42, 28, 182, 0, 187, 153, 0, 8, 27, 28, 160, 0, 5, 2, 172, 42]
abbrev dktX0_unfit_0 : List UInt8 := dkwX0_unfit_0 ++ dktX0_unfit_1
theorem dksX0_unfit_0 : cX0_unfit.data.toList.drop 0 = dktX0_unfit_0 := by decide +kernel
theorem dksX0_unfit_1 : cX0_unfit.data.toList.drop 24 = dktX0_unfit_1 := dk_seg dksX0_unfit_0 24 rfl rfl
theorem dksX0_unfit_2 : cX0_unfit.data.toList.drop 47 = dktX0_unfit_2 := dk_seg dksX0_unfit_1 23 rfl rfl
theorem dksX0_unfit_3 : cX0_unfit.data.toList.drop 71 = dktX0_unfit_3 := dk_seg dksX0_unfit_2 24 rfl rfl
theorem dksX0_unfit_4 : cX0_unfit.data.toList.drop 94 = dktX0_unfit_4 := dk_seg dksX0_unfit_3 23 rfl rfl
theorem dksX0_unfit_5 : cX0_unfit.data.toList.drop 116 = dktX0_unfit_5 := dk_seg dksX0_unfit_4 22 rfl rfl
theorem dX0_unfit_0 : decode cX0_unfit 0 = .ok (.aload_n 0, 1) := dk_42 (dk_at dksX0_unfit_0 0 rfl rfl)
theorem dX0_unfit_1 : decode cX0_unfit 1 = .ok (.iload_n 1, 1) := dk_27 (dk_at dksX0_unfit_0 1 rfl rfl)
theorem dX0_unfit_2 : decode cX0_unfit 2 = .ok (.invokevirtual 187, 3) := dk_182 0 187 (dk_at dksX0_unfit_0 2 rfl rfl)
theorem dX0_unfit_5 : decode cX0_unfit 5 = .ok (.ifCond .eq 16, 3) := dk_153 0 16 (dk_at dksX0_unfit_0 5 rfl rfl)
theorem dX0_unfit_8 : decode cX0_unfit 8 = .ok (.aload_n 0, 1) := dk_42 (dk_at dksX0_unfit_0 8 rfl rfl)
theorem dX0_unfit_9 : decode cX0_unfit 9 = .ok (.iload_n 2, 1) := dk_28 (dk_at dksX0_unfit_0 9 rfl rfl)
theorem dX0_unfit_10 : decode cX0_unfit 10 = .ok (.invokevirtual 187, 3) := dk_182 0 187 (dk_at dksX0_unfit_0 10 rfl rfl)
theorem dX0_unfit_13 : decode cX0_unfit 13 = .ok (.ifCond .eq 8, 3) := dk_153 0 8 (dk_at dksX0_unfit_0 13 rfl rfl)
theorem dX0_unfit_16 : decode cX0_unfit 16 = .ok (.iload_n 1, 1) := dk_27 (dk_at dksX0_unfit_0 16 rfl rfl)
theorem dX0_unfit_17 : decode cX0_unfit 17 = .ok (.iload_n 2, 1) := dk_28 (dk_at dksX0_unfit_0 17 rfl rfl)
theorem dX0_unfit_18 : decode cX0_unfit 18 = .ok (.if_icmp .ne 5, 3) := dk_160 0 5 (dk_at dksX0_unfit_0 18 rfl rfl)
theorem dX0_unfit_21 : decode cX0_unfit 21 = .ok (.iconst (-1), 1) := dk_2 (dk_at dksX0_unfit_0 21 rfl rfl)
theorem dX0_unfit_22 : decode cX0_unfit 22 = .ok (.ireturn, 1) := dk_172 (dk_at dksX0_unfit_0 22 rfl rfl)
theorem dX0_unfit_23 : decode cX0_unfit 23 = .ok (.aload_n 0, 1) := dk_42 (dk_at dksX0_unfit_0 23 rfl rfl)
theorem dX0_unfit_24 : decode cX0_unfit 24 = .ok (.getfield 42, 3) := dk_180 0 42 (dk_at dksX0_unfit_1 0 rfl rfl)
theorem dX0_unfit_27 : decode cX0_unfit 27 = .ok (.iload_n 1, 1) := dk_27 (dk_at dksX0_unfit_1 3 rfl rfl)
theorem dX0_unfit_28 : decode cX0_unfit 28 = .ok (.aaload, 1) := dk_50 (dk_at dksX0_unfit_1 4 rfl rfl)
theorem dX0_unfit_29 : decode cX0_unfit 29 = .ok (.astore_n 3, 1) := dk_78 (dk_at dksX0_unfit_1 5 rfl rfl)
theorem dX0_unfit_30 : decode cX0_unfit 30 = .ok (.aload_n 0, 1) := dk_42 (dk_at dksX0_unfit_1 6 rfl rfl)
theorem dX0_unfit_31 : decode cX0_unfit 31 = .ok (.getfield 42, 3) := dk_180 0 42 (dk_at dksX0_unfit_1 7 rfl rfl)
theorem dX0_unfit_34 : decode cX0_unfit 34 = .ok (.iload_n 2, 1) := dk_28 (dk_at dksX0_unfit_1 10 rfl rfl)
theorem dX0_unfit_35 : decode cX0_unfit 35 = .ok (.aaload, 1) := dk_50 (dk_at dksX0_unfit_1 11 rfl rfl)
theorem dX0_unfit_36 : decode cX0_unfit 36 = .ok (.astore 4, 2) := dk_58 4 (dk_at dksX0_unfit_1 12 rfl rfl)
theorem dX0_unfit_38 : decode cX0_unfit 38 = .ok (.aload_n 3, 1) := dk_45 (dk_at dksX0_unfit_1 14 rfl rfl)
theorem dX0_unfit_39 : decode cX0_unfit 39 = .ok (.getfield 180, 3) := dk_180 0 180 (dk_at dksX0_unfit_1 15 rfl rfl)
theorem dX0_unfit_42 : decode cX0_unfit 42 = .ok (.aload 4, 2) := dk_25 4 (dk_at dksX0_unfit_1 18 rfl rfl)
theorem dX0_unfit_44 : decode cX0_unfit 44 = .ok (.getfield 177, 3) := dk_180 0 177 (dk_at dksX0_unfit_1 20 rfl rfl)
theorem dX0_unfit_47 : decode cX0_unfit 47 = .ok (.if_icmp .ne 7, 3) := dk_160 0 7 (dk_at dksX0_unfit_2 0 rfl rfl)
theorem dX0_unfit_50 : decode cX0_unfit 50 = .ok (.iconst 0, 1) := dk_3 (dk_at dksX0_unfit_2 3 rfl rfl)
theorem dX0_unfit_51 : decode cX0_unfit 51 = .ok (.goto 4, 3) := dk_167 0 4 (dk_at dksX0_unfit_2 4 rfl rfl)
theorem dX0_unfit_54 : decode cX0_unfit 54 = .ok (.iconst 1, 1) := dk_4 (dk_at dksX0_unfit_2 7 rfl rfl)
theorem dX0_unfit_55 : decode cX0_unfit 55 = .ok (.istore 5, 2) := dk_54 5 (dk_at dksX0_unfit_2 8 rfl rfl)
theorem dX0_unfit_57 : decode cX0_unfit 57 = .ok (.iload 5, 2) := dk_21 5 (dk_at dksX0_unfit_2 10 rfl rfl)
theorem dX0_unfit_59 : decode cX0_unfit 59 = .ok (.aload_n 3, 1) := dk_45 (dk_at dksX0_unfit_2 12 rfl rfl)
theorem dX0_unfit_60 : decode cX0_unfit 60 = .ok (.getfield 183, 3) := dk_180 0 183 (dk_at dksX0_unfit_2 13 rfl rfl)
theorem dX0_unfit_63 : decode cX0_unfit 63 = .ok (.ifCond .ne 11, 3) := dk_154 0 11 (dk_at dksX0_unfit_2 16 rfl rfl)
theorem dX0_unfit_66 : decode cX0_unfit 66 = .ok (.aload 4, 2) := dk_25 4 (dk_at dksX0_unfit_2 19 rfl rfl)
theorem dX0_unfit_68 : decode cX0_unfit 68 = .ok (.getfield 183, 3) := dk_180 0 183 (dk_at dksX0_unfit_2 21 rfl rfl)
theorem dX0_unfit_71 : decode cX0_unfit 71 = .ok (.ifCond .eq 7, 3) := dk_153 0 7 (dk_at dksX0_unfit_3 0 rfl rfl)
theorem dX0_unfit_74 : decode cX0_unfit 74 = .ok (.iconst 2, 1) := dk_5 (dk_at dksX0_unfit_3 3 rfl rfl)
theorem dX0_unfit_75 : decode cX0_unfit 75 = .ok (.goto 4, 3) := dk_167 0 4 (dk_at dksX0_unfit_3 4 rfl rfl)
theorem dX0_unfit_78 : decode cX0_unfit 78 = .ok (.iconst 0, 1) := dk_3 (dk_at dksX0_unfit_3 7 rfl rfl)
theorem dX0_unfit_79 : decode cX0_unfit 79 = .ok (.ior, 1) := dk_128 (dk_at dksX0_unfit_3 8 rfl rfl)
theorem dX0_unfit_80 : decode cX0_unfit 80 = .ok (.istore 5, 2) := dk_54 5 (dk_at dksX0_unfit_3 9 rfl rfl)
theorem dX0_unfit_82 : decode cX0_unfit 82 = .ok (.iload 5, 2) := dk_21 5 (dk_at dksX0_unfit_3 11 rfl rfl)
theorem dX0_unfit_84 : decode cX0_unfit 84 = .ok (.aload_n 3, 1) := dk_45 (dk_at dksX0_unfit_3 13 rfl rfl)
theorem dX0_unfit_85 : decode cX0_unfit 85 = .ok (.invokevirtual 164, 3) := dk_182 0 164 (dk_at dksX0_unfit_3 14 rfl rfl)
theorem dX0_unfit_88 : decode cX0_unfit 88 = .ok (.iconst 3, 1) := dk_6 (dk_at dksX0_unfit_3 17 rfl rfl)
theorem dX0_unfit_89 : decode cX0_unfit 89 = .ok (.if_icmp .eq 12, 3) := dk_159 0 12 (dk_at dksX0_unfit_3 18 rfl rfl)
theorem dX0_unfit_92 : decode cX0_unfit 92 = .ok (.aload 4, 2) := dk_25 4 (dk_at dksX0_unfit_3 21 rfl rfl)
theorem dX0_unfit_94 : decode cX0_unfit 94 = .ok (.invokevirtual 164, 3) := dk_182 0 164 (dk_at dksX0_unfit_4 0 rfl rfl)
theorem dX0_unfit_97 : decode cX0_unfit 97 = .ok (.iconst 1, 1) := dk_4 (dk_at dksX0_unfit_4 3 rfl rfl)
theorem dX0_unfit_98 : decode cX0_unfit 98 = .ok (.if_icmp .ne 7, 3) := dk_160 0 7 (dk_at dksX0_unfit_4 4 rfl rfl)
theorem dX0_unfit_101 : decode cX0_unfit 101 = .ok (.iconst 4, 1) := dk_7 (dk_at dksX0_unfit_4 7 rfl rfl)
theorem dX0_unfit_102 : decode cX0_unfit 102 = .ok (.goto 4, 3) := dk_167 0 4 (dk_at dksX0_unfit_4 8 rfl rfl)
theorem dX0_unfit_105 : decode cX0_unfit 105 = .ok (.iconst 0, 1) := dk_3 (dk_at dksX0_unfit_4 11 rfl rfl)
theorem dX0_unfit_106 : decode cX0_unfit 106 = .ok (.ior, 1) := dk_128 (dk_at dksX0_unfit_4 12 rfl rfl)
theorem dX0_unfit_107 : decode cX0_unfit 107 = .ok (.istore 5, 2) := dk_54 5 (dk_at dksX0_unfit_4 13 rfl rfl)
theorem dX0_unfit_109 : decode cX0_unfit 109 = .ok (.iload 5, 2) := dk_21 5 (dk_at dksX0_unfit_4 15 rfl rfl)
theorem dX0_unfit_111 : decode cX0_unfit 111 = .ok (.aload_n 3, 1) := dk_45 (dk_at dksX0_unfit_4 17 rfl rfl)
theorem dX0_unfit_112 : decode cX0_unfit 112 = .ok (.invokevirtual 164, 3) := dk_182 0 164 (dk_at dksX0_unfit_4 18 rfl rfl)
theorem dX0_unfit_115 : decode cX0_unfit 115 = .ok (.iconst 2, 1) := dk_5 (dk_at dksX0_unfit_4 21 rfl rfl)
theorem dX0_unfit_116 : decode cX0_unfit 116 = .ok (.if_icmp .ne 17, 3) := dk_160 0 17 (dk_at dksX0_unfit_5 0 rfl rfl)
theorem dX0_unfit_119 : decode cX0_unfit 119 = .ok (.aload 4, 2) := dk_25 4 (dk_at dksX0_unfit_5 3 rfl rfl)
theorem dX0_unfit_121 : decode cX0_unfit 121 = .ok (.invokevirtual 164, 3) := dk_182 0 164 (dk_at dksX0_unfit_5 5 rfl rfl)
theorem dX0_unfit_124 : decode cX0_unfit 124 = .ok (.iconst 2, 1) := dk_5 (dk_at dksX0_unfit_5 8 rfl rfl)
theorem dX0_unfit_125 : decode cX0_unfit 125 = .ok (.if_icmp .ne 8, 3) := dk_160 0 8 (dk_at dksX0_unfit_5 9 rfl rfl)
theorem dX0_unfit_128 : decode cX0_unfit 128 = .ok (.bipush 8, 2) := dk_16 8 (dk_at dksX0_unfit_5 12 rfl rfl)
theorem dX0_unfit_130 : decode cX0_unfit 130 = .ok (.goto 4, 3) := dk_167 0 4 (dk_at dksX0_unfit_5 14 rfl rfl)
theorem dX0_unfit_133 : decode cX0_unfit 133 = .ok (.iconst 0, 1) := dk_3 (dk_at dksX0_unfit_5 17 rfl rfl)
theorem dX0_unfit_134 : decode cX0_unfit 134 = .ok (.ior, 1) := dk_128 (dk_at dksX0_unfit_5 18 rfl rfl)
theorem dX0_unfit_135 : decode cX0_unfit 135 = .ok (.ireturn, 1) := dk_172 (dk_at dksX0_unfit_5 19 rfl rfl)
abbrev cX0_leg : ByteArray := prog_1_method_38_code
def yX0_leg : MethodName := ⟨RX0, "leg", "(III)I"⟩
def dkwX0_leg_5 : List UInt8 := [167, 0, 19, 42, 180, 0, 216, 154, 0, 8, 16, 247, 167, 0, 7, 42, 180, 0, 219, 172]
abbrev dktX0_leg_5 : List UInt8 := dkwX0_leg_5 ++ []
def dkwX0_leg_4 : List UInt8 := [181, 0, 216, 42, 42, 180, 0, 222, 27, 100, 181, 0, 249, 42, 180, 0, 225, 153, 0, 8, 16, 250]
abbrev dktX0_leg_4 : List UInt8 := dkwX0_leg_4 ++ dktX0_leg_5
def dkwX0_leg_3 : List UInt8 := [3, 3, 3, 3, 3, 182, 0, 245, 42, 42, 180, 0, 225, 153, 0, 7, 3, 167, 0, 7, 42, 180, 0, 216]
abbrev dktX0_leg_3 : List UInt8 := dkwX0_leg_3 ++ dktX0_leg_4
def dkwX0_leg_2 : List UInt8 := [181, 0, 232, 42, 29, 181, 0, 235, 42, 3, 181, 0, 225, 42, 3, 181, 0, 216, 42, 3, 181, 0, 202, 42]
abbrev dktX0_leg_2 : List UInt8 := dkwX0_leg_2 ++ dktX0_leg_3
def dkwX0_leg_1 : List UInt8 := [17, 78, 32, 184, 0, 68, 154, 0, 5, 2, 172, 42, 27, 181, 0, 213, 42, 28, 181, 0, 205, 42, 3]
abbrev dktX0_leg_1 : List UInt8 := dkwX0_leg_1 ++ dktX0_leg_2
def dkwX0_leg_0 : List UInt8 := [27, 4, 17, 11, 184, 184, 0, 68, 153, 0, 25, 28, 4, 17, 1, 44, 184, 0, 68, 153, 0, 14, 29, 4]
abbrev dktX0_leg_0 : List UInt8 := dkwX0_leg_0 ++ dktX0_leg_1
theorem dksX0_leg_0 : cX0_leg.data.toList.drop 0 = dktX0_leg_0 := by decide +kernel
theorem dksX0_leg_1 : cX0_leg.data.toList.drop 24 = dktX0_leg_1 := dk_seg dksX0_leg_0 24 rfl rfl
theorem dksX0_leg_2 : cX0_leg.data.toList.drop 47 = dktX0_leg_2 := dk_seg dksX0_leg_1 23 rfl rfl
theorem dksX0_leg_3 : cX0_leg.data.toList.drop 71 = dktX0_leg_3 := dk_seg dksX0_leg_2 24 rfl rfl
theorem dksX0_leg_4 : cX0_leg.data.toList.drop 95 = dktX0_leg_4 := dk_seg dksX0_leg_3 24 rfl rfl
theorem dksX0_leg_5 : cX0_leg.data.toList.drop 117 = dktX0_leg_5 := dk_seg dksX0_leg_4 22 rfl rfl
theorem dX0_leg_0 : decode cX0_leg 0 = .ok (.iload_n 1, 1) := dk_27 (dk_at dksX0_leg_0 0 rfl rfl)
theorem dX0_leg_1 : decode cX0_leg 1 = .ok (.iconst 1, 1) := dk_4 (dk_at dksX0_leg_0 1 rfl rfl)
theorem dX0_leg_2 : decode cX0_leg 2 = .ok (.sipush 3000, 3) := dk_17 11 184 (dk_at dksX0_leg_0 2 rfl rfl)
theorem dX0_leg_5 : decode cX0_leg 5 = .ok (.invokestatic 68, 3) := dk_184 0 68 (dk_at dksX0_leg_0 5 rfl rfl)
theorem dX0_leg_8 : decode cX0_leg 8 = .ok (.ifCond .eq 25, 3) := dk_153 0 25 (dk_at dksX0_leg_0 8 rfl rfl)
theorem dX0_leg_11 : decode cX0_leg 11 = .ok (.iload_n 2, 1) := dk_28 (dk_at dksX0_leg_0 11 rfl rfl)
theorem dX0_leg_12 : decode cX0_leg 12 = .ok (.iconst 1, 1) := dk_4 (dk_at dksX0_leg_0 12 rfl rfl)
theorem dX0_leg_13 : decode cX0_leg 13 = .ok (.sipush 300, 3) := dk_17 1 44 (dk_at dksX0_leg_0 13 rfl rfl)
theorem dX0_leg_16 : decode cX0_leg 16 = .ok (.invokestatic 68, 3) := dk_184 0 68 (dk_at dksX0_leg_0 16 rfl rfl)
theorem dX0_leg_19 : decode cX0_leg 19 = .ok (.ifCond .eq 14, 3) := dk_153 0 14 (dk_at dksX0_leg_0 19 rfl rfl)
theorem dX0_leg_22 : decode cX0_leg 22 = .ok (.iload_n 3, 1) := dk_29 (dk_at dksX0_leg_0 22 rfl rfl)
theorem dX0_leg_23 : decode cX0_leg 23 = .ok (.iconst 1, 1) := dk_4 (dk_at dksX0_leg_0 23 rfl rfl)
theorem dX0_leg_24 : decode cX0_leg 24 = .ok (.sipush 20000, 3) := dk_17 78 32 (dk_at dksX0_leg_1 0 rfl rfl)
theorem dX0_leg_27 : decode cX0_leg 27 = .ok (.invokestatic 68, 3) := dk_184 0 68 (dk_at dksX0_leg_1 3 rfl rfl)
theorem dX0_leg_30 : decode cX0_leg 30 = .ok (.ifCond .ne 5, 3) := dk_154 0 5 (dk_at dksX0_leg_1 6 rfl rfl)
theorem dX0_leg_33 : decode cX0_leg 33 = .ok (.iconst (-1), 1) := dk_2 (dk_at dksX0_leg_1 9 rfl rfl)
theorem dX0_leg_34 : decode cX0_leg 34 = .ok (.ireturn, 1) := dk_172 (dk_at dksX0_leg_1 10 rfl rfl)
theorem dX0_leg_35 : decode cX0_leg 35 = .ok (.aload_n 0, 1) := dk_42 (dk_at dksX0_leg_1 11 rfl rfl)
theorem dX0_leg_36 : decode cX0_leg 36 = .ok (.iload_n 1, 1) := dk_27 (dk_at dksX0_leg_1 12 rfl rfl)
theorem dX0_leg_37 : decode cX0_leg 37 = .ok (.putfield 213, 3) := dk_181 0 213 (dk_at dksX0_leg_1 13 rfl rfl)
theorem dX0_leg_40 : decode cX0_leg 40 = .ok (.aload_n 0, 1) := dk_42 (dk_at dksX0_leg_1 16 rfl rfl)
theorem dX0_leg_41 : decode cX0_leg 41 = .ok (.iload_n 2, 1) := dk_28 (dk_at dksX0_leg_1 17 rfl rfl)
theorem dX0_leg_42 : decode cX0_leg 42 = .ok (.putfield 205, 3) := dk_181 0 205 (dk_at dksX0_leg_1 18 rfl rfl)
theorem dX0_leg_45 : decode cX0_leg 45 = .ok (.aload_n 0, 1) := dk_42 (dk_at dksX0_leg_1 21 rfl rfl)
theorem dX0_leg_46 : decode cX0_leg 46 = .ok (.iconst 0, 1) := dk_3 (dk_at dksX0_leg_1 22 rfl rfl)
theorem dX0_leg_47 : decode cX0_leg 47 = .ok (.putfield 232, 3) := dk_181 0 232 (dk_at dksX0_leg_2 0 rfl rfl)
theorem dX0_leg_50 : decode cX0_leg 50 = .ok (.aload_n 0, 1) := dk_42 (dk_at dksX0_leg_2 3 rfl rfl)
theorem dX0_leg_51 : decode cX0_leg 51 = .ok (.iload_n 3, 1) := dk_29 (dk_at dksX0_leg_2 4 rfl rfl)
theorem dX0_leg_52 : decode cX0_leg 52 = .ok (.putfield 235, 3) := dk_181 0 235 (dk_at dksX0_leg_2 5 rfl rfl)
theorem dX0_leg_55 : decode cX0_leg 55 = .ok (.aload_n 0, 1) := dk_42 (dk_at dksX0_leg_2 8 rfl rfl)
theorem dX0_leg_56 : decode cX0_leg 56 = .ok (.iconst 0, 1) := dk_3 (dk_at dksX0_leg_2 9 rfl rfl)
theorem dX0_leg_57 : decode cX0_leg 57 = .ok (.putfield 225, 3) := dk_181 0 225 (dk_at dksX0_leg_2 10 rfl rfl)
theorem dX0_leg_60 : decode cX0_leg 60 = .ok (.aload_n 0, 1) := dk_42 (dk_at dksX0_leg_2 13 rfl rfl)
theorem dX0_leg_61 : decode cX0_leg 61 = .ok (.iconst 0, 1) := dk_3 (dk_at dksX0_leg_2 14 rfl rfl)
theorem dX0_leg_62 : decode cX0_leg 62 = .ok (.putfield 216, 3) := dk_181 0 216 (dk_at dksX0_leg_2 15 rfl rfl)
theorem dX0_leg_65 : decode cX0_leg 65 = .ok (.aload_n 0, 1) := dk_42 (dk_at dksX0_leg_2 18 rfl rfl)
theorem dX0_leg_66 : decode cX0_leg 66 = .ok (.iconst 0, 1) := dk_3 (dk_at dksX0_leg_2 19 rfl rfl)
theorem dX0_leg_67 : decode cX0_leg 67 = .ok (.putfield 202, 3) := dk_181 0 202 (dk_at dksX0_leg_2 20 rfl rfl)
theorem dX0_leg_70 : decode cX0_leg 70 = .ok (.aload_n 0, 1) := dk_42 (dk_at dksX0_leg_2 23 rfl rfl)
theorem dX0_leg_71 : decode cX0_leg 71 = .ok (.iconst 0, 1) := dk_3 (dk_at dksX0_leg_3 0 rfl rfl)
theorem dX0_leg_72 : decode cX0_leg 72 = .ok (.iconst 0, 1) := dk_3 (dk_at dksX0_leg_3 1 rfl rfl)
theorem dX0_leg_73 : decode cX0_leg 73 = .ok (.iconst 0, 1) := dk_3 (dk_at dksX0_leg_3 2 rfl rfl)
theorem dX0_leg_74 : decode cX0_leg 74 = .ok (.iconst 0, 1) := dk_3 (dk_at dksX0_leg_3 3 rfl rfl)
theorem dX0_leg_75 : decode cX0_leg 75 = .ok (.iconst 0, 1) := dk_3 (dk_at dksX0_leg_3 4 rfl rfl)
theorem dX0_leg_76 : decode cX0_leg 76 = .ok (.invokevirtual 245, 3) := dk_182 0 245 (dk_at dksX0_leg_3 5 rfl rfl)
theorem dX0_leg_79 : decode cX0_leg 79 = .ok (.aload_n 0, 1) := dk_42 (dk_at dksX0_leg_3 8 rfl rfl)
theorem dX0_leg_80 : decode cX0_leg 80 = .ok (.aload_n 0, 1) := dk_42 (dk_at dksX0_leg_3 9 rfl rfl)
theorem dX0_leg_81 : decode cX0_leg 81 = .ok (.getfield 225, 3) := dk_180 0 225 (dk_at dksX0_leg_3 10 rfl rfl)
theorem dX0_leg_84 : decode cX0_leg 84 = .ok (.ifCond .eq 7, 3) := dk_153 0 7 (dk_at dksX0_leg_3 13 rfl rfl)
theorem dX0_leg_87 : decode cX0_leg 87 = .ok (.iconst 0, 1) := dk_3 (dk_at dksX0_leg_3 16 rfl rfl)
theorem dX0_leg_88 : decode cX0_leg 88 = .ok (.goto 7, 3) := dk_167 0 7 (dk_at dksX0_leg_3 17 rfl rfl)
theorem dX0_leg_91 : decode cX0_leg 91 = .ok (.aload_n 0, 1) := dk_42 (dk_at dksX0_leg_3 20 rfl rfl)
theorem dX0_leg_92 : decode cX0_leg 92 = .ok (.getfield 216, 3) := dk_180 0 216 (dk_at dksX0_leg_3 21 rfl rfl)
theorem dX0_leg_95 : decode cX0_leg 95 = .ok (.putfield 216, 3) := dk_181 0 216 (dk_at dksX0_leg_4 0 rfl rfl)
theorem dX0_leg_98 : decode cX0_leg 98 = .ok (.aload_n 0, 1) := dk_42 (dk_at dksX0_leg_4 3 rfl rfl)
theorem dX0_leg_99 : decode cX0_leg 99 = .ok (.aload_n 0, 1) := dk_42 (dk_at dksX0_leg_4 4 rfl rfl)
theorem dX0_leg_100 : decode cX0_leg 100 = .ok (.getfield 222, 3) := dk_180 0 222 (dk_at dksX0_leg_4 5 rfl rfl)
theorem dX0_leg_103 : decode cX0_leg 103 = .ok (.iload_n 1, 1) := dk_27 (dk_at dksX0_leg_4 8 rfl rfl)
theorem dX0_leg_104 : decode cX0_leg 104 = .ok (.isub, 1) := dk_100 (dk_at dksX0_leg_4 9 rfl rfl)
theorem dX0_leg_105 : decode cX0_leg 105 = .ok (.putfield 249, 3) := dk_181 0 249 (dk_at dksX0_leg_4 10 rfl rfl)
theorem dX0_leg_108 : decode cX0_leg 108 = .ok (.aload_n 0, 1) := dk_42 (dk_at dksX0_leg_4 13 rfl rfl)
theorem dX0_leg_109 : decode cX0_leg 109 = .ok (.getfield 225, 3) := dk_180 0 225 (dk_at dksX0_leg_4 14 rfl rfl)
theorem dX0_leg_112 : decode cX0_leg 112 = .ok (.ifCond .eq 8, 3) := dk_153 0 8 (dk_at dksX0_leg_4 17 rfl rfl)
theorem dX0_leg_115 : decode cX0_leg 115 = .ok (.bipush (-6), 2) := dk_16 250 (dk_at dksX0_leg_4 20 rfl rfl)
theorem dX0_leg_117 : decode cX0_leg 117 = .ok (.goto 19, 3) := dk_167 0 19 (dk_at dksX0_leg_5 0 rfl rfl)
theorem dX0_leg_120 : decode cX0_leg 120 = .ok (.aload_n 0, 1) := dk_42 (dk_at dksX0_leg_5 3 rfl rfl)
theorem dX0_leg_121 : decode cX0_leg 121 = .ok (.getfield 216, 3) := dk_180 0 216 (dk_at dksX0_leg_5 4 rfl rfl)
theorem dX0_leg_124 : decode cX0_leg 124 = .ok (.ifCond .ne 8, 3) := dk_154 0 8 (dk_at dksX0_leg_5 7 rfl rfl)
theorem dX0_leg_127 : decode cX0_leg 127 = .ok (.bipush (-9), 2) := dk_16 247 (dk_at dksX0_leg_5 10 rfl rfl)
theorem dX0_leg_129 : decode cX0_leg 129 = .ok (.goto 7, 3) := dk_167 0 7 (dk_at dksX0_leg_5 12 rfl rfl)
theorem dX0_leg_132 : decode cX0_leg 132 = .ok (.aload_n 0, 1) := dk_42 (dk_at dksX0_leg_5 15 rfl rfl)
theorem dX0_leg_133 : decode cX0_leg 133 = .ok (.getfield 219, 3) := dk_180 0 219 (dk_at dksX0_leg_5 16 rfl rfl)
theorem dX0_leg_136 : decode cX0_leg 136 = .ok (.ireturn, 1) := dk_172 (dk_at dksX0_leg_5 19 rfl rfl)
abbrev cX0_goesOn : ByteArray := prog_1_method_36_code
def yX0_goesOn : MethodName := ⟨RX0, "goesOn", "(IZIII)V"⟩
def dkwX0_goesOn_3 : List UInt8 := [42, 21, 6, 27, 28, 29, 21, 4, 21, 5, 182, 0, 238, 132, 6, 1, 167, 255, 173, 177]
abbrev dktX0_goesOn_3 : List UInt8 := dkwX0_goesOn_3 ++ []
def dkwX0_goesOn_2 : List UInt8 := [167, 0, 4, 3, 181, 0, 225, 42, 180, 0, 225, 154, 0, 26, 42, 89, 180, 0, 232, 4, 96, 181, 0, 232]
abbrev dktX0_goesOn_2 : List UInt8 := dkwX0_goesOn_2 ++ dktX0_goesOn_3
def dkwX0_goesOn_1 : List UInt8 := [29, 21, 4, 182, 0, 228, 153, 0, 53, 42, 42, 180, 0, 232, 42, 180, 0, 235, 160, 0, 7, 4]
abbrev dktX0_goesOn_1 : List UInt8 := dkwX0_goesOn_1 ++ dktX0_goesOn_2
def dkwX0_goesOn_0 : List UInt8 := [3, 54, 6, 21, 6, 42, 180, 0, 141, 162, 0, 80, 42, 180, 0, 225, 154, 0, 73, 42, 21, 6, 27, 28]
abbrev dktX0_goesOn_0 : List UInt8 := dkwX0_goesOn_0 ++ dktX0_goesOn_1
theorem dksX0_goesOn_0 : cX0_goesOn.data.toList.drop 0 = dktX0_goesOn_0 := by decide +kernel
theorem dksX0_goesOn_1 : cX0_goesOn.data.toList.drop 24 = dktX0_goesOn_1 := dk_seg dksX0_goesOn_0 24 rfl rfl
theorem dksX0_goesOn_2 : cX0_goesOn.data.toList.drop 46 = dktX0_goesOn_2 := dk_seg dksX0_goesOn_1 22 rfl rfl
theorem dksX0_goesOn_3 : cX0_goesOn.data.toList.drop 70 = dktX0_goesOn_3 := dk_seg dksX0_goesOn_2 24 rfl rfl
theorem dX0_goesOn_0 : decode cX0_goesOn 0 = .ok (.iconst 0, 1) := dk_3 (dk_at dksX0_goesOn_0 0 rfl rfl)
theorem dX0_goesOn_1 : decode cX0_goesOn 1 = .ok (.istore 6, 2) := dk_54 6 (dk_at dksX0_goesOn_0 1 rfl rfl)
theorem dX0_goesOn_3 : decode cX0_goesOn 3 = .ok (.iload 6, 2) := dk_21 6 (dk_at dksX0_goesOn_0 3 rfl rfl)
theorem dX0_goesOn_5 : decode cX0_goesOn 5 = .ok (.aload_n 0, 1) := dk_42 (dk_at dksX0_goesOn_0 5 rfl rfl)
theorem dX0_goesOn_6 : decode cX0_goesOn 6 = .ok (.getfield 141, 3) := dk_180 0 141 (dk_at dksX0_goesOn_0 6 rfl rfl)
theorem dX0_goesOn_9 : decode cX0_goesOn 9 = .ok (.if_icmp .ge 80, 3) := dk_162 0 80 (dk_at dksX0_goesOn_0 9 rfl rfl)
theorem dX0_goesOn_12 : decode cX0_goesOn 12 = .ok (.aload_n 0, 1) := dk_42 (dk_at dksX0_goesOn_0 12 rfl rfl)
theorem dX0_goesOn_13 : decode cX0_goesOn 13 = .ok (.getfield 225, 3) := dk_180 0 225 (dk_at dksX0_goesOn_0 13 rfl rfl)
theorem dX0_goesOn_16 : decode cX0_goesOn 16 = .ok (.ifCond .ne 73, 3) := dk_154 0 73 (dk_at dksX0_goesOn_0 16 rfl rfl)
theorem dX0_goesOn_19 : decode cX0_goesOn 19 = .ok (.aload_n 0, 1) := dk_42 (dk_at dksX0_goesOn_0 19 rfl rfl)
theorem dX0_goesOn_20 : decode cX0_goesOn 20 = .ok (.iload 6, 2) := dk_21 6 (dk_at dksX0_goesOn_0 20 rfl rfl)
theorem dX0_goesOn_22 : decode cX0_goesOn 22 = .ok (.iload_n 1, 1) := dk_27 (dk_at dksX0_goesOn_0 22 rfl rfl)
theorem dX0_goesOn_23 : decode cX0_goesOn 23 = .ok (.iload_n 2, 1) := dk_28 (dk_at dksX0_goesOn_0 23 rfl rfl)
theorem dX0_goesOn_24 : decode cX0_goesOn 24 = .ok (.iload_n 3, 1) := dk_29 (dk_at dksX0_goesOn_1 0 rfl rfl)
theorem dX0_goesOn_25 : decode cX0_goesOn 25 = .ok (.iload 4, 2) := dk_21 4 (dk_at dksX0_goesOn_1 1 rfl rfl)
theorem dX0_goesOn_27 : decode cX0_goesOn 27 = .ok (.invokevirtual 228, 3) := dk_182 0 228 (dk_at dksX0_goesOn_1 3 rfl rfl)
theorem dX0_goesOn_30 : decode cX0_goesOn 30 = .ok (.ifCond .eq 53, 3) := dk_153 0 53 (dk_at dksX0_goesOn_1 6 rfl rfl)
theorem dX0_goesOn_33 : decode cX0_goesOn 33 = .ok (.aload_n 0, 1) := dk_42 (dk_at dksX0_goesOn_1 9 rfl rfl)
theorem dX0_goesOn_34 : decode cX0_goesOn 34 = .ok (.aload_n 0, 1) := dk_42 (dk_at dksX0_goesOn_1 10 rfl rfl)
theorem dX0_goesOn_35 : decode cX0_goesOn 35 = .ok (.getfield 232, 3) := dk_180 0 232 (dk_at dksX0_goesOn_1 11 rfl rfl)
theorem dX0_goesOn_38 : decode cX0_goesOn 38 = .ok (.aload_n 0, 1) := dk_42 (dk_at dksX0_goesOn_1 14 rfl rfl)
theorem dX0_goesOn_39 : decode cX0_goesOn 39 = .ok (.getfield 235, 3) := dk_180 0 235 (dk_at dksX0_goesOn_1 15 rfl rfl)
theorem dX0_goesOn_42 : decode cX0_goesOn 42 = .ok (.if_icmp .ne 7, 3) := dk_160 0 7 (dk_at dksX0_goesOn_1 18 rfl rfl)
theorem dX0_goesOn_45 : decode cX0_goesOn 45 = .ok (.iconst 1, 1) := dk_4 (dk_at dksX0_goesOn_1 21 rfl rfl)
theorem dX0_goesOn_46 : decode cX0_goesOn 46 = .ok (.goto 4, 3) := dk_167 0 4 (dk_at dksX0_goesOn_2 0 rfl rfl)
theorem dX0_goesOn_49 : decode cX0_goesOn 49 = .ok (.iconst 0, 1) := dk_3 (dk_at dksX0_goesOn_2 3 rfl rfl)
theorem dX0_goesOn_50 : decode cX0_goesOn 50 = .ok (.putfield 225, 3) := dk_181 0 225 (dk_at dksX0_goesOn_2 4 rfl rfl)
theorem dX0_goesOn_53 : decode cX0_goesOn 53 = .ok (.aload_n 0, 1) := dk_42 (dk_at dksX0_goesOn_2 7 rfl rfl)
theorem dX0_goesOn_54 : decode cX0_goesOn 54 = .ok (.getfield 225, 3) := dk_180 0 225 (dk_at dksX0_goesOn_2 8 rfl rfl)
theorem dX0_goesOn_57 : decode cX0_goesOn 57 = .ok (.ifCond .ne 26, 3) := dk_154 0 26 (dk_at dksX0_goesOn_2 11 rfl rfl)
theorem dX0_goesOn_60 : decode cX0_goesOn 60 = .ok (.aload_n 0, 1) := dk_42 (dk_at dksX0_goesOn_2 14 rfl rfl)
theorem dX0_goesOn_61 : decode cX0_goesOn 61 = .ok (.dup, 1) := dk_89 (dk_at dksX0_goesOn_2 15 rfl rfl)
theorem dX0_goesOn_62 : decode cX0_goesOn 62 = .ok (.getfield 232, 3) := dk_180 0 232 (dk_at dksX0_goesOn_2 16 rfl rfl)
theorem dX0_goesOn_65 : decode cX0_goesOn 65 = .ok (.iconst 1, 1) := dk_4 (dk_at dksX0_goesOn_2 19 rfl rfl)
theorem dX0_goesOn_66 : decode cX0_goesOn 66 = .ok (.iadd, 1) := dk_96 (dk_at dksX0_goesOn_2 20 rfl rfl)
theorem dX0_goesOn_67 : decode cX0_goesOn 67 = .ok (.putfield 232, 3) := dk_181 0 232 (dk_at dksX0_goesOn_2 21 rfl rfl)
theorem dX0_goesOn_70 : decode cX0_goesOn 70 = .ok (.aload_n 0, 1) := dk_42 (dk_at dksX0_goesOn_3 0 rfl rfl)
theorem dX0_goesOn_71 : decode cX0_goesOn 71 = .ok (.iload 6, 2) := dk_21 6 (dk_at dksX0_goesOn_3 1 rfl rfl)
theorem dX0_goesOn_73 : decode cX0_goesOn 73 = .ok (.iload_n 1, 1) := dk_27 (dk_at dksX0_goesOn_3 3 rfl rfl)
theorem dX0_goesOn_74 : decode cX0_goesOn 74 = .ok (.iload_n 2, 1) := dk_28 (dk_at dksX0_goesOn_3 4 rfl rfl)
theorem dX0_goesOn_75 : decode cX0_goesOn 75 = .ok (.iload_n 3, 1) := dk_29 (dk_at dksX0_goesOn_3 5 rfl rfl)
theorem dX0_goesOn_76 : decode cX0_goesOn 76 = .ok (.iload 4, 2) := dk_21 4 (dk_at dksX0_goesOn_3 6 rfl rfl)
theorem dX0_goesOn_78 : decode cX0_goesOn 78 = .ok (.iload 5, 2) := dk_21 5 (dk_at dksX0_goesOn_3 8 rfl rfl)
theorem dX0_goesOn_80 : decode cX0_goesOn 80 = .ok (.invokevirtual 238, 3) := dk_182 0 238 (dk_at dksX0_goesOn_3 10 rfl rfl)
theorem dX0_goesOn_83 : decode cX0_goesOn 83 = .ok (.iinc 6 1, 3) := dk_132 6 1 (dk_at dksX0_goesOn_3 13 rfl rfl)
theorem dX0_goesOn_86 : decode cX0_goesOn 86 = .ok (.goto (-83), 3) := dk_167 255 173 (dk_at dksX0_goesOn_3 16 rfl rfl)
theorem dX0_goesOn_89 : decode cX0_goesOn 89 = .ok (.return_, 1) := dk_177 (dk_at dksX0_goesOn_3 19 rfl rfl)
abbrev cX0_mayCome : ByteArray := prog_1_method_34_code
def yX0_mayCome : MethodName := ⟨RX0, "mayCome", "(IIZII)Z"⟩
def dkwX0_mayCome_6 : List UInt8 := [185, 0, 208, 1, 0, 100, 42, 180, 0, 213, 163, 0, 7, 4, 167, 0, 4, 3, 172]
abbrev dktX0_mayCome_6 : List UInt8 := dkwX0_mayCome_6 ++ []
def dkwX0_mayCome_5 : List UInt8 := [54, 8, 21, 8, 153, 0, 33, 21, 4, 25, 6, 180, 0, 168, 96, 21, 5, 100, 25, 7]
abbrev dktX0_mayCome_5 : List UInt8 := dkwX0_mayCome_5 ++ dktX0_mayCome_6
def dkwX0_mayCome_4 : List UInt8 := [180, 0, 46, 28, 4, 100, 46, 50, 180, 0, 180, 25, 6, 180, 0, 177, 160, 0, 7, 4, 167, 0, 4, 3]
abbrev dktX0_mayCome_4 : List UInt8 := dkwX0_mayCome_4 ++ dktX0_mayCome_5
def dkwX0_mayCome_3 : List UInt8 := [153, 0, 14, 25, 6, 182, 0, 164, 5, 160, 0, 5, 3, 172, 28, 153, 0, 27, 42, 180, 0, 42, 42]
abbrev dktX0_mayCome_3 : List UInt8 := dkwX0_mayCome_3 ++ dktX0_mayCome_4
def dkwX0_mayCome_2 : List UInt8 := [4, 167, 0, 4, 3, 25, 6, 182, 0, 164, 4, 160, 0, 7, 4, 167, 0, 4, 3, 160, 0, 16, 29]
abbrev dktX0_mayCome_2 : List UInt8 := dkwX0_mayCome_2 ++ dktX0_mayCome_3
def dkwX0_mayCome_1 : List UInt8 := [25, 6, 180, 0, 183, 154, 0, 54, 25, 6, 180, 0, 171, 42, 180, 0, 205, 161, 0, 42, 28, 154, 0, 7]
abbrev dktX0_mayCome_1 : List UInt8 := dkwX0_mayCome_1 ++ dktX0_mayCome_2
def dkwX0_mayCome_0 : List UInt8 := [42, 180, 0, 42, 27, 50, 58, 6, 25, 6, 58, 7, 42, 180, 0, 202, 27, 122, 4, 126, 4, 159, 0, 62]
abbrev dktX0_mayCome_0 : List UInt8 := dkwX0_mayCome_0 ++ dktX0_mayCome_1
theorem dksX0_mayCome_0 : cX0_mayCome.data.toList.drop 0 = dktX0_mayCome_0 := by decide +kernel
theorem dksX0_mayCome_1 : cX0_mayCome.data.toList.drop 24 = dktX0_mayCome_1 := dk_seg dksX0_mayCome_0 24 rfl rfl
theorem dksX0_mayCome_2 : cX0_mayCome.data.toList.drop 48 = dktX0_mayCome_2 := dk_seg dksX0_mayCome_1 24 rfl rfl
theorem dksX0_mayCome_3 : cX0_mayCome.data.toList.drop 71 = dktX0_mayCome_3 := dk_seg dksX0_mayCome_2 23 rfl rfl
theorem dksX0_mayCome_4 : cX0_mayCome.data.toList.drop 94 = dktX0_mayCome_4 := dk_seg dksX0_mayCome_3 23 rfl rfl
theorem dksX0_mayCome_5 : cX0_mayCome.data.toList.drop 118 = dktX0_mayCome_5 := dk_seg dksX0_mayCome_4 24 rfl rfl
theorem dksX0_mayCome_6 : cX0_mayCome.data.toList.drop 138 = dktX0_mayCome_6 := dk_seg dksX0_mayCome_5 20 rfl rfl
theorem dX0_mayCome_0 : decode cX0_mayCome 0 = .ok (.aload_n 0, 1) := dk_42 (dk_at dksX0_mayCome_0 0 rfl rfl)
theorem dX0_mayCome_1 : decode cX0_mayCome 1 = .ok (.getfield 42, 3) := dk_180 0 42 (dk_at dksX0_mayCome_0 1 rfl rfl)
theorem dX0_mayCome_4 : decode cX0_mayCome 4 = .ok (.iload_n 1, 1) := dk_27 (dk_at dksX0_mayCome_0 4 rfl rfl)
theorem dX0_mayCome_5 : decode cX0_mayCome 5 = .ok (.aaload, 1) := dk_50 (dk_at dksX0_mayCome_0 5 rfl rfl)
theorem dX0_mayCome_6 : decode cX0_mayCome 6 = .ok (.astore 6, 2) := dk_58 6 (dk_at dksX0_mayCome_0 6 rfl rfl)
theorem dX0_mayCome_8 : decode cX0_mayCome 8 = .ok (.aload 6, 2) := dk_25 6 (dk_at dksX0_mayCome_0 8 rfl rfl)
theorem dX0_mayCome_10 : decode cX0_mayCome 10 = .ok (.astore 7, 2) := dk_58 7 (dk_at dksX0_mayCome_0 10 rfl rfl)
theorem dX0_mayCome_12 : decode cX0_mayCome 12 = .ok (.aload_n 0, 1) := dk_42 (dk_at dksX0_mayCome_0 12 rfl rfl)
theorem dX0_mayCome_13 : decode cX0_mayCome 13 = .ok (.getfield 202, 3) := dk_180 0 202 (dk_at dksX0_mayCome_0 13 rfl rfl)
theorem dX0_mayCome_16 : decode cX0_mayCome 16 = .ok (.iload_n 1, 1) := dk_27 (dk_at dksX0_mayCome_0 16 rfl rfl)
theorem dX0_mayCome_17 : decode cX0_mayCome 17 = .ok (.ishr, 1) := dk_122 (dk_at dksX0_mayCome_0 17 rfl rfl)
theorem dX0_mayCome_18 : decode cX0_mayCome 18 = .ok (.iconst 1, 1) := dk_4 (dk_at dksX0_mayCome_0 18 rfl rfl)
theorem dX0_mayCome_19 : decode cX0_mayCome 19 = .ok (.iand, 1) := dk_126 (dk_at dksX0_mayCome_0 19 rfl rfl)
theorem dX0_mayCome_20 : decode cX0_mayCome 20 = .ok (.iconst 1, 1) := dk_4 (dk_at dksX0_mayCome_0 20 rfl rfl)
theorem dX0_mayCome_21 : decode cX0_mayCome 21 = .ok (.if_icmp .eq 62, 3) := dk_159 0 62 (dk_at dksX0_mayCome_0 21 rfl rfl)
theorem dX0_mayCome_24 : decode cX0_mayCome 24 = .ok (.aload 6, 2) := dk_25 6 (dk_at dksX0_mayCome_1 0 rfl rfl)
theorem dX0_mayCome_26 : decode cX0_mayCome 26 = .ok (.getfield 183, 3) := dk_180 0 183 (dk_at dksX0_mayCome_1 2 rfl rfl)
theorem dX0_mayCome_29 : decode cX0_mayCome 29 = .ok (.ifCond .ne 54, 3) := dk_154 0 54 (dk_at dksX0_mayCome_1 5 rfl rfl)
theorem dX0_mayCome_32 : decode cX0_mayCome 32 = .ok (.aload 6, 2) := dk_25 6 (dk_at dksX0_mayCome_1 8 rfl rfl)
theorem dX0_mayCome_34 : decode cX0_mayCome 34 = .ok (.getfield 171, 3) := dk_180 0 171 (dk_at dksX0_mayCome_1 10 rfl rfl)
theorem dX0_mayCome_37 : decode cX0_mayCome 37 = .ok (.aload_n 0, 1) := dk_42 (dk_at dksX0_mayCome_1 13 rfl rfl)
theorem dX0_mayCome_38 : decode cX0_mayCome 38 = .ok (.getfield 205, 3) := dk_180 0 205 (dk_at dksX0_mayCome_1 14 rfl rfl)
theorem dX0_mayCome_41 : decode cX0_mayCome 41 = .ok (.if_icmp .lt 42, 3) := dk_161 0 42 (dk_at dksX0_mayCome_1 17 rfl rfl)
theorem dX0_mayCome_44 : decode cX0_mayCome 44 = .ok (.iload_n 2, 1) := dk_28 (dk_at dksX0_mayCome_1 20 rfl rfl)
theorem dX0_mayCome_45 : decode cX0_mayCome 45 = .ok (.ifCond .ne 7, 3) := dk_154 0 7 (dk_at dksX0_mayCome_1 21 rfl rfl)
theorem dX0_mayCome_48 : decode cX0_mayCome 48 = .ok (.iconst 1, 1) := dk_4 (dk_at dksX0_mayCome_2 0 rfl rfl)
theorem dX0_mayCome_49 : decode cX0_mayCome 49 = .ok (.goto 4, 3) := dk_167 0 4 (dk_at dksX0_mayCome_2 1 rfl rfl)
theorem dX0_mayCome_52 : decode cX0_mayCome 52 = .ok (.iconst 0, 1) := dk_3 (dk_at dksX0_mayCome_2 4 rfl rfl)
theorem dX0_mayCome_53 : decode cX0_mayCome 53 = .ok (.aload 6, 2) := dk_25 6 (dk_at dksX0_mayCome_2 5 rfl rfl)
theorem dX0_mayCome_55 : decode cX0_mayCome 55 = .ok (.invokevirtual 164, 3) := dk_182 0 164 (dk_at dksX0_mayCome_2 7 rfl rfl)
theorem dX0_mayCome_58 : decode cX0_mayCome 58 = .ok (.iconst 1, 1) := dk_4 (dk_at dksX0_mayCome_2 10 rfl rfl)
theorem dX0_mayCome_59 : decode cX0_mayCome 59 = .ok (.if_icmp .ne 7, 3) := dk_160 0 7 (dk_at dksX0_mayCome_2 11 rfl rfl)
theorem dX0_mayCome_62 : decode cX0_mayCome 62 = .ok (.iconst 1, 1) := dk_4 (dk_at dksX0_mayCome_2 14 rfl rfl)
theorem dX0_mayCome_63 : decode cX0_mayCome 63 = .ok (.goto 4, 3) := dk_167 0 4 (dk_at dksX0_mayCome_2 15 rfl rfl)
theorem dX0_mayCome_66 : decode cX0_mayCome 66 = .ok (.iconst 0, 1) := dk_3 (dk_at dksX0_mayCome_2 18 rfl rfl)
theorem dX0_mayCome_67 : decode cX0_mayCome 67 = .ok (.if_icmp .ne 16, 3) := dk_160 0 16 (dk_at dksX0_mayCome_2 19 rfl rfl)
theorem dX0_mayCome_70 : decode cX0_mayCome 70 = .ok (.iload_n 3, 1) := dk_29 (dk_at dksX0_mayCome_2 22 rfl rfl)
theorem dX0_mayCome_71 : decode cX0_mayCome 71 = .ok (.ifCond .eq 14, 3) := dk_153 0 14 (dk_at dksX0_mayCome_3 0 rfl rfl)
theorem dX0_mayCome_74 : decode cX0_mayCome 74 = .ok (.aload 6, 2) := dk_25 6 (dk_at dksX0_mayCome_3 3 rfl rfl)
theorem dX0_mayCome_76 : decode cX0_mayCome 76 = .ok (.invokevirtual 164, 3) := dk_182 0 164 (dk_at dksX0_mayCome_3 5 rfl rfl)
theorem dX0_mayCome_79 : decode cX0_mayCome 79 = .ok (.iconst 2, 1) := dk_5 (dk_at dksX0_mayCome_3 8 rfl rfl)
theorem dX0_mayCome_80 : decode cX0_mayCome 80 = .ok (.if_icmp .ne 5, 3) := dk_160 0 5 (dk_at dksX0_mayCome_3 9 rfl rfl)
theorem dX0_mayCome_83 : decode cX0_mayCome 83 = .ok (.iconst 0, 1) := dk_3 (dk_at dksX0_mayCome_3 12 rfl rfl)
theorem dX0_mayCome_84 : decode cX0_mayCome 84 = .ok (.ireturn, 1) := dk_172 (dk_at dksX0_mayCome_3 13 rfl rfl)
theorem dX0_mayCome_85 : decode cX0_mayCome 85 = .ok (.iload_n 2, 1) := dk_28 (dk_at dksX0_mayCome_3 14 rfl rfl)
theorem dX0_mayCome_86 : decode cX0_mayCome 86 = .ok (.ifCond .eq 27, 3) := dk_153 0 27 (dk_at dksX0_mayCome_3 15 rfl rfl)
theorem dX0_mayCome_89 : decode cX0_mayCome 89 = .ok (.aload_n 0, 1) := dk_42 (dk_at dksX0_mayCome_3 18 rfl rfl)
theorem dX0_mayCome_90 : decode cX0_mayCome 90 = .ok (.getfield 42, 3) := dk_180 0 42 (dk_at dksX0_mayCome_3 19 rfl rfl)
theorem dX0_mayCome_93 : decode cX0_mayCome 93 = .ok (.aload_n 0, 1) := dk_42 (dk_at dksX0_mayCome_3 22 rfl rfl)
theorem dX0_mayCome_94 : decode cX0_mayCome 94 = .ok (.getfield 46, 3) := dk_180 0 46 (dk_at dksX0_mayCome_4 0 rfl rfl)
theorem dX0_mayCome_97 : decode cX0_mayCome 97 = .ok (.iload_n 2, 1) := dk_28 (dk_at dksX0_mayCome_4 3 rfl rfl)
theorem dX0_mayCome_98 : decode cX0_mayCome 98 = .ok (.iconst 1, 1) := dk_4 (dk_at dksX0_mayCome_4 4 rfl rfl)
theorem dX0_mayCome_99 : decode cX0_mayCome 99 = .ok (.isub, 1) := dk_100 (dk_at dksX0_mayCome_4 5 rfl rfl)
theorem dX0_mayCome_100 : decode cX0_mayCome 100 = .ok (.iaload, 1) := dk_46 (dk_at dksX0_mayCome_4 6 rfl rfl)
theorem dX0_mayCome_101 : decode cX0_mayCome 101 = .ok (.aaload, 1) := dk_50 (dk_at dksX0_mayCome_4 7 rfl rfl)
theorem dX0_mayCome_102 : decode cX0_mayCome 102 = .ok (.getfield 180, 3) := dk_180 0 180 (dk_at dksX0_mayCome_4 8 rfl rfl)
theorem dX0_mayCome_105 : decode cX0_mayCome 105 = .ok (.aload 6, 2) := dk_25 6 (dk_at dksX0_mayCome_4 11 rfl rfl)
theorem dX0_mayCome_107 : decode cX0_mayCome 107 = .ok (.getfield 177, 3) := dk_180 0 177 (dk_at dksX0_mayCome_4 13 rfl rfl)
theorem dX0_mayCome_110 : decode cX0_mayCome 110 = .ok (.if_icmp .ne 7, 3) := dk_160 0 7 (dk_at dksX0_mayCome_4 16 rfl rfl)
theorem dX0_mayCome_113 : decode cX0_mayCome 113 = .ok (.iconst 1, 1) := dk_4 (dk_at dksX0_mayCome_4 19 rfl rfl)
theorem dX0_mayCome_114 : decode cX0_mayCome 114 = .ok (.goto 4, 3) := dk_167 0 4 (dk_at dksX0_mayCome_4 20 rfl rfl)
theorem dX0_mayCome_117 : decode cX0_mayCome 117 = .ok (.iconst 0, 1) := dk_3 (dk_at dksX0_mayCome_4 23 rfl rfl)
theorem dX0_mayCome_118 : decode cX0_mayCome 118 = .ok (.istore 8, 2) := dk_54 8 (dk_at dksX0_mayCome_5 0 rfl rfl)
theorem dX0_mayCome_120 : decode cX0_mayCome 120 = .ok (.iload 8, 2) := dk_21 8 (dk_at dksX0_mayCome_5 2 rfl rfl)
theorem dX0_mayCome_122 : decode cX0_mayCome 122 = .ok (.ifCond .eq 33, 3) := dk_153 0 33 (dk_at dksX0_mayCome_5 4 rfl rfl)
theorem dX0_mayCome_125 : decode cX0_mayCome 125 = .ok (.iload 4, 2) := dk_21 4 (dk_at dksX0_mayCome_5 7 rfl rfl)
theorem dX0_mayCome_127 : decode cX0_mayCome 127 = .ok (.aload 6, 2) := dk_25 6 (dk_at dksX0_mayCome_5 9 rfl rfl)
theorem dX0_mayCome_129 : decode cX0_mayCome 129 = .ok (.getfield 168, 3) := dk_180 0 168 (dk_at dksX0_mayCome_5 11 rfl rfl)
theorem dX0_mayCome_132 : decode cX0_mayCome 132 = .ok (.iadd, 1) := dk_96 (dk_at dksX0_mayCome_5 14 rfl rfl)
theorem dX0_mayCome_133 : decode cX0_mayCome 133 = .ok (.iload 5, 2) := dk_21 5 (dk_at dksX0_mayCome_5 15 rfl rfl)
theorem dX0_mayCome_135 : decode cX0_mayCome 135 = .ok (.isub, 1) := dk_100 (dk_at dksX0_mayCome_5 17 rfl rfl)
theorem dX0_mayCome_136 : decode cX0_mayCome 136 = .ok (.aload 7, 2) := dk_25 7 (dk_at dksX0_mayCome_5 18 rfl rfl)
theorem dX0_mayCome_138 : decode cX0_mayCome 138 = .ok (.invokeinterface 208 1, 5) := by decide +kernel
theorem dX0_mayCome_143 : decode cX0_mayCome 143 = .ok (.isub, 1) := dk_100 (dk_at dksX0_mayCome_6 5 rfl rfl)
theorem dX0_mayCome_144 : decode cX0_mayCome 144 = .ok (.aload_n 0, 1) := dk_42 (dk_at dksX0_mayCome_6 6 rfl rfl)
theorem dX0_mayCome_145 : decode cX0_mayCome 145 = .ok (.getfield 213, 3) := dk_180 0 213 (dk_at dksX0_mayCome_6 7 rfl rfl)
theorem dX0_mayCome_148 : decode cX0_mayCome 148 = .ok (.if_icmp .gt 7, 3) := dk_163 0 7 (dk_at dksX0_mayCome_6 10 rfl rfl)
theorem dX0_mayCome_151 : decode cX0_mayCome 151 = .ok (.iconst 1, 1) := dk_4 (dk_at dksX0_mayCome_6 13 rfl rfl)
theorem dX0_mayCome_152 : decode cX0_mayCome 152 = .ok (.goto 4, 3) := dk_167 0 4 (dk_at dksX0_mayCome_6 14 rfl rfl)
theorem dX0_mayCome_155 : decode cX0_mayCome 155 = .ok (.iconst 0, 1) := dk_3 (dk_at dksX0_mayCome_6 17 rfl rfl)
theorem dX0_mayCome_156 : decode cX0_mayCome 156 = .ok (.ireturn, 1) := dk_172 (dk_at dksX0_mayCome_6 18 rfl rfl)
abbrev cX0_comes : ByteArray := prog_1_method_37_code
def yX0_comes : MethodName := ⟨RX0, "comes", "(IIZIII)V"⟩
def dkwX0_comes_5 : List UInt8 := [4, 27, 120, 2, 130, 126, 181, 0, 202, 177]
abbrev dktX0_comes_5 : List UInt8 := dkwX0_comes_5 ++ []
def dkwX0_comes_4 : List UInt8 := [25, 8, 185, 0, 208, 1, 0, 96, 21, 6, 25, 7, 180, 0, 174, 96, 182, 0, 245, 42, 89, 180, 0, 202]
abbrev dktX0_comes_4 : List UInt8 := dkwX0_comes_4 ++ dktX0_comes_5
def dkwX0_comes_3 : List UInt8 := [25, 7, 182, 0, 164, 5, 160, 0, 7, 4, 167, 0, 4, 3, 21, 4, 25, 7, 180, 0, 168, 96, 21, 5]
abbrev dktX0_comes_3 : List UInt8 := dkwX0_comes_3 ++ dktX0_comes_4
def dkwX0_comes_2 : List UInt8 := [182, 0, 242, 177, 42, 89, 180, 0, 202, 4, 27, 120, 128, 181, 0, 202, 42, 28, 4, 96, 29, 154, 0, 12]
abbrev dktX0_comes_2 : List UInt8 := dkwX0_comes_2 ++ dktX0_comes_3
def dkwX0_comes_1 : List UInt8 := [6, 160, 0, 27, 42, 28, 4, 96, 21, 4, 25, 7, 180, 0, 168, 96, 21, 6, 25, 7, 180, 0, 174, 96]
abbrev dktX0_comes_1 : List UInt8 := dkwX0_comes_1 ++ dktX0_comes_2
def dkwX0_comes_0 : List UInt8 := [42, 180, 0, 42, 27, 50, 58, 7, 25, 7, 58, 8, 42, 180, 0, 46, 28, 27, 79, 25, 7, 182, 0, 164]
abbrev dktX0_comes_0 : List UInt8 := dkwX0_comes_0 ++ dktX0_comes_1
theorem dksX0_comes_0 : cX0_comes.data.toList.drop 0 = dktX0_comes_0 := by decide +kernel
theorem dksX0_comes_1 : cX0_comes.data.toList.drop 24 = dktX0_comes_1 := dk_seg dksX0_comes_0 24 rfl rfl
theorem dksX0_comes_2 : cX0_comes.data.toList.drop 48 = dktX0_comes_2 := dk_seg dksX0_comes_1 24 rfl rfl
theorem dksX0_comes_3 : cX0_comes.data.toList.drop 72 = dktX0_comes_3 := dk_seg dksX0_comes_2 24 rfl rfl
theorem dksX0_comes_4 : cX0_comes.data.toList.drop 96 = dktX0_comes_4 := dk_seg dksX0_comes_3 24 rfl rfl
theorem dksX0_comes_5 : cX0_comes.data.toList.drop 120 = dktX0_comes_5 := dk_seg dksX0_comes_4 24 rfl rfl
theorem dX0_comes_0 : decode cX0_comes 0 = .ok (.aload_n 0, 1) := dk_42 (dk_at dksX0_comes_0 0 rfl rfl)
theorem dX0_comes_1 : decode cX0_comes 1 = .ok (.getfield 42, 3) := dk_180 0 42 (dk_at dksX0_comes_0 1 rfl rfl)
theorem dX0_comes_4 : decode cX0_comes 4 = .ok (.iload_n 1, 1) := dk_27 (dk_at dksX0_comes_0 4 rfl rfl)
theorem dX0_comes_5 : decode cX0_comes 5 = .ok (.aaload, 1) := dk_50 (dk_at dksX0_comes_0 5 rfl rfl)
theorem dX0_comes_6 : decode cX0_comes 6 = .ok (.astore 7, 2) := dk_58 7 (dk_at dksX0_comes_0 6 rfl rfl)
theorem dX0_comes_8 : decode cX0_comes 8 = .ok (.aload 7, 2) := dk_25 7 (dk_at dksX0_comes_0 8 rfl rfl)
theorem dX0_comes_10 : decode cX0_comes 10 = .ok (.astore 8, 2) := dk_58 8 (dk_at dksX0_comes_0 10 rfl rfl)
theorem dX0_comes_12 : decode cX0_comes 12 = .ok (.aload_n 0, 1) := dk_42 (dk_at dksX0_comes_0 12 rfl rfl)
theorem dX0_comes_13 : decode cX0_comes 13 = .ok (.getfield 46, 3) := dk_180 0 46 (dk_at dksX0_comes_0 13 rfl rfl)
theorem dX0_comes_16 : decode cX0_comes 16 = .ok (.iload_n 2, 1) := dk_28 (dk_at dksX0_comes_0 16 rfl rfl)
theorem dX0_comes_17 : decode cX0_comes 17 = .ok (.iload_n 1, 1) := dk_27 (dk_at dksX0_comes_0 17 rfl rfl)
theorem dX0_comes_18 : decode cX0_comes 18 = .ok (.iastore, 1) := dk_79 (dk_at dksX0_comes_0 18 rfl rfl)
theorem dX0_comes_19 : decode cX0_comes 19 = .ok (.aload 7, 2) := dk_25 7 (dk_at dksX0_comes_0 19 rfl rfl)
theorem dX0_comes_21 : decode cX0_comes 21 = .ok (.invokevirtual 164, 3) := dk_182 0 164 (dk_at dksX0_comes_0 21 rfl rfl)
theorem dX0_comes_24 : decode cX0_comes 24 = .ok (.iconst 3, 1) := dk_6 (dk_at dksX0_comes_1 0 rfl rfl)
theorem dX0_comes_25 : decode cX0_comes 25 = .ok (.if_icmp .ne 27, 3) := dk_160 0 27 (dk_at dksX0_comes_1 1 rfl rfl)
theorem dX0_comes_28 : decode cX0_comes 28 = .ok (.aload_n 0, 1) := dk_42 (dk_at dksX0_comes_1 4 rfl rfl)
theorem dX0_comes_29 : decode cX0_comes 29 = .ok (.iload_n 2, 1) := dk_28 (dk_at dksX0_comes_1 5 rfl rfl)
theorem dX0_comes_30 : decode cX0_comes 30 = .ok (.iconst 1, 1) := dk_4 (dk_at dksX0_comes_1 6 rfl rfl)
theorem dX0_comes_31 : decode cX0_comes 31 = .ok (.iadd, 1) := dk_96 (dk_at dksX0_comes_1 7 rfl rfl)
theorem dX0_comes_32 : decode cX0_comes 32 = .ok (.iload 4, 2) := dk_21 4 (dk_at dksX0_comes_1 8 rfl rfl)
theorem dX0_comes_34 : decode cX0_comes 34 = .ok (.aload 7, 2) := dk_25 7 (dk_at dksX0_comes_1 10 rfl rfl)
theorem dX0_comes_36 : decode cX0_comes 36 = .ok (.getfield 168, 3) := dk_180 0 168 (dk_at dksX0_comes_1 12 rfl rfl)
theorem dX0_comes_39 : decode cX0_comes 39 = .ok (.iadd, 1) := dk_96 (dk_at dksX0_comes_1 15 rfl rfl)
theorem dX0_comes_40 : decode cX0_comes 40 = .ok (.iload 6, 2) := dk_21 6 (dk_at dksX0_comes_1 16 rfl rfl)
theorem dX0_comes_42 : decode cX0_comes 42 = .ok (.aload 7, 2) := dk_25 7 (dk_at dksX0_comes_1 18 rfl rfl)
theorem dX0_comes_44 : decode cX0_comes 44 = .ok (.getfield 174, 3) := dk_180 0 174 (dk_at dksX0_comes_1 20 rfl rfl)
theorem dX0_comes_47 : decode cX0_comes 47 = .ok (.iadd, 1) := dk_96 (dk_at dksX0_comes_1 23 rfl rfl)
theorem dX0_comes_48 : decode cX0_comes 48 = .ok (.invokevirtual 242, 3) := dk_182 0 242 (dk_at dksX0_comes_2 0 rfl rfl)
theorem dX0_comes_51 : decode cX0_comes 51 = .ok (.return_, 1) := dk_177 (dk_at dksX0_comes_2 3 rfl rfl)
theorem dX0_comes_52 : decode cX0_comes 52 = .ok (.aload_n 0, 1) := dk_42 (dk_at dksX0_comes_2 4 rfl rfl)
theorem dX0_comes_53 : decode cX0_comes 53 = .ok (.dup, 1) := dk_89 (dk_at dksX0_comes_2 5 rfl rfl)
theorem dX0_comes_54 : decode cX0_comes 54 = .ok (.getfield 202, 3) := dk_180 0 202 (dk_at dksX0_comes_2 6 rfl rfl)
theorem dX0_comes_57 : decode cX0_comes 57 = .ok (.iconst 1, 1) := dk_4 (dk_at dksX0_comes_2 9 rfl rfl)
theorem dX0_comes_58 : decode cX0_comes 58 = .ok (.iload_n 1, 1) := dk_27 (dk_at dksX0_comes_2 10 rfl rfl)
theorem dX0_comes_59 : decode cX0_comes 59 = .ok (.ishl, 1) := dk_120 (dk_at dksX0_comes_2 11 rfl rfl)
theorem dX0_comes_60 : decode cX0_comes 60 = .ok (.ior, 1) := dk_128 (dk_at dksX0_comes_2 12 rfl rfl)
theorem dX0_comes_61 : decode cX0_comes 61 = .ok (.putfield 202, 3) := dk_181 0 202 (dk_at dksX0_comes_2 13 rfl rfl)
theorem dX0_comes_64 : decode cX0_comes 64 = .ok (.aload_n 0, 1) := dk_42 (dk_at dksX0_comes_2 16 rfl rfl)
theorem dX0_comes_65 : decode cX0_comes 65 = .ok (.iload_n 2, 1) := dk_28 (dk_at dksX0_comes_2 17 rfl rfl)
theorem dX0_comes_66 : decode cX0_comes 66 = .ok (.iconst 1, 1) := dk_4 (dk_at dksX0_comes_2 18 rfl rfl)
theorem dX0_comes_67 : decode cX0_comes 67 = .ok (.iadd, 1) := dk_96 (dk_at dksX0_comes_2 19 rfl rfl)
theorem dX0_comes_68 : decode cX0_comes 68 = .ok (.iload_n 3, 1) := dk_29 (dk_at dksX0_comes_2 20 rfl rfl)
theorem dX0_comes_69 : decode cX0_comes 69 = .ok (.ifCond .ne 12, 3) := dk_154 0 12 (dk_at dksX0_comes_2 21 rfl rfl)
theorem dX0_comes_72 : decode cX0_comes 72 = .ok (.aload 7, 2) := dk_25 7 (dk_at dksX0_comes_3 0 rfl rfl)
theorem dX0_comes_74 : decode cX0_comes 74 = .ok (.invokevirtual 164, 3) := dk_182 0 164 (dk_at dksX0_comes_3 2 rfl rfl)
theorem dX0_comes_77 : decode cX0_comes 77 = .ok (.iconst 2, 1) := dk_5 (dk_at dksX0_comes_3 5 rfl rfl)
theorem dX0_comes_78 : decode cX0_comes 78 = .ok (.if_icmp .ne 7, 3) := dk_160 0 7 (dk_at dksX0_comes_3 6 rfl rfl)
theorem dX0_comes_81 : decode cX0_comes 81 = .ok (.iconst 1, 1) := dk_4 (dk_at dksX0_comes_3 9 rfl rfl)
theorem dX0_comes_82 : decode cX0_comes 82 = .ok (.goto 4, 3) := dk_167 0 4 (dk_at dksX0_comes_3 10 rfl rfl)
theorem dX0_comes_85 : decode cX0_comes 85 = .ok (.iconst 0, 1) := dk_3 (dk_at dksX0_comes_3 13 rfl rfl)
theorem dX0_comes_86 : decode cX0_comes 86 = .ok (.iload 4, 2) := dk_21 4 (dk_at dksX0_comes_3 14 rfl rfl)
theorem dX0_comes_88 : decode cX0_comes 88 = .ok (.aload 7, 2) := dk_25 7 (dk_at dksX0_comes_3 16 rfl rfl)
theorem dX0_comes_90 : decode cX0_comes 90 = .ok (.getfield 168, 3) := dk_180 0 168 (dk_at dksX0_comes_3 18 rfl rfl)
theorem dX0_comes_93 : decode cX0_comes 93 = .ok (.iadd, 1) := dk_96 (dk_at dksX0_comes_3 21 rfl rfl)
theorem dX0_comes_94 : decode cX0_comes 94 = .ok (.iload 5, 2) := dk_21 5 (dk_at dksX0_comes_3 22 rfl rfl)
theorem dX0_comes_96 : decode cX0_comes 96 = .ok (.aload 8, 2) := dk_25 8 (dk_at dksX0_comes_4 0 rfl rfl)
theorem dX0_comes_98 : decode cX0_comes 98 = .ok (.invokeinterface 208 1, 5) := by decide +kernel
theorem dX0_comes_103 : decode cX0_comes 103 = .ok (.iadd, 1) := dk_96 (dk_at dksX0_comes_4 7 rfl rfl)
theorem dX0_comes_104 : decode cX0_comes 104 = .ok (.iload 6, 2) := dk_21 6 (dk_at dksX0_comes_4 8 rfl rfl)
theorem dX0_comes_106 : decode cX0_comes 106 = .ok (.aload 7, 2) := dk_25 7 (dk_at dksX0_comes_4 10 rfl rfl)
theorem dX0_comes_108 : decode cX0_comes 108 = .ok (.getfield 174, 3) := dk_180 0 174 (dk_at dksX0_comes_4 12 rfl rfl)
theorem dX0_comes_111 : decode cX0_comes 111 = .ok (.iadd, 1) := dk_96 (dk_at dksX0_comes_4 15 rfl rfl)
theorem dX0_comes_112 : decode cX0_comes 112 = .ok (.invokevirtual 245, 3) := dk_182 0 245 (dk_at dksX0_comes_4 16 rfl rfl)
theorem dX0_comes_115 : decode cX0_comes 115 = .ok (.aload_n 0, 1) := dk_42 (dk_at dksX0_comes_4 19 rfl rfl)
theorem dX0_comes_116 : decode cX0_comes 116 = .ok (.dup, 1) := dk_89 (dk_at dksX0_comes_4 20 rfl rfl)
theorem dX0_comes_117 : decode cX0_comes 117 = .ok (.getfield 202, 3) := dk_180 0 202 (dk_at dksX0_comes_4 21 rfl rfl)
theorem dX0_comes_120 : decode cX0_comes 120 = .ok (.iconst 1, 1) := dk_4 (dk_at dksX0_comes_5 0 rfl rfl)
theorem dX0_comes_121 : decode cX0_comes 121 = .ok (.iload_n 1, 1) := dk_27 (dk_at dksX0_comes_5 1 rfl rfl)
theorem dX0_comes_122 : decode cX0_comes 122 = .ok (.ishl, 1) := dk_120 (dk_at dksX0_comes_5 2 rfl rfl)
theorem dX0_comes_123 : decode cX0_comes 123 = .ok (.iconst (-1), 1) := dk_2 (dk_at dksX0_comes_5 3 rfl rfl)
theorem dX0_comes_124 : decode cX0_comes 124 = .ok (.ixor, 1) := dk_130 (dk_at dksX0_comes_5 4 rfl rfl)
theorem dX0_comes_125 : decode cX0_comes 125 = .ok (.iand, 1) := dk_126 (dk_at dksX0_comes_5 5 rfl rfl)
theorem dX0_comes_126 : decode cX0_comes 126 = .ok (.putfield 202, 3) := dk_181 0 202 (dk_at dksX0_comes_5 6 rfl rfl)
theorem dX0_comes_129 : decode cX0_comes 129 = .ok (.return_, 1) := dk_177 (dk_at dksX0_comes_5 9 rfl rfl)
abbrev cX0_ends : ByteArray := prog_1_method_35_code
def yX0_ends : MethodName := ⟨RX0, "ends", "(III)V"⟩
def dkwX0_ends_3 : List UInt8 := [180, 0, 49, 3, 27, 184, 0, 110, 177]
abbrev dktX0_ends_3 : List UInt8 := dkwX0_ends_3 ++ []
def dkwX0_ends_2 : List UInt8 := [153, 0, 32, 42, 27, 181, 0, 216, 42, 29, 181, 0, 219, 42, 28, 181, 0, 222, 42, 180, 0, 46, 3, 42]
abbrev dktX0_ends_2 : List UInt8 := dkwX0_ends_2 ++ dktX0_ends_3
def dkwX0_ends_1 : List UInt8 := [42, 180, 0, 219, 160, 0, 15, 27, 42, 180, 0, 216, 162, 0, 7, 4, 167, 0, 4, 3, 54, 4, 21, 4]
abbrev dktX0_ends_1 : List UInt8 := dkwX0_ends_1 ++ dktX0_ends_2
def dkwX0_ends_0 : List UInt8 := [28, 42, 180, 0, 213, 161, 0, 38, 42, 180, 0, 216, 153, 0, 27, 29, 42, 180, 0, 219, 161, 0, 19, 29]
abbrev dktX0_ends_0 : List UInt8 := dkwX0_ends_0 ++ dktX0_ends_1
theorem dksX0_ends_0 : cX0_ends.data.toList.drop 0 = dktX0_ends_0 := by decide +kernel
theorem dksX0_ends_1 : cX0_ends.data.toList.drop 24 = dktX0_ends_1 := dk_seg dksX0_ends_0 24 rfl rfl
theorem dksX0_ends_2 : cX0_ends.data.toList.drop 48 = dktX0_ends_2 := dk_seg dksX0_ends_1 24 rfl rfl
theorem dksX0_ends_3 : cX0_ends.data.toList.drop 72 = dktX0_ends_3 := dk_seg dksX0_ends_2 24 rfl rfl
theorem dX0_ends_0 : decode cX0_ends 0 = .ok (.iload_n 2, 1) := dk_28 (dk_at dksX0_ends_0 0 rfl rfl)
theorem dX0_ends_1 : decode cX0_ends 1 = .ok (.aload_n 0, 1) := dk_42 (dk_at dksX0_ends_0 1 rfl rfl)
theorem dX0_ends_2 : decode cX0_ends 2 = .ok (.getfield 213, 3) := dk_180 0 213 (dk_at dksX0_ends_0 2 rfl rfl)
theorem dX0_ends_5 : decode cX0_ends 5 = .ok (.if_icmp .lt 38, 3) := dk_161 0 38 (dk_at dksX0_ends_0 5 rfl rfl)
theorem dX0_ends_8 : decode cX0_ends 8 = .ok (.aload_n 0, 1) := dk_42 (dk_at dksX0_ends_0 8 rfl rfl)
theorem dX0_ends_9 : decode cX0_ends 9 = .ok (.getfield 216, 3) := dk_180 0 216 (dk_at dksX0_ends_0 9 rfl rfl)
theorem dX0_ends_12 : decode cX0_ends 12 = .ok (.ifCond .eq 27, 3) := dk_153 0 27 (dk_at dksX0_ends_0 12 rfl rfl)
theorem dX0_ends_15 : decode cX0_ends 15 = .ok (.iload_n 3, 1) := dk_29 (dk_at dksX0_ends_0 15 rfl rfl)
theorem dX0_ends_16 : decode cX0_ends 16 = .ok (.aload_n 0, 1) := dk_42 (dk_at dksX0_ends_0 16 rfl rfl)
theorem dX0_ends_17 : decode cX0_ends 17 = .ok (.getfield 219, 3) := dk_180 0 219 (dk_at dksX0_ends_0 17 rfl rfl)
theorem dX0_ends_20 : decode cX0_ends 20 = .ok (.if_icmp .lt 19, 3) := dk_161 0 19 (dk_at dksX0_ends_0 20 rfl rfl)
theorem dX0_ends_23 : decode cX0_ends 23 = .ok (.iload_n 3, 1) := dk_29 (dk_at dksX0_ends_0 23 rfl rfl)
theorem dX0_ends_24 : decode cX0_ends 24 = .ok (.aload_n 0, 1) := dk_42 (dk_at dksX0_ends_1 0 rfl rfl)
theorem dX0_ends_25 : decode cX0_ends 25 = .ok (.getfield 219, 3) := dk_180 0 219 (dk_at dksX0_ends_1 1 rfl rfl)
theorem dX0_ends_28 : decode cX0_ends 28 = .ok (.if_icmp .ne 15, 3) := dk_160 0 15 (dk_at dksX0_ends_1 4 rfl rfl)
theorem dX0_ends_31 : decode cX0_ends 31 = .ok (.iload_n 1, 1) := dk_27 (dk_at dksX0_ends_1 7 rfl rfl)
theorem dX0_ends_32 : decode cX0_ends 32 = .ok (.aload_n 0, 1) := dk_42 (dk_at dksX0_ends_1 8 rfl rfl)
theorem dX0_ends_33 : decode cX0_ends 33 = .ok (.getfield 216, 3) := dk_180 0 216 (dk_at dksX0_ends_1 9 rfl rfl)
theorem dX0_ends_36 : decode cX0_ends 36 = .ok (.if_icmp .ge 7, 3) := dk_162 0 7 (dk_at dksX0_ends_1 12 rfl rfl)
theorem dX0_ends_39 : decode cX0_ends 39 = .ok (.iconst 1, 1) := dk_4 (dk_at dksX0_ends_1 15 rfl rfl)
theorem dX0_ends_40 : decode cX0_ends 40 = .ok (.goto 4, 3) := dk_167 0 4 (dk_at dksX0_ends_1 16 rfl rfl)
theorem dX0_ends_43 : decode cX0_ends 43 = .ok (.iconst 0, 1) := dk_3 (dk_at dksX0_ends_1 19 rfl rfl)
theorem dX0_ends_44 : decode cX0_ends 44 = .ok (.istore 4, 2) := dk_54 4 (dk_at dksX0_ends_1 20 rfl rfl)
theorem dX0_ends_46 : decode cX0_ends 46 = .ok (.iload 4, 2) := dk_21 4 (dk_at dksX0_ends_1 22 rfl rfl)
theorem dX0_ends_48 : decode cX0_ends 48 = .ok (.ifCond .eq 32, 3) := dk_153 0 32 (dk_at dksX0_ends_2 0 rfl rfl)
theorem dX0_ends_51 : decode cX0_ends 51 = .ok (.aload_n 0, 1) := dk_42 (dk_at dksX0_ends_2 3 rfl rfl)
theorem dX0_ends_52 : decode cX0_ends 52 = .ok (.iload_n 1, 1) := dk_27 (dk_at dksX0_ends_2 4 rfl rfl)
theorem dX0_ends_53 : decode cX0_ends 53 = .ok (.putfield 216, 3) := dk_181 0 216 (dk_at dksX0_ends_2 5 rfl rfl)
theorem dX0_ends_56 : decode cX0_ends 56 = .ok (.aload_n 0, 1) := dk_42 (dk_at dksX0_ends_2 8 rfl rfl)
theorem dX0_ends_57 : decode cX0_ends 57 = .ok (.iload_n 3, 1) := dk_29 (dk_at dksX0_ends_2 9 rfl rfl)
theorem dX0_ends_58 : decode cX0_ends 58 = .ok (.putfield 219, 3) := dk_181 0 219 (dk_at dksX0_ends_2 10 rfl rfl)
theorem dX0_ends_61 : decode cX0_ends 61 = .ok (.aload_n 0, 1) := dk_42 (dk_at dksX0_ends_2 13 rfl rfl)
theorem dX0_ends_62 : decode cX0_ends 62 = .ok (.iload_n 2, 1) := dk_28 (dk_at dksX0_ends_2 14 rfl rfl)
theorem dX0_ends_63 : decode cX0_ends 63 = .ok (.putfield 222, 3) := dk_181 0 222 (dk_at dksX0_ends_2 15 rfl rfl)
theorem dX0_ends_66 : decode cX0_ends 66 = .ok (.aload_n 0, 1) := dk_42 (dk_at dksX0_ends_2 18 rfl rfl)
theorem dX0_ends_67 : decode cX0_ends 67 = .ok (.getfield 46, 3) := dk_180 0 46 (dk_at dksX0_ends_2 19 rfl rfl)
theorem dX0_ends_70 : decode cX0_ends 70 = .ok (.iconst 0, 1) := dk_3 (dk_at dksX0_ends_2 22 rfl rfl)
theorem dX0_ends_71 : decode cX0_ends 71 = .ok (.aload_n 0, 1) := dk_42 (dk_at dksX0_ends_2 23 rfl rfl)
theorem dX0_ends_72 : decode cX0_ends 72 = .ok (.getfield 49, 3) := dk_180 0 49 (dk_at dksX0_ends_3 0 rfl rfl)
theorem dX0_ends_75 : decode cX0_ends 75 = .ok (.iconst 0, 1) := dk_3 (dk_at dksX0_ends_3 3 rfl rfl)
theorem dX0_ends_76 : decode cX0_ends 76 = .ok (.iload_n 1, 1) := dk_27 (dk_at dksX0_ends_3 4 rfl rfl)
theorem dX0_ends_77 : decode cX0_ends 77 = .ok (.invokestatic 110, 3) := dk_184 0 110 (dk_at dksX0_ends_3 5 rfl rfl)
theorem dX0_ends_80 : decode cX0_ends 80 = .ok (.return_, 1) := dk_177 (dk_at dksX0_ends_3 8 rfl rfl)
abbrev cX0_legAt : ByteArray := prog_1_method_39_code
def yX0_legAt : MethodName := ⟨RX0, "legAt", "(I)I"⟩
def dkwX0_legAt_2 : List UInt8 := [16, 247, 172]
abbrev dktX0_legAt_2 : List UInt8 := dkwX0_legAt_2 ++ []
def dkwX0_legAt_1 : List UInt8 := [27, 3, 42, 180, 0, 216, 4, 100, 184, 0, 68, 153, 0, 12, 42, 180, 0, 49, 27, 46, 167, 0, 5]
abbrev dktX0_legAt_1 : List UInt8 := dkwX0_legAt_1 ++ dktX0_legAt_2
def dkwX0_legAt_0 : List UInt8 := [42, 180, 0, 216, 154, 0, 8, 16, 247, 167, 0, 40, 27, 2, 160, 0, 10, 42, 180, 0, 216, 167, 0, 28]
abbrev dktX0_legAt_0 : List UInt8 := dkwX0_legAt_0 ++ dktX0_legAt_1
theorem dksX0_legAt_0 : cX0_legAt.data.toList.drop 0 = dktX0_legAt_0 := by decide +kernel
theorem dksX0_legAt_1 : cX0_legAt.data.toList.drop 24 = dktX0_legAt_1 := dk_seg dksX0_legAt_0 24 rfl rfl
theorem dksX0_legAt_2 : cX0_legAt.data.toList.drop 47 = dktX0_legAt_2 := dk_seg dksX0_legAt_1 23 rfl rfl
theorem dX0_legAt_0 : decode cX0_legAt 0 = .ok (.aload_n 0, 1) := dk_42 (dk_at dksX0_legAt_0 0 rfl rfl)
theorem dX0_legAt_1 : decode cX0_legAt 1 = .ok (.getfield 216, 3) := dk_180 0 216 (dk_at dksX0_legAt_0 1 rfl rfl)
theorem dX0_legAt_4 : decode cX0_legAt 4 = .ok (.ifCond .ne 8, 3) := dk_154 0 8 (dk_at dksX0_legAt_0 4 rfl rfl)
theorem dX0_legAt_7 : decode cX0_legAt 7 = .ok (.bipush (-9), 2) := dk_16 247 (dk_at dksX0_legAt_0 7 rfl rfl)
theorem dX0_legAt_9 : decode cX0_legAt 9 = .ok (.goto 40, 3) := dk_167 0 40 (dk_at dksX0_legAt_0 9 rfl rfl)
theorem dX0_legAt_12 : decode cX0_legAt 12 = .ok (.iload_n 1, 1) := dk_27 (dk_at dksX0_legAt_0 12 rfl rfl)
theorem dX0_legAt_13 : decode cX0_legAt 13 = .ok (.iconst (-1), 1) := dk_2 (dk_at dksX0_legAt_0 13 rfl rfl)
theorem dX0_legAt_14 : decode cX0_legAt 14 = .ok (.if_icmp .ne 10, 3) := dk_160 0 10 (dk_at dksX0_legAt_0 14 rfl rfl)
theorem dX0_legAt_17 : decode cX0_legAt 17 = .ok (.aload_n 0, 1) := dk_42 (dk_at dksX0_legAt_0 17 rfl rfl)
theorem dX0_legAt_18 : decode cX0_legAt 18 = .ok (.getfield 216, 3) := dk_180 0 216 (dk_at dksX0_legAt_0 18 rfl rfl)
theorem dX0_legAt_21 : decode cX0_legAt 21 = .ok (.goto 28, 3) := dk_167 0 28 (dk_at dksX0_legAt_0 21 rfl rfl)
theorem dX0_legAt_24 : decode cX0_legAt 24 = .ok (.iload_n 1, 1) := dk_27 (dk_at dksX0_legAt_1 0 rfl rfl)
theorem dX0_legAt_25 : decode cX0_legAt 25 = .ok (.iconst 0, 1) := dk_3 (dk_at dksX0_legAt_1 1 rfl rfl)
theorem dX0_legAt_26 : decode cX0_legAt 26 = .ok (.aload_n 0, 1) := dk_42 (dk_at dksX0_legAt_1 2 rfl rfl)
theorem dX0_legAt_27 : decode cX0_legAt 27 = .ok (.getfield 216, 3) := dk_180 0 216 (dk_at dksX0_legAt_1 3 rfl rfl)
theorem dX0_legAt_30 : decode cX0_legAt 30 = .ok (.iconst 1, 1) := dk_4 (dk_at dksX0_legAt_1 6 rfl rfl)
theorem dX0_legAt_31 : decode cX0_legAt 31 = .ok (.isub, 1) := dk_100 (dk_at dksX0_legAt_1 7 rfl rfl)
theorem dX0_legAt_32 : decode cX0_legAt 32 = .ok (.invokestatic 68, 3) := dk_184 0 68 (dk_at dksX0_legAt_1 8 rfl rfl)
theorem dX0_legAt_35 : decode cX0_legAt 35 = .ok (.ifCond .eq 12, 3) := dk_153 0 12 (dk_at dksX0_legAt_1 11 rfl rfl)
theorem dX0_legAt_38 : decode cX0_legAt 38 = .ok (.aload_n 0, 1) := dk_42 (dk_at dksX0_legAt_1 14 rfl rfl)
theorem dX0_legAt_39 : decode cX0_legAt 39 = .ok (.getfield 49, 3) := dk_180 0 49 (dk_at dksX0_legAt_1 15 rfl rfl)
theorem dX0_legAt_42 : decode cX0_legAt 42 = .ok (.iload_n 1, 1) := dk_27 (dk_at dksX0_legAt_1 18 rfl rfl)
theorem dX0_legAt_43 : decode cX0_legAt 43 = .ok (.iaload, 1) := dk_46 (dk_at dksX0_legAt_1 19 rfl rfl)
theorem dX0_legAt_44 : decode cX0_legAt 44 = .ok (.goto 5, 3) := dk_167 0 5 (dk_at dksX0_legAt_1 20 rfl rfl)
theorem dX0_legAt_47 : decode cX0_legAt 47 = .ok (.bipush (-9), 2) := dk_16 247 (dk_at dksX0_legAt_2 0 rfl rfl)
theorem dX0_legAt_49 : decode cX0_legAt 49 = .ok (.ireturn, 1) := dk_172 (dk_at dksX0_legAt_2 2 rfl rfl)
abbrev cX0_cuts : ByteArray := prog_1_method_40_code
def yX0_cuts : MethodName := ⟨RX0, "cuts", "()I"⟩
def dkwX0_cuts_0 : List UInt8 := [42, 180, 0, 216, 154, 0, 8, 16, 247, 167, 0, 7, 42, 180, 0, 249, 172]
abbrev dktX0_cuts_0 : List UInt8 := dkwX0_cuts_0 ++ []
theorem dksX0_cuts_0 : cX0_cuts.data.toList.drop 0 = dktX0_cuts_0 := by decide +kernel
theorem dX0_cuts_0 : decode cX0_cuts 0 = .ok (.aload_n 0, 1) := dk_42 (dk_at dksX0_cuts_0 0 rfl rfl)
theorem dX0_cuts_1 : decode cX0_cuts 1 = .ok (.getfield 216, 3) := dk_180 0 216 (dk_at dksX0_cuts_0 1 rfl rfl)
theorem dX0_cuts_4 : decode cX0_cuts 4 = .ok (.ifCond .ne 8, 3) := dk_154 0 8 (dk_at dksX0_cuts_0 4 rfl rfl)
theorem dX0_cuts_7 : decode cX0_cuts 7 = .ok (.bipush (-9), 2) := dk_16 247 (dk_at dksX0_cuts_0 7 rfl rfl)
theorem dX0_cuts_9 : decode cX0_cuts 9 = .ok (.goto 7, 3) := dk_167 0 7 (dk_at dksX0_cuts_0 9 rfl rfl)
theorem dX0_cuts_12 : decode cX0_cuts 12 = .ok (.aload_n 0, 1) := dk_42 (dk_at dksX0_cuts_0 12 rfl rfl)
theorem dX0_cuts_13 : decode cX0_cuts 13 = .ok (.getfield 249, 3) := dk_180 0 249 (dk_at dksX0_cuts_0 13 rfl rfl)
theorem dX0_cuts_16 : decode cX0_cuts 16 = .ok (.ireturn, 1) := dk_172 (dk_at dksX0_cuts_0 16 rfl rfl)
abbrev cX0_tries : ByteArray := prog_1_method_41_code
def yX0_tries : MethodName := ⟨RX0, "tries", "()I"⟩
theorem dX0_tries_0 : decode cX0_tries 0 = .ok (.aload_n 0, 1) := by decide +kernel
theorem dX0_tries_1 : decode cX0_tries 1 = .ok (.getfield 232, 3) := by decide +kernel
theorem dX0_tries_4 : decode cX0_tries 4 = .ok (.ireturn, 1) := by decide +kernel
abbrev cX0_shift : ByteArray := prog_1_method_43_code
def yX0_shift : MethodName := ⟨RX0, "shift", "(III)I"⟩
def dkwX0_shift_2 : List UInt8 := [183, 1, 5, 182, 1, 7, 172]
abbrev dktX0_shift_2 : List UInt8 := dkwX0_shift_2 ++ []
def dkwX0_shift_1 : List UInt8 := [16, 206, 16, 50, 184, 0, 68, 154, 0, 7, 2, 167, 0, 17, 42, 187, 1, 3, 89, 27, 28, 29]
abbrev dktX0_shift_1 : List UInt8 := dkwX0_shift_1 ++ dktX0_shift_2
def dkwX0_shift_0 : List UInt8 := [27, 16, 206, 16, 50, 184, 0, 68, 153, 0, 25, 28, 16, 206, 16, 50, 184, 0, 68, 153, 0, 14, 29]
abbrev dktX0_shift_0 : List UInt8 := dkwX0_shift_0 ++ dktX0_shift_1
theorem dksX0_shift_0 : cX0_shift.data.toList.drop 0 = dktX0_shift_0 := by decide +kernel
theorem dksX0_shift_1 : cX0_shift.data.toList.drop 23 = dktX0_shift_1 := dk_seg dksX0_shift_0 23 rfl rfl
theorem dksX0_shift_2 : cX0_shift.data.toList.drop 45 = dktX0_shift_2 := dk_seg dksX0_shift_1 22 rfl rfl
theorem dX0_shift_0 : decode cX0_shift 0 = .ok (.iload_n 1, 1) := dk_27 (dk_at dksX0_shift_0 0 rfl rfl)
theorem dX0_shift_1 : decode cX0_shift 1 = .ok (.bipush (-50), 2) := dk_16 206 (dk_at dksX0_shift_0 1 rfl rfl)
theorem dX0_shift_3 : decode cX0_shift 3 = .ok (.bipush 50, 2) := dk_16 50 (dk_at dksX0_shift_0 3 rfl rfl)
theorem dX0_shift_5 : decode cX0_shift 5 = .ok (.invokestatic 68, 3) := dk_184 0 68 (dk_at dksX0_shift_0 5 rfl rfl)
theorem dX0_shift_8 : decode cX0_shift 8 = .ok (.ifCond .eq 25, 3) := dk_153 0 25 (dk_at dksX0_shift_0 8 rfl rfl)
theorem dX0_shift_11 : decode cX0_shift 11 = .ok (.iload_n 2, 1) := dk_28 (dk_at dksX0_shift_0 11 rfl rfl)
theorem dX0_shift_12 : decode cX0_shift 12 = .ok (.bipush (-50), 2) := dk_16 206 (dk_at dksX0_shift_0 12 rfl rfl)
theorem dX0_shift_14 : decode cX0_shift 14 = .ok (.bipush 50, 2) := dk_16 50 (dk_at dksX0_shift_0 14 rfl rfl)
theorem dX0_shift_16 : decode cX0_shift 16 = .ok (.invokestatic 68, 3) := dk_184 0 68 (dk_at dksX0_shift_0 16 rfl rfl)
theorem dX0_shift_19 : decode cX0_shift 19 = .ok (.ifCond .eq 14, 3) := dk_153 0 14 (dk_at dksX0_shift_0 19 rfl rfl)
theorem dX0_shift_22 : decode cX0_shift 22 = .ok (.iload_n 3, 1) := dk_29 (dk_at dksX0_shift_0 22 rfl rfl)
theorem dX0_shift_23 : decode cX0_shift 23 = .ok (.bipush (-50), 2) := dk_16 206 (dk_at dksX0_shift_1 0 rfl rfl)
theorem dX0_shift_25 : decode cX0_shift 25 = .ok (.bipush 50, 2) := dk_16 50 (dk_at dksX0_shift_1 2 rfl rfl)
theorem dX0_shift_27 : decode cX0_shift 27 = .ok (.invokestatic 68, 3) := dk_184 0 68 (dk_at dksX0_shift_1 4 rfl rfl)
theorem dX0_shift_30 : decode cX0_shift 30 = .ok (.ifCond .ne 7, 3) := dk_154 0 7 (dk_at dksX0_shift_1 7 rfl rfl)
theorem dX0_shift_33 : decode cX0_shift 33 = .ok (.iconst (-1), 1) := dk_2 (dk_at dksX0_shift_1 10 rfl rfl)
theorem dX0_shift_34 : decode cX0_shift 34 = .ok (.goto 17, 3) := dk_167 0 17 (dk_at dksX0_shift_1 11 rfl rfl)
theorem dX0_shift_37 : decode cX0_shift 37 = .ok (.aload_n 0, 1) := dk_42 (dk_at dksX0_shift_1 14 rfl rfl)
theorem dX0_shift_38 : decode cX0_shift 38 = .ok (.new 259, 3) := dk_187 1 3 (dk_at dksX0_shift_1 15 rfl rfl)
theorem dX0_shift_41 : decode cX0_shift 41 = .ok (.dup, 1) := dk_89 (dk_at dksX0_shift_1 18 rfl rfl)
theorem dX0_shift_42 : decode cX0_shift 42 = .ok (.iload_n 1, 1) := dk_27 (dk_at dksX0_shift_1 19 rfl rfl)
theorem dX0_shift_43 : decode cX0_shift 43 = .ok (.iload_n 2, 1) := dk_28 (dk_at dksX0_shift_1 20 rfl rfl)
theorem dX0_shift_44 : decode cX0_shift 44 = .ok (.iload_n 3, 1) := dk_29 (dk_at dksX0_shift_1 21 rfl rfl)
theorem dX0_shift_45 : decode cX0_shift 45 = .ok (.invokespecial 261, 3) := dk_183 1 5 (dk_at dksX0_shift_2 0 rfl rfl)
theorem dX0_shift_48 : decode cX0_shift 48 = .ok (.invokevirtual 263, 3) := dk_182 1 7 (dk_at dksX0_shift_2 3 rfl rfl)
theorem dX0_shift_51 : decode cX0_shift 51 = .ok (.ireturn, 1) := dk_172 (dk_at dksX0_shift_2 6 rfl rfl)
abbrev cX0_add : ByteArray := prog_1_method_42_code
def yX0_add : MethodName := ⟨RX0, "add", "(LLimbMaker$Moving;)I"⟩
def dkwX0_add_1 : List UInt8 := [42, 180, 0, 55, 182, 0, 252, 172]
abbrev dktX0_add_1 : List UInt8 := dkwX0_add_1 ++ []
def dkwX0_add_0 : List UInt8 := [42, 180, 0, 55, 182, 0, 252, 16, 20, 160, 0, 6, 16, 254, 172, 42, 180, 0, 55, 43, 182, 0, 255, 87]
abbrev dktX0_add_0 : List UInt8 := dkwX0_add_0 ++ dktX0_add_1
theorem dksX0_add_0 : cX0_add.data.toList.drop 0 = dktX0_add_0 := by decide +kernel
theorem dksX0_add_1 : cX0_add.data.toList.drop 24 = dktX0_add_1 := dk_seg dksX0_add_0 24 rfl rfl
theorem dX0_add_0 : decode cX0_add 0 = .ok (.aload_n 0, 1) := dk_42 (dk_at dksX0_add_0 0 rfl rfl)
theorem dX0_add_1 : decode cX0_add 1 = .ok (.getfield 55, 3) := dk_180 0 55 (dk_at dksX0_add_0 1 rfl rfl)
theorem dX0_add_4 : decode cX0_add 4 = .ok (.invokevirtual 252, 3) := dk_182 0 252 (dk_at dksX0_add_0 4 rfl rfl)
theorem dX0_add_7 : decode cX0_add 7 = .ok (.bipush 20, 2) := dk_16 20 (dk_at dksX0_add_0 7 rfl rfl)
theorem dX0_add_9 : decode cX0_add 9 = .ok (.if_icmp .ne 6, 3) := dk_160 0 6 (dk_at dksX0_add_0 9 rfl rfl)
theorem dX0_add_12 : decode cX0_add 12 = .ok (.bipush (-2), 2) := dk_16 254 (dk_at dksX0_add_0 12 rfl rfl)
theorem dX0_add_14 : decode cX0_add 14 = .ok (.ireturn, 1) := dk_172 (dk_at dksX0_add_0 14 rfl rfl)
theorem dX0_add_15 : decode cX0_add 15 = .ok (.aload_n 0, 1) := dk_42 (dk_at dksX0_add_0 15 rfl rfl)
theorem dX0_add_16 : decode cX0_add 16 = .ok (.getfield 55, 3) := dk_180 0 55 (dk_at dksX0_add_0 16 rfl rfl)
theorem dX0_add_19 : decode cX0_add 19 = .ok (.aload_n 1, 1) := dk_43 (dk_at dksX0_add_0 19 rfl rfl)
theorem dX0_add_20 : decode cX0_add 20 = .ok (.invokevirtual 255, 3) := dk_182 0 255 (dk_at dksX0_add_0 20 rfl rfl)
theorem dX0_add_23 : decode cX0_add 23 = .ok (.pop, 1) := dk_87 (dk_at dksX0_add_0 23 rfl rfl)
theorem dX0_add_24 : decode cX0_add 24 = .ok (.aload_n 0, 1) := dk_42 (dk_at dksX0_add_1 0 rfl rfl)
theorem dX0_add_25 : decode cX0_add 25 = .ok (.getfield 55, 3) := dk_180 0 55 (dk_at dksX0_add_1 1 rfl rfl)
theorem dX0_add_28 : decode cX0_add 28 = .ok (.invokevirtual 252, 3) := dk_182 0 252 (dk_at dksX0_add_1 4 rfl rfl)
theorem dX0_add_31 : decode cX0_add 31 = .ok (.ireturn, 1) := dk_172 (dk_at dksX0_add_1 7 rfl rfl)
abbrev cX0_turn : ByteArray := prog_1_method_44_code
def yX0_turn : MethodName := ⟨RX0, "turn", "(IZ)I"⟩
def dkwX0_turn_1 : List UInt8 := [182, 1, 7, 172]
abbrev dktX0_turn_1 : List UInt8 := dkwX0_turn_1 ++ []
def dkwX0_turn_0 : List UInt8 := [27, 3, 5, 184, 0, 68, 154, 0, 7, 2, 167, 0, 16, 42, 187, 1, 10, 89, 27, 28, 183, 1, 12]
abbrev dktX0_turn_0 : List UInt8 := dkwX0_turn_0 ++ dktX0_turn_1
theorem dksX0_turn_0 : cX0_turn.data.toList.drop 0 = dktX0_turn_0 := by decide +kernel
theorem dksX0_turn_1 : cX0_turn.data.toList.drop 23 = dktX0_turn_1 := dk_seg dksX0_turn_0 23 rfl rfl
theorem dX0_turn_0 : decode cX0_turn 0 = .ok (.iload_n 1, 1) := dk_27 (dk_at dksX0_turn_0 0 rfl rfl)
theorem dX0_turn_1 : decode cX0_turn 1 = .ok (.iconst 0, 1) := dk_3 (dk_at dksX0_turn_0 1 rfl rfl)
theorem dX0_turn_2 : decode cX0_turn 2 = .ok (.iconst 2, 1) := dk_5 (dk_at dksX0_turn_0 2 rfl rfl)
theorem dX0_turn_3 : decode cX0_turn 3 = .ok (.invokestatic 68, 3) := dk_184 0 68 (dk_at dksX0_turn_0 3 rfl rfl)
theorem dX0_turn_6 : decode cX0_turn 6 = .ok (.ifCond .ne 7, 3) := dk_154 0 7 (dk_at dksX0_turn_0 6 rfl rfl)
theorem dX0_turn_9 : decode cX0_turn 9 = .ok (.iconst (-1), 1) := dk_2 (dk_at dksX0_turn_0 9 rfl rfl)
theorem dX0_turn_10 : decode cX0_turn 10 = .ok (.goto 16, 3) := dk_167 0 16 (dk_at dksX0_turn_0 10 rfl rfl)
theorem dX0_turn_13 : decode cX0_turn 13 = .ok (.aload_n 0, 1) := dk_42 (dk_at dksX0_turn_0 13 rfl rfl)
theorem dX0_turn_14 : decode cX0_turn 14 = .ok (.new 266, 3) := dk_187 1 10 (dk_at dksX0_turn_0 14 rfl rfl)
theorem dX0_turn_17 : decode cX0_turn 17 = .ok (.dup, 1) := dk_89 (dk_at dksX0_turn_0 17 rfl rfl)
theorem dX0_turn_18 : decode cX0_turn 18 = .ok (.iload_n 1, 1) := dk_27 (dk_at dksX0_turn_0 18 rfl rfl)
theorem dX0_turn_19 : decode cX0_turn 19 = .ok (.iload_n 2, 1) := dk_28 (dk_at dksX0_turn_0 19 rfl rfl)
theorem dX0_turn_20 : decode cX0_turn 20 = .ok (.invokespecial 268, 3) := dk_183 1 12 (dk_at dksX0_turn_0 20 rfl rfl)
theorem dX0_turn_23 : decode cX0_turn 23 = .ok (.invokevirtual 263, 3) := dk_182 1 7 (dk_at dksX0_turn_1 0 rfl rfl)
theorem dX0_turn_26 : decode cX0_turn 26 = .ok (.ireturn, 1) := dk_172 (dk_at dksX0_turn_1 3 rfl rfl)
abbrev cX0_undo : ByteArray := prog_1_method_45_code
def yX0_undo : MethodName := ⟨RX0, "undo", "()I"⟩
def dkwX0_undo_1 : List UInt8 := [4, 100, 182, 1, 19, 87, 42, 180, 0, 55, 182, 0, 252, 172]
abbrev dktX0_undo_1 : List UInt8 := dkwX0_undo_1 ++ []
def dkwX0_undo_0 : List UInt8 := [42, 180, 0, 55, 182, 1, 15, 153, 0, 6, 16, 252, 172, 42, 180, 0, 55, 42, 180, 0, 55, 182, 0, 252]
abbrev dktX0_undo_0 : List UInt8 := dkwX0_undo_0 ++ dktX0_undo_1
theorem dksX0_undo_0 : cX0_undo.data.toList.drop 0 = dktX0_undo_0 := by decide +kernel
theorem dksX0_undo_1 : cX0_undo.data.toList.drop 24 = dktX0_undo_1 := dk_seg dksX0_undo_0 24 rfl rfl
theorem dX0_undo_0 : decode cX0_undo 0 = .ok (.aload_n 0, 1) := dk_42 (dk_at dksX0_undo_0 0 rfl rfl)
theorem dX0_undo_1 : decode cX0_undo 1 = .ok (.getfield 55, 3) := dk_180 0 55 (dk_at dksX0_undo_0 1 rfl rfl)
theorem dX0_undo_4 : decode cX0_undo 4 = .ok (.invokevirtual 271, 3) := dk_182 1 15 (dk_at dksX0_undo_0 4 rfl rfl)
theorem dX0_undo_7 : decode cX0_undo 7 = .ok (.ifCond .eq 6, 3) := dk_153 0 6 (dk_at dksX0_undo_0 7 rfl rfl)
theorem dX0_undo_10 : decode cX0_undo 10 = .ok (.bipush (-4), 2) := dk_16 252 (dk_at dksX0_undo_0 10 rfl rfl)
theorem dX0_undo_12 : decode cX0_undo 12 = .ok (.ireturn, 1) := dk_172 (dk_at dksX0_undo_0 12 rfl rfl)
theorem dX0_undo_13 : decode cX0_undo 13 = .ok (.aload_n 0, 1) := dk_42 (dk_at dksX0_undo_0 13 rfl rfl)
theorem dX0_undo_14 : decode cX0_undo 14 = .ok (.getfield 55, 3) := dk_180 0 55 (dk_at dksX0_undo_0 14 rfl rfl)
theorem dX0_undo_17 : decode cX0_undo 17 = .ok (.aload_n 0, 1) := dk_42 (dk_at dksX0_undo_0 17 rfl rfl)
theorem dX0_undo_18 : decode cX0_undo 18 = .ok (.getfield 55, 3) := dk_180 0 55 (dk_at dksX0_undo_0 18 rfl rfl)
theorem dX0_undo_21 : decode cX0_undo 21 = .ok (.invokevirtual 252, 3) := dk_182 0 252 (dk_at dksX0_undo_0 21 rfl rfl)
theorem dX0_undo_24 : decode cX0_undo 24 = .ok (.iconst 1, 1) := dk_4 (dk_at dksX0_undo_1 0 rfl rfl)
theorem dX0_undo_25 : decode cX0_undo 25 = .ok (.isub, 1) := dk_100 (dk_at dksX0_undo_1 1 rfl rfl)
theorem dX0_undo_26 : decode cX0_undo 26 = .ok (.invokevirtual 275, 3) := dk_182 1 19 (dk_at dksX0_undo_1 2 rfl rfl)
theorem dX0_undo_29 : decode cX0_undo 29 = .ok (.pop, 1) := dk_87 (dk_at dksX0_undo_1 5 rfl rfl)
theorem dX0_undo_30 : decode cX0_undo 30 = .ok (.aload_n 0, 1) := dk_42 (dk_at dksX0_undo_1 6 rfl rfl)
theorem dX0_undo_31 : decode cX0_undo 31 = .ok (.getfield 55, 3) := dk_180 0 55 (dk_at dksX0_undo_1 7 rfl rfl)
theorem dX0_undo_34 : decode cX0_undo 34 = .ok (.invokevirtual 252, 3) := dk_182 0 252 (dk_at dksX0_undo_1 10 rfl rfl)
theorem dX0_undo_37 : decode cX0_undo 37 = .ok (.ireturn, 1) := dk_172 (dk_at dksX0_undo_1 13 rfl rfl)
abbrev cX0_where : ByteArray := prog_1_method_47_code
def yX0_where : MethodName := ⟨RX0, "where", "(II)I"⟩
def dkwX0_where_1 : List UInt8 := [182, 1, 32, 4, 182, 1, 35, 167, 0, 4, 2, 172]
abbrev dktX0_where_1 : List UInt8 := dkwX0_where_1 ++ []
def dkwX0_where_0 : List UInt8 := [27, 3, 6, 184, 0, 68, 153, 0, 26, 28, 3, 5, 184, 0, 68, 153, 0, 17, 42, 42, 27, 28]
abbrev dktX0_where_0 : List UInt8 := dkwX0_where_0 ++ dktX0_where_1
theorem dksX0_where_0 : cX0_where.data.toList.drop 0 = dktX0_where_0 := by decide +kernel
theorem dksX0_where_1 : cX0_where.data.toList.drop 22 = dktX0_where_1 := dk_seg dksX0_where_0 22 rfl rfl
theorem dX0_where_0 : decode cX0_where 0 = .ok (.iload_n 1, 1) := dk_27 (dk_at dksX0_where_0 0 rfl rfl)
theorem dX0_where_1 : decode cX0_where 1 = .ok (.iconst 0, 1) := dk_3 (dk_at dksX0_where_0 1 rfl rfl)
theorem dX0_where_2 : decode cX0_where 2 = .ok (.iconst 3, 1) := dk_6 (dk_at dksX0_where_0 2 rfl rfl)
theorem dX0_where_3 : decode cX0_where 3 = .ok (.invokestatic 68, 3) := dk_184 0 68 (dk_at dksX0_where_0 3 rfl rfl)
theorem dX0_where_6 : decode cX0_where 6 = .ok (.ifCond .eq 26, 3) := dk_153 0 26 (dk_at dksX0_where_0 6 rfl rfl)
theorem dX0_where_9 : decode cX0_where 9 = .ok (.iload_n 2, 1) := dk_28 (dk_at dksX0_where_0 9 rfl rfl)
theorem dX0_where_10 : decode cX0_where 10 = .ok (.iconst 0, 1) := dk_3 (dk_at dksX0_where_0 10 rfl rfl)
theorem dX0_where_11 : decode cX0_where 11 = .ok (.iconst 2, 1) := dk_5 (dk_at dksX0_where_0 11 rfl rfl)
theorem dX0_where_12 : decode cX0_where 12 = .ok (.invokestatic 68, 3) := dk_184 0 68 (dk_at dksX0_where_0 12 rfl rfl)
theorem dX0_where_15 : decode cX0_where 15 = .ok (.ifCond .eq 17, 3) := dk_153 0 17 (dk_at dksX0_where_0 15 rfl rfl)
theorem dX0_where_18 : decode cX0_where 18 = .ok (.aload_n 0, 1) := dk_42 (dk_at dksX0_where_0 18 rfl rfl)
theorem dX0_where_19 : decode cX0_where 19 = .ok (.aload_n 0, 1) := dk_42 (dk_at dksX0_where_0 19 rfl rfl)
theorem dX0_where_20 : decode cX0_where 20 = .ok (.iload_n 1, 1) := dk_27 (dk_at dksX0_where_0 20 rfl rfl)
theorem dX0_where_21 : decode cX0_where 21 = .ok (.iload_n 2, 1) := dk_28 (dk_at dksX0_where_0 21 rfl rfl)
theorem dX0_where_22 : decode cX0_where 22 = .ok (.invokevirtual 288, 3) := dk_182 1 32 (dk_at dksX0_where_1 0 rfl rfl)
theorem dX0_where_25 : decode cX0_where 25 = .ok (.iconst 1, 1) := dk_4 (dk_at dksX0_where_1 3 rfl rfl)
theorem dX0_where_26 : decode cX0_where 26 = .ok (.invokevirtual 291, 3) := dk_182 1 35 (dk_at dksX0_where_1 4 rfl rfl)
theorem dX0_where_29 : decode cX0_where 29 = .ok (.goto 4, 3) := dk_167 0 4 (dk_at dksX0_where_1 7 rfl rfl)
theorem dX0_where_32 : decode cX0_where 32 = .ok (.iconst (-1), 1) := dk_2 (dk_at dksX0_where_1 10 rfl rfl)
theorem dX0_where_33 : decode cX0_where 33 = .ok (.ireturn, 1) := dk_172 (dk_at dksX0_where_1 11 rfl rfl)
abbrev cX0_whereOf : ByteArray := prog_1_method_46_code
def yX0_whereOf : MethodName := ⟨RX0, "whereOf", "(II)I"⟩
def dkwX0_whereOf_3 : List UInt8 := [185, 1, 28, 3, 0, 132, 3, 1, 167, 255, 213, 42, 180, 0, 59, 28, 46, 172]
abbrev dktX0_whereOf_3 : List UInt8 := dkwX0_whereOf_3 ++ []
def dkwX0_whereOf_2 : List UInt8 := [29, 182, 1, 23, 192, 1, 26, 42, 180, 0, 59, 27, 154, 0, 7, 4, 167, 0, 4, 3]
abbrev dktX0_whereOf_2 : List UInt8 := dkwX0_whereOf_2 ++ dktX0_whereOf_3
def dkwX0_whereOf_1 : List UInt8 := [79, 132, 3, 1, 167, 255, 230, 3, 62, 29, 42, 180, 0, 55, 182, 0, 252, 162, 0, 38, 42, 180, 0, 55]
abbrev dktX0_whereOf_1 : List UInt8 := dkwX0_whereOf_1 ++ dktX0_whereOf_2
def dkwX0_whereOf_0 : List UInt8 := [3, 62, 29, 6, 162, 0, 27, 42, 180, 0, 59, 29, 27, 4, 100, 29, 160, 0, 7, 4, 167, 0, 4, 3]
abbrev dktX0_whereOf_0 : List UInt8 := dkwX0_whereOf_0 ++ dktX0_whereOf_1
theorem dksX0_whereOf_0 : cX0_whereOf.data.toList.drop 0 = dktX0_whereOf_0 := by decide +kernel
theorem dksX0_whereOf_1 : cX0_whereOf.data.toList.drop 24 = dktX0_whereOf_1 := dk_seg dksX0_whereOf_0 24 rfl rfl
theorem dksX0_whereOf_2 : cX0_whereOf.data.toList.drop 48 = dktX0_whereOf_2 := dk_seg dksX0_whereOf_1 24 rfl rfl
theorem dksX0_whereOf_3 : cX0_whereOf.data.toList.drop 68 = dktX0_whereOf_3 := dk_seg dksX0_whereOf_2 20 rfl rfl
theorem dX0_whereOf_0 : decode cX0_whereOf 0 = .ok (.iconst 0, 1) := dk_3 (dk_at dksX0_whereOf_0 0 rfl rfl)
theorem dX0_whereOf_1 : decode cX0_whereOf 1 = .ok (.istore_n 3, 1) := dk_62 (dk_at dksX0_whereOf_0 1 rfl rfl)
theorem dX0_whereOf_2 : decode cX0_whereOf 2 = .ok (.iload_n 3, 1) := dk_29 (dk_at dksX0_whereOf_0 2 rfl rfl)
theorem dX0_whereOf_3 : decode cX0_whereOf 3 = .ok (.iconst 3, 1) := dk_6 (dk_at dksX0_whereOf_0 3 rfl rfl)
theorem dX0_whereOf_4 : decode cX0_whereOf 4 = .ok (.if_icmp .ge 27, 3) := dk_162 0 27 (dk_at dksX0_whereOf_0 4 rfl rfl)
theorem dX0_whereOf_7 : decode cX0_whereOf 7 = .ok (.aload_n 0, 1) := dk_42 (dk_at dksX0_whereOf_0 7 rfl rfl)
theorem dX0_whereOf_8 : decode cX0_whereOf 8 = .ok (.getfield 59, 3) := dk_180 0 59 (dk_at dksX0_whereOf_0 8 rfl rfl)
theorem dX0_whereOf_11 : decode cX0_whereOf 11 = .ok (.iload_n 3, 1) := dk_29 (dk_at dksX0_whereOf_0 11 rfl rfl)
theorem dX0_whereOf_12 : decode cX0_whereOf 12 = .ok (.iload_n 1, 1) := dk_27 (dk_at dksX0_whereOf_0 12 rfl rfl)
theorem dX0_whereOf_13 : decode cX0_whereOf 13 = .ok (.iconst 1, 1) := dk_4 (dk_at dksX0_whereOf_0 13 rfl rfl)
theorem dX0_whereOf_14 : decode cX0_whereOf 14 = .ok (.isub, 1) := dk_100 (dk_at dksX0_whereOf_0 14 rfl rfl)
theorem dX0_whereOf_15 : decode cX0_whereOf 15 = .ok (.iload_n 3, 1) := dk_29 (dk_at dksX0_whereOf_0 15 rfl rfl)
theorem dX0_whereOf_16 : decode cX0_whereOf 16 = .ok (.if_icmp .ne 7, 3) := dk_160 0 7 (dk_at dksX0_whereOf_0 16 rfl rfl)
theorem dX0_whereOf_19 : decode cX0_whereOf 19 = .ok (.iconst 1, 1) := dk_4 (dk_at dksX0_whereOf_0 19 rfl rfl)
theorem dX0_whereOf_20 : decode cX0_whereOf 20 = .ok (.goto 4, 3) := dk_167 0 4 (dk_at dksX0_whereOf_0 20 rfl rfl)
theorem dX0_whereOf_23 : decode cX0_whereOf 23 = .ok (.iconst 0, 1) := dk_3 (dk_at dksX0_whereOf_0 23 rfl rfl)
theorem dX0_whereOf_24 : decode cX0_whereOf 24 = .ok (.iastore, 1) := dk_79 (dk_at dksX0_whereOf_1 0 rfl rfl)
theorem dX0_whereOf_25 : decode cX0_whereOf 25 = .ok (.iinc 3 1, 3) := dk_132 3 1 (dk_at dksX0_whereOf_1 1 rfl rfl)
theorem dX0_whereOf_28 : decode cX0_whereOf 28 = .ok (.goto (-26), 3) := dk_167 255 230 (dk_at dksX0_whereOf_1 4 rfl rfl)
theorem dX0_whereOf_31 : decode cX0_whereOf 31 = .ok (.iconst 0, 1) := dk_3 (dk_at dksX0_whereOf_1 7 rfl rfl)
theorem dX0_whereOf_32 : decode cX0_whereOf 32 = .ok (.istore_n 3, 1) := dk_62 (dk_at dksX0_whereOf_1 8 rfl rfl)
theorem dX0_whereOf_33 : decode cX0_whereOf 33 = .ok (.iload_n 3, 1) := dk_29 (dk_at dksX0_whereOf_1 9 rfl rfl)
theorem dX0_whereOf_34 : decode cX0_whereOf 34 = .ok (.aload_n 0, 1) := dk_42 (dk_at dksX0_whereOf_1 10 rfl rfl)
theorem dX0_whereOf_35 : decode cX0_whereOf 35 = .ok (.getfield 55, 3) := dk_180 0 55 (dk_at dksX0_whereOf_1 11 rfl rfl)
theorem dX0_whereOf_38 : decode cX0_whereOf 38 = .ok (.invokevirtual 252, 3) := dk_182 0 252 (dk_at dksX0_whereOf_1 14 rfl rfl)
theorem dX0_whereOf_41 : decode cX0_whereOf 41 = .ok (.if_icmp .ge 38, 3) := dk_162 0 38 (dk_at dksX0_whereOf_1 17 rfl rfl)
theorem dX0_whereOf_44 : decode cX0_whereOf 44 = .ok (.aload_n 0, 1) := dk_42 (dk_at dksX0_whereOf_1 20 rfl rfl)
theorem dX0_whereOf_45 : decode cX0_whereOf 45 = .ok (.getfield 55, 3) := dk_180 0 55 (dk_at dksX0_whereOf_1 21 rfl rfl)
theorem dX0_whereOf_48 : decode cX0_whereOf 48 = .ok (.iload_n 3, 1) := dk_29 (dk_at dksX0_whereOf_2 0 rfl rfl)
theorem dX0_whereOf_49 : decode cX0_whereOf 49 = .ok (.invokevirtual 279, 3) := dk_182 1 23 (dk_at dksX0_whereOf_2 1 rfl rfl)
theorem dX0_whereOf_52 : decode cX0_whereOf 52 = .ok (.checkcast 282, 3) := dk_192 1 26 (dk_at dksX0_whereOf_2 4 rfl rfl)
theorem dX0_whereOf_55 : decode cX0_whereOf 55 = .ok (.aload_n 0, 1) := dk_42 (dk_at dksX0_whereOf_2 7 rfl rfl)
theorem dX0_whereOf_56 : decode cX0_whereOf 56 = .ok (.getfield 59, 3) := dk_180 0 59 (dk_at dksX0_whereOf_2 8 rfl rfl)
theorem dX0_whereOf_59 : decode cX0_whereOf 59 = .ok (.iload_n 1, 1) := dk_27 (dk_at dksX0_whereOf_2 11 rfl rfl)
theorem dX0_whereOf_60 : decode cX0_whereOf 60 = .ok (.ifCond .ne 7, 3) := dk_154 0 7 (dk_at dksX0_whereOf_2 12 rfl rfl)
theorem dX0_whereOf_63 : decode cX0_whereOf 63 = .ok (.iconst 1, 1) := dk_4 (dk_at dksX0_whereOf_2 15 rfl rfl)
theorem dX0_whereOf_64 : decode cX0_whereOf 64 = .ok (.goto 4, 3) := dk_167 0 4 (dk_at dksX0_whereOf_2 16 rfl rfl)
theorem dX0_whereOf_67 : decode cX0_whereOf 67 = .ok (.iconst 0, 1) := dk_3 (dk_at dksX0_whereOf_2 19 rfl rfl)
theorem dX0_whereOf_68 : decode cX0_whereOf 68 = .ok (.invokeinterface 284 3, 5) := by decide +kernel
theorem dX0_whereOf_73 : decode cX0_whereOf 73 = .ok (.iinc 3 1, 3) := dk_132 3 1 (dk_at dksX0_whereOf_3 5 rfl rfl)
theorem dX0_whereOf_76 : decode cX0_whereOf 76 = .ok (.goto (-43), 3) := dk_167 255 213 (dk_at dksX0_whereOf_3 8 rfl rfl)
theorem dX0_whereOf_79 : decode cX0_whereOf 79 = .ok (.aload_n 0, 1) := dk_42 (dk_at dksX0_whereOf_3 11 rfl rfl)
theorem dX0_whereOf_80 : decode cX0_whereOf 80 = .ok (.getfield 59, 3) := dk_180 0 59 (dk_at dksX0_whereOf_3 12 rfl rfl)
theorem dX0_whereOf_83 : decode cX0_whereOf 83 = .ok (.iload_n 2, 1) := dk_28 (dk_at dksX0_whereOf_3 15 rfl rfl)
theorem dX0_whereOf_84 : decode cX0_whereOf 84 = .ok (.iaload, 1) := dk_46 (dk_at dksX0_whereOf_3 16 rfl rfl)
theorem dX0_whereOf_85 : decode cX0_whereOf 85 = .ok (.ireturn, 1) := dk_172 (dk_at dksX0_whereOf_3 17 rfl rfl)
abbrev cX0_tells : ByteArray := prog_1_method_3_code
def yX0_tells : MethodName := ⟨RX0, "tells", "(II)I"⟩
def dkwX0_tells_0 : List UInt8 := [42, 27, 181, 0, 11, 28, 172]
abbrev dktX0_tells_0 : List UInt8 := dkwX0_tells_0 ++ []
theorem dksX0_tells_0 : cX0_tells.data.toList.drop 0 = dktX0_tells_0 := by decide +kernel
theorem dX0_tells_0 : decode cX0_tells 0 = .ok (.aload_n 0, 1) := dk_42 (dk_at dksX0_tells_0 0 rfl rfl)
theorem dX0_tells_1 : decode cX0_tells 1 = .ok (.iload_n 1, 1) := dk_27 (dk_at dksX0_tells_0 1 rfl rfl)
theorem dX0_tells_2 : decode cX0_tells 2 = .ok (.putfield 11, 3) := dk_181 0 11 (dk_at dksX0_tells_0 2 rfl rfl)
theorem dX0_tells_5 : decode cX0_tells 5 = .ok (.iload_n 2, 1) := dk_28 (dk_at dksX0_tells_0 5 rfl rfl)
theorem dX0_tells_6 : decode cX0_tells 6 = .ok (.ireturn, 1) := dk_172 (dk_at dksX0_tells_0 6 rfl rfl)
abbrev cX0_step : ByteArray := prog_1_method_48_code
def yX0_step : MethodName := ⟨RX0, "step", "(II)I"⟩
def dkwX0_step_3 : List UInt8 := [172]
abbrev dktX0_step_3 : List UInt8 := dkwX0_step_3 ++ []
def dkwX0_step_2 : List UInt8 := [180, 0, 65, 27, 46, 96, 28, 79, 42, 180, 0, 65, 27, 92, 46, 4, 96, 79, 42, 180, 0, 65, 27, 46]
abbrev dktX0_step_2 : List UInt8 := dkwX0_step_2 ++ dktX0_step_3
def dkwX0_step_1 : List UInt8 := [180, 0, 65, 27, 46, 16, 40, 160, 0, 6, 16, 254, 172, 42, 180, 0, 62, 16, 40, 27, 104, 42]
abbrev dktX0_step_1 : List UInt8 := dkwX0_step_1 ++ dktX0_step_2
def dkwX0_step_0 : List UInt8 := [27, 3, 4, 184, 0, 68, 153, 0, 14, 28, 3, 17, 7, 208, 184, 0, 68, 154, 0, 5, 2, 172, 42]
abbrev dktX0_step_0 : List UInt8 := dkwX0_step_0 ++ dktX0_step_1
theorem dksX0_step_0 : cX0_step.data.toList.drop 0 = dktX0_step_0 := by decide +kernel
theorem dksX0_step_1 : cX0_step.data.toList.drop 23 = dktX0_step_1 := dk_seg dksX0_step_0 23 rfl rfl
theorem dksX0_step_2 : cX0_step.data.toList.drop 45 = dktX0_step_2 := dk_seg dksX0_step_1 22 rfl rfl
theorem dksX0_step_3 : cX0_step.data.toList.drop 69 = dktX0_step_3 := dk_seg dksX0_step_2 24 rfl rfl
theorem dX0_step_0 : decode cX0_step 0 = .ok (.iload_n 1, 1) := dk_27 (dk_at dksX0_step_0 0 rfl rfl)
theorem dX0_step_1 : decode cX0_step 1 = .ok (.iconst 0, 1) := dk_3 (dk_at dksX0_step_0 1 rfl rfl)
theorem dX0_step_2 : decode cX0_step 2 = .ok (.iconst 1, 1) := dk_4 (dk_at dksX0_step_0 2 rfl rfl)
theorem dX0_step_3 : decode cX0_step 3 = .ok (.invokestatic 68, 3) := dk_184 0 68 (dk_at dksX0_step_0 3 rfl rfl)
theorem dX0_step_6 : decode cX0_step 6 = .ok (.ifCond .eq 14, 3) := dk_153 0 14 (dk_at dksX0_step_0 6 rfl rfl)
theorem dX0_step_9 : decode cX0_step 9 = .ok (.iload_n 2, 1) := dk_28 (dk_at dksX0_step_0 9 rfl rfl)
theorem dX0_step_10 : decode cX0_step 10 = .ok (.iconst 0, 1) := dk_3 (dk_at dksX0_step_0 10 rfl rfl)
theorem dX0_step_11 : decode cX0_step 11 = .ok (.sipush 2000, 3) := dk_17 7 208 (dk_at dksX0_step_0 11 rfl rfl)
theorem dX0_step_14 : decode cX0_step 14 = .ok (.invokestatic 68, 3) := dk_184 0 68 (dk_at dksX0_step_0 14 rfl rfl)
theorem dX0_step_17 : decode cX0_step 17 = .ok (.ifCond .ne 5, 3) := dk_154 0 5 (dk_at dksX0_step_0 17 rfl rfl)
theorem dX0_step_20 : decode cX0_step 20 = .ok (.iconst (-1), 1) := dk_2 (dk_at dksX0_step_0 20 rfl rfl)
theorem dX0_step_21 : decode cX0_step 21 = .ok (.ireturn, 1) := dk_172 (dk_at dksX0_step_0 21 rfl rfl)
theorem dX0_step_22 : decode cX0_step 22 = .ok (.aload_n 0, 1) := dk_42 (dk_at dksX0_step_0 22 rfl rfl)
theorem dX0_step_23 : decode cX0_step 23 = .ok (.getfield 65, 3) := dk_180 0 65 (dk_at dksX0_step_1 0 rfl rfl)
theorem dX0_step_26 : decode cX0_step 26 = .ok (.iload_n 1, 1) := dk_27 (dk_at dksX0_step_1 3 rfl rfl)
theorem dX0_step_27 : decode cX0_step 27 = .ok (.iaload, 1) := dk_46 (dk_at dksX0_step_1 4 rfl rfl)
theorem dX0_step_28 : decode cX0_step 28 = .ok (.bipush 40, 2) := dk_16 40 (dk_at dksX0_step_1 5 rfl rfl)
theorem dX0_step_30 : decode cX0_step 30 = .ok (.if_icmp .ne 6, 3) := dk_160 0 6 (dk_at dksX0_step_1 7 rfl rfl)
theorem dX0_step_33 : decode cX0_step 33 = .ok (.bipush (-2), 2) := dk_16 254 (dk_at dksX0_step_1 10 rfl rfl)
theorem dX0_step_35 : decode cX0_step 35 = .ok (.ireturn, 1) := dk_172 (dk_at dksX0_step_1 12 rfl rfl)
theorem dX0_step_36 : decode cX0_step 36 = .ok (.aload_n 0, 1) := dk_42 (dk_at dksX0_step_1 13 rfl rfl)
theorem dX0_step_37 : decode cX0_step 37 = .ok (.getfield 62, 3) := dk_180 0 62 (dk_at dksX0_step_1 14 rfl rfl)
theorem dX0_step_40 : decode cX0_step 40 = .ok (.bipush 40, 2) := dk_16 40 (dk_at dksX0_step_1 17 rfl rfl)
theorem dX0_step_42 : decode cX0_step 42 = .ok (.iload_n 1, 1) := dk_27 (dk_at dksX0_step_1 19 rfl rfl)
theorem dX0_step_43 : decode cX0_step 43 = .ok (.imul, 1) := dk_104 (dk_at dksX0_step_1 20 rfl rfl)
theorem dX0_step_44 : decode cX0_step 44 = .ok (.aload_n 0, 1) := dk_42 (dk_at dksX0_step_1 21 rfl rfl)
theorem dX0_step_45 : decode cX0_step 45 = .ok (.getfield 65, 3) := dk_180 0 65 (dk_at dksX0_step_2 0 rfl rfl)
theorem dX0_step_48 : decode cX0_step 48 = .ok (.iload_n 1, 1) := dk_27 (dk_at dksX0_step_2 3 rfl rfl)
theorem dX0_step_49 : decode cX0_step 49 = .ok (.iaload, 1) := dk_46 (dk_at dksX0_step_2 4 rfl rfl)
theorem dX0_step_50 : decode cX0_step 50 = .ok (.iadd, 1) := dk_96 (dk_at dksX0_step_2 5 rfl rfl)
theorem dX0_step_51 : decode cX0_step 51 = .ok (.iload_n 2, 1) := dk_28 (dk_at dksX0_step_2 6 rfl rfl)
theorem dX0_step_52 : decode cX0_step 52 = .ok (.iastore, 1) := dk_79 (dk_at dksX0_step_2 7 rfl rfl)
theorem dX0_step_53 : decode cX0_step 53 = .ok (.aload_n 0, 1) := dk_42 (dk_at dksX0_step_2 8 rfl rfl)
theorem dX0_step_54 : decode cX0_step 54 = .ok (.getfield 65, 3) := dk_180 0 65 (dk_at dksX0_step_2 9 rfl rfl)
theorem dX0_step_57 : decode cX0_step 57 = .ok (.iload_n 1, 1) := dk_27 (dk_at dksX0_step_2 12 rfl rfl)
theorem dX0_step_58 : decode cX0_step 58 = .ok (.dup2, 1) := dk_92 (dk_at dksX0_step_2 13 rfl rfl)
theorem dX0_step_59 : decode cX0_step 59 = .ok (.iaload, 1) := dk_46 (dk_at dksX0_step_2 14 rfl rfl)
theorem dX0_step_60 : decode cX0_step 60 = .ok (.iconst 1, 1) := dk_4 (dk_at dksX0_step_2 15 rfl rfl)
theorem dX0_step_61 : decode cX0_step 61 = .ok (.iadd, 1) := dk_96 (dk_at dksX0_step_2 16 rfl rfl)
theorem dX0_step_62 : decode cX0_step 62 = .ok (.iastore, 1) := dk_79 (dk_at dksX0_step_2 17 rfl rfl)
theorem dX0_step_63 : decode cX0_step 63 = .ok (.aload_n 0, 1) := dk_42 (dk_at dksX0_step_2 18 rfl rfl)
theorem dX0_step_64 : decode cX0_step 64 = .ok (.getfield 65, 3) := dk_180 0 65 (dk_at dksX0_step_2 19 rfl rfl)
theorem dX0_step_67 : decode cX0_step 67 = .ok (.iload_n 1, 1) := dk_27 (dk_at dksX0_step_2 22 rfl rfl)
theorem dX0_step_68 : decode cX0_step 68 = .ok (.iaload, 1) := dk_46 (dk_at dksX0_step_2 23 rfl rfl)
theorem dX0_step_69 : decode cX0_step 69 = .ok (.ireturn, 1) := dk_172 (dk_at dksX0_step_3 0 rfl rfl)
abbrev cX0_clear : ByteArray := prog_1_method_49_code
def yX0_clear : MethodName := ⟨RX0, "clear", "(I)I"⟩
def dkwX0_clear_1 : List UInt8 := [79, 28, 172]
abbrev dktX0_clear_1 : List UInt8 := dkwX0_clear_1 ++ []
def dkwX0_clear_0 : List UInt8 := [27, 3, 4, 184, 0, 68, 154, 0, 5, 2, 172, 42, 180, 0, 65, 27, 46, 61, 42, 180, 0, 65, 27, 3]
abbrev dktX0_clear_0 : List UInt8 := dkwX0_clear_0 ++ dktX0_clear_1
theorem dksX0_clear_0 : cX0_clear.data.toList.drop 0 = dktX0_clear_0 := by decide +kernel
theorem dksX0_clear_1 : cX0_clear.data.toList.drop 24 = dktX0_clear_1 := dk_seg dksX0_clear_0 24 rfl rfl
theorem dX0_clear_0 : decode cX0_clear 0 = .ok (.iload_n 1, 1) := dk_27 (dk_at dksX0_clear_0 0 rfl rfl)
theorem dX0_clear_1 : decode cX0_clear 1 = .ok (.iconst 0, 1) := dk_3 (dk_at dksX0_clear_0 1 rfl rfl)
theorem dX0_clear_2 : decode cX0_clear 2 = .ok (.iconst 1, 1) := dk_4 (dk_at dksX0_clear_0 2 rfl rfl)
theorem dX0_clear_3 : decode cX0_clear 3 = .ok (.invokestatic 68, 3) := dk_184 0 68 (dk_at dksX0_clear_0 3 rfl rfl)
theorem dX0_clear_6 : decode cX0_clear 6 = .ok (.ifCond .ne 5, 3) := dk_154 0 5 (dk_at dksX0_clear_0 6 rfl rfl)
theorem dX0_clear_9 : decode cX0_clear 9 = .ok (.iconst (-1), 1) := dk_2 (dk_at dksX0_clear_0 9 rfl rfl)
theorem dX0_clear_10 : decode cX0_clear 10 = .ok (.ireturn, 1) := dk_172 (dk_at dksX0_clear_0 10 rfl rfl)
theorem dX0_clear_11 : decode cX0_clear 11 = .ok (.aload_n 0, 1) := dk_42 (dk_at dksX0_clear_0 11 rfl rfl)
theorem dX0_clear_12 : decode cX0_clear 12 = .ok (.getfield 65, 3) := dk_180 0 65 (dk_at dksX0_clear_0 12 rfl rfl)
theorem dX0_clear_15 : decode cX0_clear 15 = .ok (.iload_n 1, 1) := dk_27 (dk_at dksX0_clear_0 15 rfl rfl)
theorem dX0_clear_16 : decode cX0_clear 16 = .ok (.iaload, 1) := dk_46 (dk_at dksX0_clear_0 16 rfl rfl)
theorem dX0_clear_17 : decode cX0_clear 17 = .ok (.istore_n 2, 1) := dk_61 (dk_at dksX0_clear_0 17 rfl rfl)
theorem dX0_clear_18 : decode cX0_clear 18 = .ok (.aload_n 0, 1) := dk_42 (dk_at dksX0_clear_0 18 rfl rfl)
theorem dX0_clear_19 : decode cX0_clear 19 = .ok (.getfield 65, 3) := dk_180 0 65 (dk_at dksX0_clear_0 19 rfl rfl)
theorem dX0_clear_22 : decode cX0_clear 22 = .ok (.iload_n 1, 1) := dk_27 (dk_at dksX0_clear_0 22 rfl rfl)
theorem dX0_clear_23 : decode cX0_clear 23 = .ok (.iconst 0, 1) := dk_3 (dk_at dksX0_clear_0 23 rfl rfl)
theorem dX0_clear_24 : decode cX0_clear 24 = .ok (.iastore, 1) := dk_79 (dk_at dksX0_clear_1 0 rfl rfl)
theorem dX0_clear_25 : decode cX0_clear 25 = .ok (.iload_n 2, 1) := dk_28 (dk_at dksX0_clear_1 1 rfl rfl)
theorem dX0_clear_26 : decode cX0_clear 26 = .ok (.ireturn, 1) := dk_172 (dk_at dksX0_clear_1 2 rfl rfl)
abbrev cX0_even : ByteArray := prog_1_method_51_code
def yX0_even : MethodName := ⟨RX0, "even", "()I"⟩
def dkwX0_even_3 : List UInt8 := [28, 27, 182, 1, 35, 172]
abbrev dktX0_even_3 : List UInt8 := dkwX0_even_3 ++ []
def dkwX0_even_2 : List UInt8 := [29, 182, 1, 41, 54, 4, 21, 4, 28, 162, 0, 8, 29, 60, 21, 4, 61, 132, 3, 1, 167, 255, 225, 42]
abbrev dktX0_even_2 : List UInt8 := dkwX0_even_2 ++ dktX0_even_3
def dkwX0_even_1 : List UInt8 := [16, 252, 172, 3, 60, 42, 3, 182, 1, 41, 61, 4, 62, 29, 42, 180, 0, 65, 3, 46, 162, 0, 27, 42]
abbrev dktX0_even_1 : List UInt8 := dkwX0_even_1 ++ dktX0_even_2
def dkwX0_even_0 : List UInt8 := [42, 180, 0, 65, 3, 46, 153, 0, 18, 42, 180, 0, 65, 3, 46, 42, 180, 0, 65, 4, 46, 159, 0, 6]
abbrev dktX0_even_0 : List UInt8 := dkwX0_even_0 ++ dktX0_even_1
theorem dksX0_even_0 : cX0_even.data.toList.drop 0 = dktX0_even_0 := by decide +kernel
theorem dksX0_even_1 : cX0_even.data.toList.drop 24 = dktX0_even_1 := dk_seg dksX0_even_0 24 rfl rfl
theorem dksX0_even_2 : cX0_even.data.toList.drop 48 = dktX0_even_2 := dk_seg dksX0_even_1 24 rfl rfl
theorem dksX0_even_3 : cX0_even.data.toList.drop 72 = dktX0_even_3 := dk_seg dksX0_even_2 24 rfl rfl
theorem dX0_even_0 : decode cX0_even 0 = .ok (.aload_n 0, 1) := dk_42 (dk_at dksX0_even_0 0 rfl rfl)
theorem dX0_even_1 : decode cX0_even 1 = .ok (.getfield 65, 3) := dk_180 0 65 (dk_at dksX0_even_0 1 rfl rfl)
theorem dX0_even_4 : decode cX0_even 4 = .ok (.iconst 0, 1) := dk_3 (dk_at dksX0_even_0 4 rfl rfl)
theorem dX0_even_5 : decode cX0_even 5 = .ok (.iaload, 1) := dk_46 (dk_at dksX0_even_0 5 rfl rfl)
theorem dX0_even_6 : decode cX0_even 6 = .ok (.ifCond .eq 18, 3) := dk_153 0 18 (dk_at dksX0_even_0 6 rfl rfl)
theorem dX0_even_9 : decode cX0_even 9 = .ok (.aload_n 0, 1) := dk_42 (dk_at dksX0_even_0 9 rfl rfl)
theorem dX0_even_10 : decode cX0_even 10 = .ok (.getfield 65, 3) := dk_180 0 65 (dk_at dksX0_even_0 10 rfl rfl)
theorem dX0_even_13 : decode cX0_even 13 = .ok (.iconst 0, 1) := dk_3 (dk_at dksX0_even_0 13 rfl rfl)
theorem dX0_even_14 : decode cX0_even 14 = .ok (.iaload, 1) := dk_46 (dk_at dksX0_even_0 14 rfl rfl)
theorem dX0_even_15 : decode cX0_even 15 = .ok (.aload_n 0, 1) := dk_42 (dk_at dksX0_even_0 15 rfl rfl)
theorem dX0_even_16 : decode cX0_even 16 = .ok (.getfield 65, 3) := dk_180 0 65 (dk_at dksX0_even_0 16 rfl rfl)
theorem dX0_even_19 : decode cX0_even 19 = .ok (.iconst 1, 1) := dk_4 (dk_at dksX0_even_0 19 rfl rfl)
theorem dX0_even_20 : decode cX0_even 20 = .ok (.iaload, 1) := dk_46 (dk_at dksX0_even_0 20 rfl rfl)
theorem dX0_even_21 : decode cX0_even 21 = .ok (.if_icmp .eq 6, 3) := dk_159 0 6 (dk_at dksX0_even_0 21 rfl rfl)
theorem dX0_even_24 : decode cX0_even 24 = .ok (.bipush (-4), 2) := dk_16 252 (dk_at dksX0_even_1 0 rfl rfl)
theorem dX0_even_26 : decode cX0_even 26 = .ok (.ireturn, 1) := dk_172 (dk_at dksX0_even_1 2 rfl rfl)
theorem dX0_even_27 : decode cX0_even 27 = .ok (.iconst 0, 1) := dk_3 (dk_at dksX0_even_1 3 rfl rfl)
theorem dX0_even_28 : decode cX0_even 28 = .ok (.istore_n 1, 1) := dk_60 (dk_at dksX0_even_1 4 rfl rfl)
theorem dX0_even_29 : decode cX0_even 29 = .ok (.aload_n 0, 1) := dk_42 (dk_at dksX0_even_1 5 rfl rfl)
theorem dX0_even_30 : decode cX0_even 30 = .ok (.iconst 0, 1) := dk_3 (dk_at dksX0_even_1 6 rfl rfl)
theorem dX0_even_31 : decode cX0_even 31 = .ok (.invokevirtual 297, 3) := dk_182 1 41 (dk_at dksX0_even_1 7 rfl rfl)
theorem dX0_even_34 : decode cX0_even 34 = .ok (.istore_n 2, 1) := dk_61 (dk_at dksX0_even_1 10 rfl rfl)
theorem dX0_even_35 : decode cX0_even 35 = .ok (.iconst 1, 1) := dk_4 (dk_at dksX0_even_1 11 rfl rfl)
theorem dX0_even_36 : decode cX0_even 36 = .ok (.istore_n 3, 1) := dk_62 (dk_at dksX0_even_1 12 rfl rfl)
theorem dX0_even_37 : decode cX0_even 37 = .ok (.iload_n 3, 1) := dk_29 (dk_at dksX0_even_1 13 rfl rfl)
theorem dX0_even_38 : decode cX0_even 38 = .ok (.aload_n 0, 1) := dk_42 (dk_at dksX0_even_1 14 rfl rfl)
theorem dX0_even_39 : decode cX0_even 39 = .ok (.getfield 65, 3) := dk_180 0 65 (dk_at dksX0_even_1 15 rfl rfl)
theorem dX0_even_42 : decode cX0_even 42 = .ok (.iconst 0, 1) := dk_3 (dk_at dksX0_even_1 18 rfl rfl)
theorem dX0_even_43 : decode cX0_even 43 = .ok (.iaload, 1) := dk_46 (dk_at dksX0_even_1 19 rfl rfl)
theorem dX0_even_44 : decode cX0_even 44 = .ok (.if_icmp .ge 27, 3) := dk_162 0 27 (dk_at dksX0_even_1 20 rfl rfl)
theorem dX0_even_47 : decode cX0_even 47 = .ok (.aload_n 0, 1) := dk_42 (dk_at dksX0_even_1 23 rfl rfl)
theorem dX0_even_48 : decode cX0_even 48 = .ok (.iload_n 3, 1) := dk_29 (dk_at dksX0_even_2 0 rfl rfl)
theorem dX0_even_49 : decode cX0_even 49 = .ok (.invokevirtual 297, 3) := dk_182 1 41 (dk_at dksX0_even_2 1 rfl rfl)
theorem dX0_even_52 : decode cX0_even 52 = .ok (.istore 4, 2) := dk_54 4 (dk_at dksX0_even_2 4 rfl rfl)
theorem dX0_even_54 : decode cX0_even 54 = .ok (.iload 4, 2) := dk_21 4 (dk_at dksX0_even_2 6 rfl rfl)
theorem dX0_even_56 : decode cX0_even 56 = .ok (.iload_n 2, 1) := dk_28 (dk_at dksX0_even_2 8 rfl rfl)
theorem dX0_even_57 : decode cX0_even 57 = .ok (.if_icmp .ge 8, 3) := dk_162 0 8 (dk_at dksX0_even_2 9 rfl rfl)
theorem dX0_even_60 : decode cX0_even 60 = .ok (.iload_n 3, 1) := dk_29 (dk_at dksX0_even_2 12 rfl rfl)
theorem dX0_even_61 : decode cX0_even 61 = .ok (.istore_n 1, 1) := dk_60 (dk_at dksX0_even_2 13 rfl rfl)
theorem dX0_even_62 : decode cX0_even 62 = .ok (.iload 4, 2) := dk_21 4 (dk_at dksX0_even_2 14 rfl rfl)
theorem dX0_even_64 : decode cX0_even 64 = .ok (.istore_n 2, 1) := dk_61 (dk_at dksX0_even_2 16 rfl rfl)
theorem dX0_even_65 : decode cX0_even 65 = .ok (.iinc 3 1, 3) := dk_132 3 1 (dk_at dksX0_even_2 17 rfl rfl)
theorem dX0_even_68 : decode cX0_even 68 = .ok (.goto (-31), 3) := dk_167 255 225 (dk_at dksX0_even_2 20 rfl rfl)
theorem dX0_even_71 : decode cX0_even 71 = .ok (.aload_n 0, 1) := dk_42 (dk_at dksX0_even_2 23 rfl rfl)
theorem dX0_even_72 : decode cX0_even 72 = .ok (.iload_n 2, 1) := dk_28 (dk_at dksX0_even_3 0 rfl rfl)
theorem dX0_even_73 : decode cX0_even 73 = .ok (.iload_n 1, 1) := dk_27 (dk_at dksX0_even_3 1 rfl rfl)
theorem dX0_even_74 : decode cX0_even 74 = .ok (.invokevirtual 291, 3) := dk_182 1 35 (dk_at dksX0_even_3 2 rfl rfl)
theorem dX0_even_77 : decode cX0_even 77 = .ok (.ireturn, 1) := dk_172 (dk_at dksX0_even_3 5 rfl rfl)
abbrev cX0_differ : ByteArray := prog_1_method_50_code
def yX0_differ : MethodName := ⟨RX0, "differ", "(I)I"⟩
def dkwX0_differ_2 : List UInt8 := [132, 4, 1, 167, 255, 219, 29, 172]
abbrev dktX0_differ_2 : List UInt8 := dkwX0_differ_2 ++ []
def dkwX0_differ_1 : List UInt8 := [21, 4, 46, 42, 180, 0, 62, 16, 40, 21, 4, 27, 96, 28, 112, 96, 46, 100, 184, 1, 38, 96, 62]
abbrev dktX0_differ_1 : List UInt8 := dkwX0_differ_1 ++ dktX0_differ_2
def dkwX0_differ_0 : List UInt8 := [42, 180, 0, 65, 3, 46, 61, 3, 62, 3, 54, 4, 21, 4, 28, 162, 0, 37, 29, 42, 180, 0, 62]
abbrev dktX0_differ_0 : List UInt8 := dkwX0_differ_0 ++ dktX0_differ_1
theorem dksX0_differ_0 : cX0_differ.data.toList.drop 0 = dktX0_differ_0 := by decide +kernel
theorem dksX0_differ_1 : cX0_differ.data.toList.drop 23 = dktX0_differ_1 := dk_seg dksX0_differ_0 23 rfl rfl
theorem dksX0_differ_2 : cX0_differ.data.toList.drop 46 = dktX0_differ_2 := dk_seg dksX0_differ_1 23 rfl rfl
theorem dX0_differ_0 : decode cX0_differ 0 = .ok (.aload_n 0, 1) := dk_42 (dk_at dksX0_differ_0 0 rfl rfl)
theorem dX0_differ_1 : decode cX0_differ 1 = .ok (.getfield 65, 3) := dk_180 0 65 (dk_at dksX0_differ_0 1 rfl rfl)
theorem dX0_differ_4 : decode cX0_differ 4 = .ok (.iconst 0, 1) := dk_3 (dk_at dksX0_differ_0 4 rfl rfl)
theorem dX0_differ_5 : decode cX0_differ 5 = .ok (.iaload, 1) := dk_46 (dk_at dksX0_differ_0 5 rfl rfl)
theorem dX0_differ_6 : decode cX0_differ 6 = .ok (.istore_n 2, 1) := dk_61 (dk_at dksX0_differ_0 6 rfl rfl)
theorem dX0_differ_7 : decode cX0_differ 7 = .ok (.iconst 0, 1) := dk_3 (dk_at dksX0_differ_0 7 rfl rfl)
theorem dX0_differ_8 : decode cX0_differ 8 = .ok (.istore_n 3, 1) := dk_62 (dk_at dksX0_differ_0 8 rfl rfl)
theorem dX0_differ_9 : decode cX0_differ 9 = .ok (.iconst 0, 1) := dk_3 (dk_at dksX0_differ_0 9 rfl rfl)
theorem dX0_differ_10 : decode cX0_differ 10 = .ok (.istore 4, 2) := dk_54 4 (dk_at dksX0_differ_0 10 rfl rfl)
theorem dX0_differ_12 : decode cX0_differ 12 = .ok (.iload 4, 2) := dk_21 4 (dk_at dksX0_differ_0 12 rfl rfl)
theorem dX0_differ_14 : decode cX0_differ 14 = .ok (.iload_n 2, 1) := dk_28 (dk_at dksX0_differ_0 14 rfl rfl)
theorem dX0_differ_15 : decode cX0_differ 15 = .ok (.if_icmp .ge 37, 3) := dk_162 0 37 (dk_at dksX0_differ_0 15 rfl rfl)
theorem dX0_differ_18 : decode cX0_differ 18 = .ok (.iload_n 3, 1) := dk_29 (dk_at dksX0_differ_0 18 rfl rfl)
theorem dX0_differ_19 : decode cX0_differ 19 = .ok (.aload_n 0, 1) := dk_42 (dk_at dksX0_differ_0 19 rfl rfl)
theorem dX0_differ_20 : decode cX0_differ 20 = .ok (.getfield 62, 3) := dk_180 0 62 (dk_at dksX0_differ_0 20 rfl rfl)
theorem dX0_differ_23 : decode cX0_differ 23 = .ok (.iload 4, 2) := dk_21 4 (dk_at dksX0_differ_1 0 rfl rfl)
theorem dX0_differ_25 : decode cX0_differ 25 = .ok (.iaload, 1) := dk_46 (dk_at dksX0_differ_1 2 rfl rfl)
theorem dX0_differ_26 : decode cX0_differ 26 = .ok (.aload_n 0, 1) := dk_42 (dk_at dksX0_differ_1 3 rfl rfl)
theorem dX0_differ_27 : decode cX0_differ 27 = .ok (.getfield 62, 3) := dk_180 0 62 (dk_at dksX0_differ_1 4 rfl rfl)
theorem dX0_differ_30 : decode cX0_differ 30 = .ok (.bipush 40, 2) := dk_16 40 (dk_at dksX0_differ_1 7 rfl rfl)
theorem dX0_differ_32 : decode cX0_differ 32 = .ok (.iload 4, 2) := dk_21 4 (dk_at dksX0_differ_1 9 rfl rfl)
theorem dX0_differ_34 : decode cX0_differ 34 = .ok (.iload_n 1, 1) := dk_27 (dk_at dksX0_differ_1 11 rfl rfl)
theorem dX0_differ_35 : decode cX0_differ 35 = .ok (.iadd, 1) := dk_96 (dk_at dksX0_differ_1 12 rfl rfl)
theorem dX0_differ_36 : decode cX0_differ 36 = .ok (.iload_n 2, 1) := dk_28 (dk_at dksX0_differ_1 13 rfl rfl)
theorem dX0_differ_37 : decode cX0_differ 37 = .ok (.irem, 1) := dk_112 (dk_at dksX0_differ_1 14 rfl rfl)
theorem dX0_differ_38 : decode cX0_differ 38 = .ok (.iadd, 1) := dk_96 (dk_at dksX0_differ_1 15 rfl rfl)
theorem dX0_differ_39 : decode cX0_differ 39 = .ok (.iaload, 1) := dk_46 (dk_at dksX0_differ_1 16 rfl rfl)
theorem dX0_differ_40 : decode cX0_differ 40 = .ok (.isub, 1) := dk_100 (dk_at dksX0_differ_1 17 rfl rfl)
theorem dX0_differ_41 : decode cX0_differ 41 = .ok (.invokestatic 294, 3) := dk_184 1 38 (dk_at dksX0_differ_1 18 rfl rfl)
theorem dX0_differ_44 : decode cX0_differ 44 = .ok (.iadd, 1) := dk_96 (dk_at dksX0_differ_1 21 rfl rfl)
theorem dX0_differ_45 : decode cX0_differ 45 = .ok (.istore_n 3, 1) := dk_62 (dk_at dksX0_differ_1 22 rfl rfl)
theorem dX0_differ_46 : decode cX0_differ 46 = .ok (.iinc 4 1, 3) := dk_132 4 1 (dk_at dksX0_differ_2 0 rfl rfl)
theorem dX0_differ_49 : decode cX0_differ 49 = .ok (.goto (-37), 3) := dk_167 255 219 (dk_at dksX0_differ_2 3 rfl rfl)
theorem dX0_differ_52 : decode cX0_differ 52 = .ok (.iload_n 3, 1) := dk_29 (dk_at dksX0_differ_2 6 rfl rfl)
theorem dX0_differ_53 : decode cX0_differ 53 = .ok (.ireturn, 1) := dk_172 (dk_at dksX0_differ_2 7 rfl rfl)
abbrev cX0_meanLoad : ByteArray := prog_1_method_52_code
def yX0_meanLoad : MethodName := ⟨RX0, "meanLoad", "(I)I"⟩
def dkwX0_meanLoad_2 : List UInt8 := [42, 180, 0, 65, 27, 46, 108, 172, 78, 42, 7, 182, 0, 76, 172]
abbrev dktX0_meanLoad_2 : List UInt8 := dkwX0_meanLoad_2 ++ []
def dkwX0_meanLoad_1 : List UInt8 := [162, 0, 23, 28, 42, 180, 0, 62, 16, 40, 27, 104, 29, 96, 46, 96, 61, 132, 3, 1, 167, 255, 229, 28]
abbrev dktX0_meanLoad_1 : List UInt8 := dkwX0_meanLoad_1 ++ dktX0_meanLoad_2
def dkwX0_meanLoad_0 : List UInt8 := [27, 3, 4, 184, 0, 68, 154, 0, 5, 2, 172, 3, 61, 3, 62, 29, 42, 180, 0, 65, 27, 46]
abbrev dktX0_meanLoad_0 : List UInt8 := dkwX0_meanLoad_0 ++ dktX0_meanLoad_1
theorem dksX0_meanLoad_0 : cX0_meanLoad.data.toList.drop 0 = dktX0_meanLoad_0 := by decide +kernel
theorem dksX0_meanLoad_1 : cX0_meanLoad.data.toList.drop 22 = dktX0_meanLoad_1 := dk_seg dksX0_meanLoad_0 22 rfl rfl
theorem dksX0_meanLoad_2 : cX0_meanLoad.data.toList.drop 46 = dktX0_meanLoad_2 := dk_seg dksX0_meanLoad_1 24 rfl rfl
theorem dX0_meanLoad_0 : decode cX0_meanLoad 0 = .ok (.iload_n 1, 1) := dk_27 (dk_at dksX0_meanLoad_0 0 rfl rfl)
theorem dX0_meanLoad_1 : decode cX0_meanLoad 1 = .ok (.iconst 0, 1) := dk_3 (dk_at dksX0_meanLoad_0 1 rfl rfl)
theorem dX0_meanLoad_2 : decode cX0_meanLoad 2 = .ok (.iconst 1, 1) := dk_4 (dk_at dksX0_meanLoad_0 2 rfl rfl)
theorem dX0_meanLoad_3 : decode cX0_meanLoad 3 = .ok (.invokestatic 68, 3) := dk_184 0 68 (dk_at dksX0_meanLoad_0 3 rfl rfl)
theorem dX0_meanLoad_6 : decode cX0_meanLoad 6 = .ok (.ifCond .ne 5, 3) := dk_154 0 5 (dk_at dksX0_meanLoad_0 6 rfl rfl)
theorem dX0_meanLoad_9 : decode cX0_meanLoad 9 = .ok (.iconst (-1), 1) := dk_2 (dk_at dksX0_meanLoad_0 9 rfl rfl)
theorem dX0_meanLoad_10 : decode cX0_meanLoad 10 = .ok (.ireturn, 1) := dk_172 (dk_at dksX0_meanLoad_0 10 rfl rfl)
theorem dX0_meanLoad_11 : decode cX0_meanLoad 11 = .ok (.iconst 0, 1) := dk_3 (dk_at dksX0_meanLoad_0 11 rfl rfl)
theorem dX0_meanLoad_12 : decode cX0_meanLoad 12 = .ok (.istore_n 2, 1) := dk_61 (dk_at dksX0_meanLoad_0 12 rfl rfl)
theorem dX0_meanLoad_13 : decode cX0_meanLoad 13 = .ok (.iconst 0, 1) := dk_3 (dk_at dksX0_meanLoad_0 13 rfl rfl)
theorem dX0_meanLoad_14 : decode cX0_meanLoad 14 = .ok (.istore_n 3, 1) := dk_62 (dk_at dksX0_meanLoad_0 14 rfl rfl)
theorem dX0_meanLoad_15 : decode cX0_meanLoad 15 = .ok (.iload_n 3, 1) := dk_29 (dk_at dksX0_meanLoad_0 15 rfl rfl)
theorem dX0_meanLoad_16 : decode cX0_meanLoad 16 = .ok (.aload_n 0, 1) := dk_42 (dk_at dksX0_meanLoad_0 16 rfl rfl)
theorem dX0_meanLoad_17 : decode cX0_meanLoad 17 = .ok (.getfield 65, 3) := dk_180 0 65 (dk_at dksX0_meanLoad_0 17 rfl rfl)
theorem dX0_meanLoad_20 : decode cX0_meanLoad 20 = .ok (.iload_n 1, 1) := dk_27 (dk_at dksX0_meanLoad_0 20 rfl rfl)
theorem dX0_meanLoad_21 : decode cX0_meanLoad 21 = .ok (.iaload, 1) := dk_46 (dk_at dksX0_meanLoad_0 21 rfl rfl)
theorem dX0_meanLoad_22 : decode cX0_meanLoad 22 = .ok (.if_icmp .ge 23, 3) := dk_162 0 23 (dk_at dksX0_meanLoad_1 0 rfl rfl)
theorem dX0_meanLoad_25 : decode cX0_meanLoad 25 = .ok (.iload_n 2, 1) := dk_28 (dk_at dksX0_meanLoad_1 3 rfl rfl)
theorem dX0_meanLoad_26 : decode cX0_meanLoad 26 = .ok (.aload_n 0, 1) := dk_42 (dk_at dksX0_meanLoad_1 4 rfl rfl)
theorem dX0_meanLoad_27 : decode cX0_meanLoad 27 = .ok (.getfield 62, 3) := dk_180 0 62 (dk_at dksX0_meanLoad_1 5 rfl rfl)
theorem dX0_meanLoad_30 : decode cX0_meanLoad 30 = .ok (.bipush 40, 2) := dk_16 40 (dk_at dksX0_meanLoad_1 8 rfl rfl)
theorem dX0_meanLoad_32 : decode cX0_meanLoad 32 = .ok (.iload_n 1, 1) := dk_27 (dk_at dksX0_meanLoad_1 10 rfl rfl)
theorem dX0_meanLoad_33 : decode cX0_meanLoad 33 = .ok (.imul, 1) := dk_104 (dk_at dksX0_meanLoad_1 11 rfl rfl)
theorem dX0_meanLoad_34 : decode cX0_meanLoad 34 = .ok (.iload_n 3, 1) := dk_29 (dk_at dksX0_meanLoad_1 12 rfl rfl)
theorem dX0_meanLoad_35 : decode cX0_meanLoad 35 = .ok (.iadd, 1) := dk_96 (dk_at dksX0_meanLoad_1 13 rfl rfl)
theorem dX0_meanLoad_36 : decode cX0_meanLoad 36 = .ok (.iaload, 1) := dk_46 (dk_at dksX0_meanLoad_1 14 rfl rfl)
theorem dX0_meanLoad_37 : decode cX0_meanLoad 37 = .ok (.iadd, 1) := dk_96 (dk_at dksX0_meanLoad_1 15 rfl rfl)
theorem dX0_meanLoad_38 : decode cX0_meanLoad 38 = .ok (.istore_n 2, 1) := dk_61 (dk_at dksX0_meanLoad_1 16 rfl rfl)
theorem dX0_meanLoad_39 : decode cX0_meanLoad 39 = .ok (.iinc 3 1, 3) := dk_132 3 1 (dk_at dksX0_meanLoad_1 17 rfl rfl)
theorem dX0_meanLoad_42 : decode cX0_meanLoad 42 = .ok (.goto (-27), 3) := dk_167 255 229 (dk_at dksX0_meanLoad_1 20 rfl rfl)
theorem dX0_meanLoad_45 : decode cX0_meanLoad 45 = .ok (.iload_n 2, 1) := dk_28 (dk_at dksX0_meanLoad_1 23 rfl rfl)
theorem dX0_meanLoad_46 : decode cX0_meanLoad 46 = .ok (.aload_n 0, 1) := dk_42 (dk_at dksX0_meanLoad_2 0 rfl rfl)
theorem dX0_meanLoad_47 : decode cX0_meanLoad 47 = .ok (.getfield 65, 3) := dk_180 0 65 (dk_at dksX0_meanLoad_2 1 rfl rfl)
theorem dX0_meanLoad_50 : decode cX0_meanLoad 50 = .ok (.iload_n 1, 1) := dk_27 (dk_at dksX0_meanLoad_2 4 rfl rfl)
theorem dX0_meanLoad_51 : decode cX0_meanLoad 51 = .ok (.iaload, 1) := dk_46 (dk_at dksX0_meanLoad_2 5 rfl rfl)
theorem dX0_meanLoad_52 : decode cX0_meanLoad 52 = .ok (.idiv, 1) := dk_108 (dk_at dksX0_meanLoad_2 6 rfl rfl)
theorem dX0_meanLoad_53 : decode cX0_meanLoad 53 = .ok (.ireturn, 1) := dk_172 (dk_at dksX0_meanLoad_2 7 rfl rfl)
theorem dX0_meanLoad_54 : decode cX0_meanLoad 54 = .ok (.astore_n 3, 1) := dk_78 (dk_at dksX0_meanLoad_2 8 rfl rfl)
theorem dX0_meanLoad_55 : decode cX0_meanLoad 55 = .ok (.aload_n 0, 1) := dk_42 (dk_at dksX0_meanLoad_2 9 rfl rfl)
theorem dX0_meanLoad_56 : decode cX0_meanLoad 56 = .ok (.iconst 4, 1) := dk_7 (dk_at dksX0_meanLoad_2 10 rfl rfl)
theorem dX0_meanLoad_57 : decode cX0_meanLoad 57 = .ok (.invokevirtual 76, 3) := dk_182 0 76 (dk_at dksX0_meanLoad_2 11 rfl rfl)
theorem dX0_meanLoad_60 : decode cX0_meanLoad 60 = .ok (.ireturn, 1) := dk_172 (dk_at dksX0_meanLoad_2 14 rfl rfl)
abbrev cX0_count : ByteArray := prog_1_method_53_code
def yX0_count : MethodName := ⟨RX0, "count", "(I)I"⟩
def dkwX0_count_6 : List UInt8 := [180, 0, 136, 172, 2, 172]
abbrev dktX0_count_6 : List UInt8 := dkwX0_count_6 ++ []
def dkwX0_count_5 : List UInt8 := [28, 172, 42, 180, 0, 101, 172, 42, 180, 0, 141, 172, 29, 172, 42, 180, 0, 55, 182, 0, 252, 172, 42]
abbrev dktX0_count_5 : List UInt8 := dkwX0_count_5 ++ dktX0_count_6
def dkwX0_count_4 : List UInt8 := [170, 0, 0, 0, 0, 65, 0, 0, 0, 0, 0, 0, 0, 5, 0, 0, 0, 38, 0, 0, 0, 40, 0, 0, 0, 45, 0, 0, 0, 50, 0, 0, 0, 52, 0, 0, 0, 60]
abbrev dktX0_count_4 : List UInt8 := dkwX0_count_4 ++ dktX0_count_5
def dkwX0_count_3 : List UInt8 := [167, 255, 223, 27]
abbrev dktX0_count_3 : List UInt8 := dkwX0_count_3 ++ dktX0_count_4
def dkwX0_count_2 : List UInt8 := [180, 0, 42, 21, 4, 50, 180, 0, 183, 153, 0, 7, 4, 167, 0, 4, 3, 96, 62, 132, 4, 1]
abbrev dktX0_count_2 : List UInt8 := dkwX0_count_2 ++ dktX0_count_3
def dkwX0_count_1 : List UInt8 := [96, 61, 132, 3, 1, 167, 255, 231, 3, 62, 3, 54, 4, 21, 4, 42, 180, 0, 141, 162, 0, 30, 29, 42]
abbrev dktX0_count_1 : List UInt8 := dkwX0_count_1 ++ dktX0_count_2
def dkwX0_count_0 : List UInt8 := [3, 61, 3, 62, 29, 7, 162, 0, 26, 28, 42, 180, 0, 21, 29, 50, 199, 0, 7, 3, 167, 0, 4, 4]
abbrev dktX0_count_0 : List UInt8 := dkwX0_count_0 ++ dktX0_count_1
theorem dksX0_count_0 : cX0_count.data.toList.drop 0 = dktX0_count_0 := by decide +kernel
theorem dksX0_count_1 : cX0_count.data.toList.drop 24 = dktX0_count_1 := dk_seg dksX0_count_0 24 rfl rfl
theorem dksX0_count_2 : cX0_count.data.toList.drop 48 = dktX0_count_2 := dk_seg dksX0_count_1 24 rfl rfl
theorem dksX0_count_3 : cX0_count.data.toList.drop 70 = dktX0_count_3 := dk_seg dksX0_count_2 22 rfl rfl
theorem dksX0_count_4 : cX0_count.data.toList.drop 74 = dktX0_count_4 := dk_seg dksX0_count_3 4 rfl rfl
theorem dksX0_count_5 : cX0_count.data.toList.drop 112 = dktX0_count_5 := dk_seg dksX0_count_4 38 rfl rfl
theorem dksX0_count_6 : cX0_count.data.toList.drop 135 = dktX0_count_6 := dk_seg dksX0_count_5 23 rfl rfl
theorem dX0_count_0 : decode cX0_count 0 = .ok (.iconst 0, 1) := dk_3 (dk_at dksX0_count_0 0 rfl rfl)
theorem dX0_count_1 : decode cX0_count 1 = .ok (.istore_n 2, 1) := dk_61 (dk_at dksX0_count_0 1 rfl rfl)
theorem dX0_count_2 : decode cX0_count 2 = .ok (.iconst 0, 1) := dk_3 (dk_at dksX0_count_0 2 rfl rfl)
theorem dX0_count_3 : decode cX0_count 3 = .ok (.istore_n 3, 1) := dk_62 (dk_at dksX0_count_0 3 rfl rfl)
theorem dX0_count_4 : decode cX0_count 4 = .ok (.iload_n 3, 1) := dk_29 (dk_at dksX0_count_0 4 rfl rfl)
theorem dX0_count_5 : decode cX0_count 5 = .ok (.iconst 4, 1) := dk_7 (dk_at dksX0_count_0 5 rfl rfl)
theorem dX0_count_6 : decode cX0_count 6 = .ok (.if_icmp .ge 26, 3) := dk_162 0 26 (dk_at dksX0_count_0 6 rfl rfl)
theorem dX0_count_9 : decode cX0_count 9 = .ok (.iload_n 2, 1) := dk_28 (dk_at dksX0_count_0 9 rfl rfl)
theorem dX0_count_10 : decode cX0_count 10 = .ok (.aload_n 0, 1) := dk_42 (dk_at dksX0_count_0 10 rfl rfl)
theorem dX0_count_11 : decode cX0_count 11 = .ok (.getfield 21, 3) := dk_180 0 21 (dk_at dksX0_count_0 11 rfl rfl)
theorem dX0_count_14 : decode cX0_count 14 = .ok (.iload_n 3, 1) := dk_29 (dk_at dksX0_count_0 14 rfl rfl)
theorem dX0_count_15 : decode cX0_count 15 = .ok (.aaload, 1) := dk_50 (dk_at dksX0_count_0 15 rfl rfl)
theorem dX0_count_16 : decode cX0_count 16 = .ok (.ifnonnull 7, 3) := dk_199 0 7 (dk_at dksX0_count_0 16 rfl rfl)
theorem dX0_count_19 : decode cX0_count 19 = .ok (.iconst 0, 1) := dk_3 (dk_at dksX0_count_0 19 rfl rfl)
theorem dX0_count_20 : decode cX0_count 20 = .ok (.goto 4, 3) := dk_167 0 4 (dk_at dksX0_count_0 20 rfl rfl)
theorem dX0_count_23 : decode cX0_count 23 = .ok (.iconst 1, 1) := dk_4 (dk_at dksX0_count_0 23 rfl rfl)
theorem dX0_count_24 : decode cX0_count 24 = .ok (.iadd, 1) := dk_96 (dk_at dksX0_count_1 0 rfl rfl)
theorem dX0_count_25 : decode cX0_count 25 = .ok (.istore_n 2, 1) := dk_61 (dk_at dksX0_count_1 1 rfl rfl)
theorem dX0_count_26 : decode cX0_count 26 = .ok (.iinc 3 1, 3) := dk_132 3 1 (dk_at dksX0_count_1 2 rfl rfl)
theorem dX0_count_29 : decode cX0_count 29 = .ok (.goto (-25), 3) := dk_167 255 231 (dk_at dksX0_count_1 5 rfl rfl)
theorem dX0_count_32 : decode cX0_count 32 = .ok (.iconst 0, 1) := dk_3 (dk_at dksX0_count_1 8 rfl rfl)
theorem dX0_count_33 : decode cX0_count 33 = .ok (.istore_n 3, 1) := dk_62 (dk_at dksX0_count_1 9 rfl rfl)
theorem dX0_count_34 : decode cX0_count 34 = .ok (.iconst 0, 1) := dk_3 (dk_at dksX0_count_1 10 rfl rfl)
theorem dX0_count_35 : decode cX0_count 35 = .ok (.istore 4, 2) := dk_54 4 (dk_at dksX0_count_1 11 rfl rfl)
theorem dX0_count_37 : decode cX0_count 37 = .ok (.iload 4, 2) := dk_21 4 (dk_at dksX0_count_1 13 rfl rfl)
theorem dX0_count_39 : decode cX0_count 39 = .ok (.aload_n 0, 1) := dk_42 (dk_at dksX0_count_1 15 rfl rfl)
theorem dX0_count_40 : decode cX0_count 40 = .ok (.getfield 141, 3) := dk_180 0 141 (dk_at dksX0_count_1 16 rfl rfl)
theorem dX0_count_43 : decode cX0_count 43 = .ok (.if_icmp .ge 30, 3) := dk_162 0 30 (dk_at dksX0_count_1 19 rfl rfl)
theorem dX0_count_46 : decode cX0_count 46 = .ok (.iload_n 3, 1) := dk_29 (dk_at dksX0_count_1 22 rfl rfl)
theorem dX0_count_47 : decode cX0_count 47 = .ok (.aload_n 0, 1) := dk_42 (dk_at dksX0_count_1 23 rfl rfl)
theorem dX0_count_48 : decode cX0_count 48 = .ok (.getfield 42, 3) := dk_180 0 42 (dk_at dksX0_count_2 0 rfl rfl)
theorem dX0_count_51 : decode cX0_count 51 = .ok (.iload 4, 2) := dk_21 4 (dk_at dksX0_count_2 3 rfl rfl)
theorem dX0_count_53 : decode cX0_count 53 = .ok (.aaload, 1) := dk_50 (dk_at dksX0_count_2 5 rfl rfl)
theorem dX0_count_54 : decode cX0_count 54 = .ok (.getfield 183, 3) := dk_180 0 183 (dk_at dksX0_count_2 6 rfl rfl)
theorem dX0_count_57 : decode cX0_count 57 = .ok (.ifCond .eq 7, 3) := dk_153 0 7 (dk_at dksX0_count_2 9 rfl rfl)
theorem dX0_count_60 : decode cX0_count 60 = .ok (.iconst 1, 1) := dk_4 (dk_at dksX0_count_2 12 rfl rfl)
theorem dX0_count_61 : decode cX0_count 61 = .ok (.goto 4, 3) := dk_167 0 4 (dk_at dksX0_count_2 13 rfl rfl)
theorem dX0_count_64 : decode cX0_count 64 = .ok (.iconst 0, 1) := dk_3 (dk_at dksX0_count_2 16 rfl rfl)
theorem dX0_count_65 : decode cX0_count 65 = .ok (.iadd, 1) := dk_96 (dk_at dksX0_count_2 17 rfl rfl)
theorem dX0_count_66 : decode cX0_count 66 = .ok (.istore_n 3, 1) := dk_62 (dk_at dksX0_count_2 18 rfl rfl)
theorem dX0_count_67 : decode cX0_count 67 = .ok (.iinc 4 1, 3) := dk_132 4 1 (dk_at dksX0_count_2 19 rfl rfl)
theorem dX0_count_70 : decode cX0_count 70 = .ok (.goto (-33), 3) := dk_167 255 223 (dk_at dksX0_count_3 0 rfl rfl)
theorem dX0_count_73 : decode cX0_count 73 = .ok (.iload_n 1, 1) := dk_27 (dk_at dksX0_count_3 3 rfl rfl)
theorem dX0_count_74 : decode cX0_count 74 = .ok (.tableswitch 65 0 5 #[38, 40, 45, 50, 52, 60], 38) := by decide +kernel
theorem dX0_count_112 : decode cX0_count 112 = .ok (.iload_n 2, 1) := dk_28 (dk_at dksX0_count_5 0 rfl rfl)
theorem dX0_count_113 : decode cX0_count 113 = .ok (.ireturn, 1) := dk_172 (dk_at dksX0_count_5 1 rfl rfl)
theorem dX0_count_114 : decode cX0_count 114 = .ok (.aload_n 0, 1) := dk_42 (dk_at dksX0_count_5 2 rfl rfl)
theorem dX0_count_115 : decode cX0_count 115 = .ok (.getfield 101, 3) := dk_180 0 101 (dk_at dksX0_count_5 3 rfl rfl)
theorem dX0_count_118 : decode cX0_count 118 = .ok (.ireturn, 1) := dk_172 (dk_at dksX0_count_5 6 rfl rfl)
theorem dX0_count_119 : decode cX0_count 119 = .ok (.aload_n 0, 1) := dk_42 (dk_at dksX0_count_5 7 rfl rfl)
theorem dX0_count_120 : decode cX0_count 120 = .ok (.getfield 141, 3) := dk_180 0 141 (dk_at dksX0_count_5 8 rfl rfl)
theorem dX0_count_123 : decode cX0_count 123 = .ok (.ireturn, 1) := dk_172 (dk_at dksX0_count_5 11 rfl rfl)
theorem dX0_count_124 : decode cX0_count 124 = .ok (.iload_n 3, 1) := dk_29 (dk_at dksX0_count_5 12 rfl rfl)
theorem dX0_count_125 : decode cX0_count 125 = .ok (.ireturn, 1) := dk_172 (dk_at dksX0_count_5 13 rfl rfl)
theorem dX0_count_126 : decode cX0_count 126 = .ok (.aload_n 0, 1) := dk_42 (dk_at dksX0_count_5 14 rfl rfl)
theorem dX0_count_127 : decode cX0_count 127 = .ok (.getfield 55, 3) := dk_180 0 55 (dk_at dksX0_count_5 15 rfl rfl)
theorem dX0_count_130 : decode cX0_count 130 = .ok (.invokevirtual 252, 3) := dk_182 0 252 (dk_at dksX0_count_5 18 rfl rfl)
theorem dX0_count_133 : decode cX0_count 133 = .ok (.ireturn, 1) := dk_172 (dk_at dksX0_count_5 21 rfl rfl)
theorem dX0_count_134 : decode cX0_count 134 = .ok (.aload_n 0, 1) := dk_42 (dk_at dksX0_count_5 22 rfl rfl)
theorem dX0_count_135 : decode cX0_count 135 = .ok (.getfield 136, 3) := dk_180 0 136 (dk_at dksX0_count_6 0 rfl rfl)
theorem dX0_count_138 : decode cX0_count 138 = .ok (.ireturn, 1) := dk_172 (dk_at dksX0_count_6 3 rfl rfl)
theorem dX0_count_139 : decode cX0_count 139 = .ok (.iconst (-1), 1) := dk_2 (dk_at dksX0_count_6 4 rfl rfl)
theorem dX0_count_140 : decode cX0_count 140 = .ok (.ireturn, 1) := dk_172 (dk_at dksX0_count_6 5 rfl rfl)
abbrev cX0_finding : ByteArray := prog_1_method_54_code
def yX0_finding : MethodName := ⟨RX0, "finding", "()I"⟩
theorem dX0_finding_0 : decode cX0_finding 0 = .ok (.aload_n 0, 1) := by decide +kernel
theorem dX0_finding_1 : decode cX0_finding 1 = .ok (.getfield 1, 3) := by decide +kernel
theorem dX0_finding_4 : decode cX0_finding 4 = .ok (.ireturn, 1) := by decide +kernel
abbrev cX0_findings : ByteArray := prog_1_method_55_code
def yX0_findings : MethodName := ⟨RX0, "findings", "(I)I"⟩
def dkwX0_findings_0 : List UInt8 := [27, 4, 8, 184, 0, 68, 153, 0, 12, 42, 180, 0, 7, 27, 46, 167, 0, 4, 2, 172]
abbrev dktX0_findings_0 : List UInt8 := dkwX0_findings_0 ++ []
theorem dksX0_findings_0 : cX0_findings.data.toList.drop 0 = dktX0_findings_0 := by decide +kernel
theorem dX0_findings_0 : decode cX0_findings 0 = .ok (.iload_n 1, 1) := dk_27 (dk_at dksX0_findings_0 0 rfl rfl)
theorem dX0_findings_1 : decode cX0_findings 1 = .ok (.iconst 1, 1) := dk_4 (dk_at dksX0_findings_0 1 rfl rfl)
theorem dX0_findings_2 : decode cX0_findings 2 = .ok (.iconst 5, 1) := dk_8 (dk_at dksX0_findings_0 2 rfl rfl)
theorem dX0_findings_3 : decode cX0_findings 3 = .ok (.invokestatic 68, 3) := dk_184 0 68 (dk_at dksX0_findings_0 3 rfl rfl)
theorem dX0_findings_6 : decode cX0_findings 6 = .ok (.ifCond .eq 12, 3) := dk_153 0 12 (dk_at dksX0_findings_0 6 rfl rfl)
theorem dX0_findings_9 : decode cX0_findings 9 = .ok (.aload_n 0, 1) := dk_42 (dk_at dksX0_findings_0 9 rfl rfl)
theorem dX0_findings_10 : decode cX0_findings 10 = .ok (.getfield 7, 3) := dk_180 0 7 (dk_at dksX0_findings_0 10 rfl rfl)
theorem dX0_findings_13 : decode cX0_findings 13 = .ok (.iload_n 1, 1) := dk_27 (dk_at dksX0_findings_0 13 rfl rfl)
theorem dX0_findings_14 : decode cX0_findings 14 = .ok (.iaload, 1) := dk_46 (dk_at dksX0_findings_0 14 rfl rfl)
theorem dX0_findings_15 : decode cX0_findings 15 = .ok (.goto 4, 3) := dk_167 0 4 (dk_at dksX0_findings_0 15 rfl rfl)
theorem dX0_findings_18 : decode cX0_findings 18 = .ok (.iconst (-1), 1) := dk_2 (dk_at dksX0_findings_0 18 rfl rfl)
theorem dX0_findings_19 : decode cX0_findings 19 = .ok (.ireturn, 1) := dk_172 (dk_at dksX0_findings_0 19 rfl rfl)
abbrev cX0_digest : ByteArray := prog_1_method_56_code
def yX0_digest : MethodName := ⟨RX0, "digest", "()J"⟩
def dkwX0_digest_10 : List UInt8 := [132, 4, 1, 167, 255, 232, 132, 3, 1, 167, 255, 218, 31, 173]
abbrev dktX0_digest_10 : List UInt8 := dkwX0_digest_10 ++ []
def dkwX0_digest_9 : List UInt8 := [3, 54, 4, 21, 4, 6, 162, 0, 24, 20, 1, 46, 31, 105, 42, 29, 21, 4, 182, 1, 32, 133, 97, 64]
abbrev dktX0_digest_9 : List UInt8 := dkwX0_digest_9 ++ dktX0_digest_10
def dkwX0_digest_8 : List UInt8 := [96, 46, 133, 97, 64, 132, 4, 1, 167, 255, 222, 132, 3, 1, 167, 255, 208, 3, 62, 29, 7, 162, 0, 39]
abbrev dktX0_digest_8 : List UInt8 := dkwX0_digest_8 ++ dktX0_digest_9
def dkwX0_digest_7 : List UInt8 := [42, 180, 0, 65, 29, 46, 162, 0, 29, 20, 1, 46, 31, 105, 42, 180, 0, 62, 16, 40, 29, 104, 21, 4]
abbrev dktX0_digest_7 : List UInt8 := dkwX0_digest_7 ++ dktX0_digest_8
def dkwX0_digest_6 : List UInt8 := [132, 4, 1, 167, 255, 227, 132, 3, 1, 167, 255, 210, 3, 62, 29, 5, 162, 0, 49, 3, 54, 4, 21, 4]
abbrev dktX0_digest_6 : List UInt8 := dkwX0_digest_6 ++ dktX0_digest_7
def dkwX0_digest_5 : List UInt8 := [162, 0, 28, 20, 1, 46, 31, 105, 42, 180, 0, 42, 29, 50, 21, 4, 184, 0, 190, 133, 97, 64]
abbrev dktX0_digest_5 : List UInt8 := dkwX0_digest_5 ++ dktX0_digest_6
def dkwX0_digest_4 : List UInt8 := [132, 3, 1, 167, 255, 193, 3, 62, 29, 42, 180, 0, 141, 162, 0, 44, 3, 54, 4, 21, 4, 16, 7]
abbrev dktX0_digest_4 : List UInt8 := dkwX0_digest_4 ++ dktX0_digest_5
def dkwX0_digest_3 : List UInt8 := [162, 0, 22, 20, 1, 46, 31, 105, 25, 4, 21, 5, 46, 133, 97, 64, 132, 5, 1, 167, 255, 228]
abbrev dktX0_digest_3 : List UInt8 := dkwX0_digest_3 ++ dktX0_digest_4
def dkwX0_digest_2 : List UInt8 := [199, 0, 11, 20, 1, 46, 31, 105, 10, 101, 64, 3, 54, 5, 25, 4, 198, 0, 29, 21, 5, 16, 96]
abbrev dktX0_digest_2 : List UInt8 := dkwX0_digest_2 ++ dktX0_digest_3
def dkwX0_digest_1 : List UInt8 := [64, 132, 3, 1, 167, 255, 234, 3, 62, 29, 7, 162, 0, 64, 42, 180, 0, 21, 29, 50, 58, 4, 25, 4]
abbrev dktX0_digest_1 : List UInt8 := dkwX0_digest_1 ++ dktX0_digest_2
def dkwX0_digest_0 : List UInt8 := [20, 1, 44, 64, 3, 62, 29, 16, 6, 162, 0, 22, 20, 1, 46, 31, 105, 42, 29, 182, 1, 48, 133, 97]
abbrev dktX0_digest_0 : List UInt8 := dkwX0_digest_0 ++ dktX0_digest_1
theorem dksX0_digest_0 : cX0_digest.data.toList.drop 0 = dktX0_digest_0 := by decide +kernel
theorem dksX0_digest_1 : cX0_digest.data.toList.drop 24 = dktX0_digest_1 := dk_seg dksX0_digest_0 24 rfl rfl
theorem dksX0_digest_2 : cX0_digest.data.toList.drop 48 = dktX0_digest_2 := dk_seg dksX0_digest_1 24 rfl rfl
theorem dksX0_digest_3 : cX0_digest.data.toList.drop 71 = dktX0_digest_3 := dk_seg dksX0_digest_2 23 rfl rfl
theorem dksX0_digest_4 : cX0_digest.data.toList.drop 93 = dktX0_digest_4 := dk_seg dksX0_digest_3 22 rfl rfl
theorem dksX0_digest_5 : cX0_digest.data.toList.drop 116 = dktX0_digest_5 := dk_seg dksX0_digest_4 23 rfl rfl
theorem dksX0_digest_6 : cX0_digest.data.toList.drop 138 = dktX0_digest_6 := dk_seg dksX0_digest_5 22 rfl rfl
theorem dksX0_digest_7 : cX0_digest.data.toList.drop 162 = dktX0_digest_7 := dk_seg dksX0_digest_6 24 rfl rfl
theorem dksX0_digest_8 : cX0_digest.data.toList.drop 186 = dktX0_digest_8 := dk_seg dksX0_digest_7 24 rfl rfl
theorem dksX0_digest_9 : cX0_digest.data.toList.drop 210 = dktX0_digest_9 := dk_seg dksX0_digest_8 24 rfl rfl
theorem dksX0_digest_10 : cX0_digest.data.toList.drop 234 = dktX0_digest_10 := dk_seg dksX0_digest_9 24 rfl rfl
theorem dX0_digest_0 : decode cX0_digest 0 = .ok (.ldc2_w 300, 3) := dk_20 1 44 (dk_at dksX0_digest_0 0 rfl rfl)
theorem dX0_digest_3 : decode cX0_digest 3 = .ok (.lstore_n 1, 1) := dk_64 (dk_at dksX0_digest_0 3 rfl rfl)
theorem dX0_digest_4 : decode cX0_digest 4 = .ok (.iconst 0, 1) := dk_3 (dk_at dksX0_digest_0 4 rfl rfl)
theorem dX0_digest_5 : decode cX0_digest 5 = .ok (.istore_n 3, 1) := dk_62 (dk_at dksX0_digest_0 5 rfl rfl)
theorem dX0_digest_6 : decode cX0_digest 6 = .ok (.iload_n 3, 1) := dk_29 (dk_at dksX0_digest_0 6 rfl rfl)
theorem dX0_digest_7 : decode cX0_digest 7 = .ok (.bipush 6, 2) := dk_16 6 (dk_at dksX0_digest_0 7 rfl rfl)
theorem dX0_digest_9 : decode cX0_digest 9 = .ok (.if_icmp .ge 22, 3) := dk_162 0 22 (dk_at dksX0_digest_0 9 rfl rfl)
theorem dX0_digest_12 : decode cX0_digest 12 = .ok (.ldc2_w 302, 3) := dk_20 1 46 (dk_at dksX0_digest_0 12 rfl rfl)
theorem dX0_digest_15 : decode cX0_digest 15 = .ok (.lload_n 1, 1) := dk_31 (dk_at dksX0_digest_0 15 rfl rfl)
theorem dX0_digest_16 : decode cX0_digest 16 = .ok (.lmul, 1) := dk_105 (dk_at dksX0_digest_0 16 rfl rfl)
theorem dX0_digest_17 : decode cX0_digest 17 = .ok (.aload_n 0, 1) := dk_42 (dk_at dksX0_digest_0 17 rfl rfl)
theorem dX0_digest_18 : decode cX0_digest 18 = .ok (.iload_n 3, 1) := dk_29 (dk_at dksX0_digest_0 18 rfl rfl)
theorem dX0_digest_19 : decode cX0_digest 19 = .ok (.invokevirtual 304, 3) := dk_182 1 48 (dk_at dksX0_digest_0 19 rfl rfl)
theorem dX0_digest_22 : decode cX0_digest 22 = .ok (.i2l, 1) := dk_133 (dk_at dksX0_digest_0 22 rfl rfl)
theorem dX0_digest_23 : decode cX0_digest 23 = .ok (.ladd, 1) := dk_97 (dk_at dksX0_digest_0 23 rfl rfl)
theorem dX0_digest_24 : decode cX0_digest 24 = .ok (.lstore_n 1, 1) := dk_64 (dk_at dksX0_digest_1 0 rfl rfl)
theorem dX0_digest_25 : decode cX0_digest 25 = .ok (.iinc 3 1, 3) := dk_132 3 1 (dk_at dksX0_digest_1 1 rfl rfl)
theorem dX0_digest_28 : decode cX0_digest 28 = .ok (.goto (-22), 3) := dk_167 255 234 (dk_at dksX0_digest_1 4 rfl rfl)
theorem dX0_digest_31 : decode cX0_digest 31 = .ok (.iconst 0, 1) := dk_3 (dk_at dksX0_digest_1 7 rfl rfl)
theorem dX0_digest_32 : decode cX0_digest 32 = .ok (.istore_n 3, 1) := dk_62 (dk_at dksX0_digest_1 8 rfl rfl)
theorem dX0_digest_33 : decode cX0_digest 33 = .ok (.iload_n 3, 1) := dk_29 (dk_at dksX0_digest_1 9 rfl rfl)
theorem dX0_digest_34 : decode cX0_digest 34 = .ok (.iconst 4, 1) := dk_7 (dk_at dksX0_digest_1 10 rfl rfl)
theorem dX0_digest_35 : decode cX0_digest 35 = .ok (.if_icmp .ge 64, 3) := dk_162 0 64 (dk_at dksX0_digest_1 11 rfl rfl)
theorem dX0_digest_38 : decode cX0_digest 38 = .ok (.aload_n 0, 1) := dk_42 (dk_at dksX0_digest_1 14 rfl rfl)
theorem dX0_digest_39 : decode cX0_digest 39 = .ok (.getfield 21, 3) := dk_180 0 21 (dk_at dksX0_digest_1 15 rfl rfl)
theorem dX0_digest_42 : decode cX0_digest 42 = .ok (.iload_n 3, 1) := dk_29 (dk_at dksX0_digest_1 18 rfl rfl)
theorem dX0_digest_43 : decode cX0_digest 43 = .ok (.aaload, 1) := dk_50 (dk_at dksX0_digest_1 19 rfl rfl)
theorem dX0_digest_44 : decode cX0_digest 44 = .ok (.astore 4, 2) := dk_58 4 (dk_at dksX0_digest_1 20 rfl rfl)
theorem dX0_digest_46 : decode cX0_digest 46 = .ok (.aload 4, 2) := dk_25 4 (dk_at dksX0_digest_1 22 rfl rfl)
theorem dX0_digest_48 : decode cX0_digest 48 = .ok (.ifnonnull 11, 3) := dk_199 0 11 (dk_at dksX0_digest_2 0 rfl rfl)
theorem dX0_digest_51 : decode cX0_digest 51 = .ok (.ldc2_w 302, 3) := dk_20 1 46 (dk_at dksX0_digest_2 3 rfl rfl)
theorem dX0_digest_54 : decode cX0_digest 54 = .ok (.lload_n 1, 1) := dk_31 (dk_at dksX0_digest_2 6 rfl rfl)
theorem dX0_digest_55 : decode cX0_digest 55 = .ok (.lmul, 1) := dk_105 (dk_at dksX0_digest_2 7 rfl rfl)
theorem dX0_digest_56 : decode cX0_digest 56 = .ok (.lconst 1, 1) := dk_10 (dk_at dksX0_digest_2 8 rfl rfl)
theorem dX0_digest_57 : decode cX0_digest 57 = .ok (.lsub, 1) := dk_101 (dk_at dksX0_digest_2 9 rfl rfl)
theorem dX0_digest_58 : decode cX0_digest 58 = .ok (.lstore_n 1, 1) := dk_64 (dk_at dksX0_digest_2 10 rfl rfl)
theorem dX0_digest_59 : decode cX0_digest 59 = .ok (.iconst 0, 1) := dk_3 (dk_at dksX0_digest_2 11 rfl rfl)
theorem dX0_digest_60 : decode cX0_digest 60 = .ok (.istore 5, 2) := dk_54 5 (dk_at dksX0_digest_2 12 rfl rfl)
theorem dX0_digest_62 : decode cX0_digest 62 = .ok (.aload 4, 2) := dk_25 4 (dk_at dksX0_digest_2 14 rfl rfl)
theorem dX0_digest_64 : decode cX0_digest 64 = .ok (.ifnull 29, 3) := dk_198 0 29 (dk_at dksX0_digest_2 16 rfl rfl)
theorem dX0_digest_67 : decode cX0_digest 67 = .ok (.iload 5, 2) := dk_21 5 (dk_at dksX0_digest_2 19 rfl rfl)
theorem dX0_digest_69 : decode cX0_digest 69 = .ok (.bipush 96, 2) := dk_16 96 (dk_at dksX0_digest_2 21 rfl rfl)
theorem dX0_digest_71 : decode cX0_digest 71 = .ok (.if_icmp .ge 22, 3) := dk_162 0 22 (dk_at dksX0_digest_3 0 rfl rfl)
theorem dX0_digest_74 : decode cX0_digest 74 = .ok (.ldc2_w 302, 3) := dk_20 1 46 (dk_at dksX0_digest_3 3 rfl rfl)
theorem dX0_digest_77 : decode cX0_digest 77 = .ok (.lload_n 1, 1) := dk_31 (dk_at dksX0_digest_3 6 rfl rfl)
theorem dX0_digest_78 : decode cX0_digest 78 = .ok (.lmul, 1) := dk_105 (dk_at dksX0_digest_3 7 rfl rfl)
theorem dX0_digest_79 : decode cX0_digest 79 = .ok (.aload 4, 2) := dk_25 4 (dk_at dksX0_digest_3 8 rfl rfl)
theorem dX0_digest_81 : decode cX0_digest 81 = .ok (.iload 5, 2) := dk_21 5 (dk_at dksX0_digest_3 10 rfl rfl)
theorem dX0_digest_83 : decode cX0_digest 83 = .ok (.iaload, 1) := dk_46 (dk_at dksX0_digest_3 12 rfl rfl)
theorem dX0_digest_84 : decode cX0_digest 84 = .ok (.i2l, 1) := dk_133 (dk_at dksX0_digest_3 13 rfl rfl)
theorem dX0_digest_85 : decode cX0_digest 85 = .ok (.ladd, 1) := dk_97 (dk_at dksX0_digest_3 14 rfl rfl)
theorem dX0_digest_86 : decode cX0_digest 86 = .ok (.lstore_n 1, 1) := dk_64 (dk_at dksX0_digest_3 15 rfl rfl)
theorem dX0_digest_87 : decode cX0_digest 87 = .ok (.iinc 5 1, 3) := dk_132 5 1 (dk_at dksX0_digest_3 16 rfl rfl)
theorem dX0_digest_90 : decode cX0_digest 90 = .ok (.goto (-28), 3) := dk_167 255 228 (dk_at dksX0_digest_3 19 rfl rfl)
theorem dX0_digest_93 : decode cX0_digest 93 = .ok (.iinc 3 1, 3) := dk_132 3 1 (dk_at dksX0_digest_4 0 rfl rfl)
theorem dX0_digest_96 : decode cX0_digest 96 = .ok (.goto (-63), 3) := dk_167 255 193 (dk_at dksX0_digest_4 3 rfl rfl)
theorem dX0_digest_99 : decode cX0_digest 99 = .ok (.iconst 0, 1) := dk_3 (dk_at dksX0_digest_4 6 rfl rfl)
theorem dX0_digest_100 : decode cX0_digest 100 = .ok (.istore_n 3, 1) := dk_62 (dk_at dksX0_digest_4 7 rfl rfl)
theorem dX0_digest_101 : decode cX0_digest 101 = .ok (.iload_n 3, 1) := dk_29 (dk_at dksX0_digest_4 8 rfl rfl)
theorem dX0_digest_102 : decode cX0_digest 102 = .ok (.aload_n 0, 1) := dk_42 (dk_at dksX0_digest_4 9 rfl rfl)
theorem dX0_digest_103 : decode cX0_digest 103 = .ok (.getfield 141, 3) := dk_180 0 141 (dk_at dksX0_digest_4 10 rfl rfl)
theorem dX0_digest_106 : decode cX0_digest 106 = .ok (.if_icmp .ge 44, 3) := dk_162 0 44 (dk_at dksX0_digest_4 13 rfl rfl)
theorem dX0_digest_109 : decode cX0_digest 109 = .ok (.iconst 0, 1) := dk_3 (dk_at dksX0_digest_4 16 rfl rfl)
theorem dX0_digest_110 : decode cX0_digest 110 = .ok (.istore 4, 2) := dk_54 4 (dk_at dksX0_digest_4 17 rfl rfl)
theorem dX0_digest_112 : decode cX0_digest 112 = .ok (.iload 4, 2) := dk_21 4 (dk_at dksX0_digest_4 19 rfl rfl)
theorem dX0_digest_114 : decode cX0_digest 114 = .ok (.bipush 7, 2) := dk_16 7 (dk_at dksX0_digest_4 21 rfl rfl)
theorem dX0_digest_116 : decode cX0_digest 116 = .ok (.if_icmp .ge 28, 3) := dk_162 0 28 (dk_at dksX0_digest_5 0 rfl rfl)
theorem dX0_digest_119 : decode cX0_digest 119 = .ok (.ldc2_w 302, 3) := dk_20 1 46 (dk_at dksX0_digest_5 3 rfl rfl)
theorem dX0_digest_122 : decode cX0_digest 122 = .ok (.lload_n 1, 1) := dk_31 (dk_at dksX0_digest_5 6 rfl rfl)
theorem dX0_digest_123 : decode cX0_digest 123 = .ok (.lmul, 1) := dk_105 (dk_at dksX0_digest_5 7 rfl rfl)
theorem dX0_digest_124 : decode cX0_digest 124 = .ok (.aload_n 0, 1) := dk_42 (dk_at dksX0_digest_5 8 rfl rfl)
theorem dX0_digest_125 : decode cX0_digest 125 = .ok (.getfield 42, 3) := dk_180 0 42 (dk_at dksX0_digest_5 9 rfl rfl)
theorem dX0_digest_128 : decode cX0_digest 128 = .ok (.iload_n 3, 1) := dk_29 (dk_at dksX0_digest_5 12 rfl rfl)
theorem dX0_digest_129 : decode cX0_digest 129 = .ok (.aaload, 1) := dk_50 (dk_at dksX0_digest_5 13 rfl rfl)
theorem dX0_digest_130 : decode cX0_digest 130 = .ok (.iload 4, 2) := dk_21 4 (dk_at dksX0_digest_5 14 rfl rfl)
theorem dX0_digest_132 : decode cX0_digest 132 = .ok (.invokestatic 190, 3) := dk_184 0 190 (dk_at dksX0_digest_5 16 rfl rfl)
theorem dX0_digest_135 : decode cX0_digest 135 = .ok (.i2l, 1) := dk_133 (dk_at dksX0_digest_5 19 rfl rfl)
theorem dX0_digest_136 : decode cX0_digest 136 = .ok (.ladd, 1) := dk_97 (dk_at dksX0_digest_5 20 rfl rfl)
theorem dX0_digest_137 : decode cX0_digest 137 = .ok (.lstore_n 1, 1) := dk_64 (dk_at dksX0_digest_5 21 rfl rfl)
theorem dX0_digest_138 : decode cX0_digest 138 = .ok (.iinc 4 1, 3) := dk_132 4 1 (dk_at dksX0_digest_6 0 rfl rfl)
theorem dX0_digest_141 : decode cX0_digest 141 = .ok (.goto (-29), 3) := dk_167 255 227 (dk_at dksX0_digest_6 3 rfl rfl)
theorem dX0_digest_144 : decode cX0_digest 144 = .ok (.iinc 3 1, 3) := dk_132 3 1 (dk_at dksX0_digest_6 6 rfl rfl)
theorem dX0_digest_147 : decode cX0_digest 147 = .ok (.goto (-46), 3) := dk_167 255 210 (dk_at dksX0_digest_6 9 rfl rfl)
theorem dX0_digest_150 : decode cX0_digest 150 = .ok (.iconst 0, 1) := dk_3 (dk_at dksX0_digest_6 12 rfl rfl)
theorem dX0_digest_151 : decode cX0_digest 151 = .ok (.istore_n 3, 1) := dk_62 (dk_at dksX0_digest_6 13 rfl rfl)
theorem dX0_digest_152 : decode cX0_digest 152 = .ok (.iload_n 3, 1) := dk_29 (dk_at dksX0_digest_6 14 rfl rfl)
theorem dX0_digest_153 : decode cX0_digest 153 = .ok (.iconst 2, 1) := dk_5 (dk_at dksX0_digest_6 15 rfl rfl)
theorem dX0_digest_154 : decode cX0_digest 154 = .ok (.if_icmp .ge 49, 3) := dk_162 0 49 (dk_at dksX0_digest_6 16 rfl rfl)
theorem dX0_digest_157 : decode cX0_digest 157 = .ok (.iconst 0, 1) := dk_3 (dk_at dksX0_digest_6 19 rfl rfl)
theorem dX0_digest_158 : decode cX0_digest 158 = .ok (.istore 4, 2) := dk_54 4 (dk_at dksX0_digest_6 20 rfl rfl)
theorem dX0_digest_160 : decode cX0_digest 160 = .ok (.iload 4, 2) := dk_21 4 (dk_at dksX0_digest_6 22 rfl rfl)
theorem dX0_digest_162 : decode cX0_digest 162 = .ok (.aload_n 0, 1) := dk_42 (dk_at dksX0_digest_7 0 rfl rfl)
theorem dX0_digest_163 : decode cX0_digest 163 = .ok (.getfield 65, 3) := dk_180 0 65 (dk_at dksX0_digest_7 1 rfl rfl)
theorem dX0_digest_166 : decode cX0_digest 166 = .ok (.iload_n 3, 1) := dk_29 (dk_at dksX0_digest_7 4 rfl rfl)
theorem dX0_digest_167 : decode cX0_digest 167 = .ok (.iaload, 1) := dk_46 (dk_at dksX0_digest_7 5 rfl rfl)
theorem dX0_digest_168 : decode cX0_digest 168 = .ok (.if_icmp .ge 29, 3) := dk_162 0 29 (dk_at dksX0_digest_7 6 rfl rfl)
theorem dX0_digest_171 : decode cX0_digest 171 = .ok (.ldc2_w 302, 3) := dk_20 1 46 (dk_at dksX0_digest_7 9 rfl rfl)
theorem dX0_digest_174 : decode cX0_digest 174 = .ok (.lload_n 1, 1) := dk_31 (dk_at dksX0_digest_7 12 rfl rfl)
theorem dX0_digest_175 : decode cX0_digest 175 = .ok (.lmul, 1) := dk_105 (dk_at dksX0_digest_7 13 rfl rfl)
theorem dX0_digest_176 : decode cX0_digest 176 = .ok (.aload_n 0, 1) := dk_42 (dk_at dksX0_digest_7 14 rfl rfl)
theorem dX0_digest_177 : decode cX0_digest 177 = .ok (.getfield 62, 3) := dk_180 0 62 (dk_at dksX0_digest_7 15 rfl rfl)
theorem dX0_digest_180 : decode cX0_digest 180 = .ok (.bipush 40, 2) := dk_16 40 (dk_at dksX0_digest_7 18 rfl rfl)
theorem dX0_digest_182 : decode cX0_digest 182 = .ok (.iload_n 3, 1) := dk_29 (dk_at dksX0_digest_7 20 rfl rfl)
theorem dX0_digest_183 : decode cX0_digest 183 = .ok (.imul, 1) := dk_104 (dk_at dksX0_digest_7 21 rfl rfl)
theorem dX0_digest_184 : decode cX0_digest 184 = .ok (.iload 4, 2) := dk_21 4 (dk_at dksX0_digest_7 22 rfl rfl)
theorem dX0_digest_186 : decode cX0_digest 186 = .ok (.iadd, 1) := dk_96 (dk_at dksX0_digest_8 0 rfl rfl)
theorem dX0_digest_187 : decode cX0_digest 187 = .ok (.iaload, 1) := dk_46 (dk_at dksX0_digest_8 1 rfl rfl)
theorem dX0_digest_188 : decode cX0_digest 188 = .ok (.i2l, 1) := dk_133 (dk_at dksX0_digest_8 2 rfl rfl)
theorem dX0_digest_189 : decode cX0_digest 189 = .ok (.ladd, 1) := dk_97 (dk_at dksX0_digest_8 3 rfl rfl)
theorem dX0_digest_190 : decode cX0_digest 190 = .ok (.lstore_n 1, 1) := dk_64 (dk_at dksX0_digest_8 4 rfl rfl)
theorem dX0_digest_191 : decode cX0_digest 191 = .ok (.iinc 4 1, 3) := dk_132 4 1 (dk_at dksX0_digest_8 5 rfl rfl)
theorem dX0_digest_194 : decode cX0_digest 194 = .ok (.goto (-34), 3) := dk_167 255 222 (dk_at dksX0_digest_8 8 rfl rfl)
theorem dX0_digest_197 : decode cX0_digest 197 = .ok (.iinc 3 1, 3) := dk_132 3 1 (dk_at dksX0_digest_8 11 rfl rfl)
theorem dX0_digest_200 : decode cX0_digest 200 = .ok (.goto (-48), 3) := dk_167 255 208 (dk_at dksX0_digest_8 14 rfl rfl)
theorem dX0_digest_203 : decode cX0_digest 203 = .ok (.iconst 0, 1) := dk_3 (dk_at dksX0_digest_8 17 rfl rfl)
theorem dX0_digest_204 : decode cX0_digest 204 = .ok (.istore_n 3, 1) := dk_62 (dk_at dksX0_digest_8 18 rfl rfl)
theorem dX0_digest_205 : decode cX0_digest 205 = .ok (.iload_n 3, 1) := dk_29 (dk_at dksX0_digest_8 19 rfl rfl)
theorem dX0_digest_206 : decode cX0_digest 206 = .ok (.iconst 4, 1) := dk_7 (dk_at dksX0_digest_8 20 rfl rfl)
theorem dX0_digest_207 : decode cX0_digest 207 = .ok (.if_icmp .ge 39, 3) := dk_162 0 39 (dk_at dksX0_digest_8 21 rfl rfl)
theorem dX0_digest_210 : decode cX0_digest 210 = .ok (.iconst 0, 1) := dk_3 (dk_at dksX0_digest_9 0 rfl rfl)
theorem dX0_digest_211 : decode cX0_digest 211 = .ok (.istore 4, 2) := dk_54 4 (dk_at dksX0_digest_9 1 rfl rfl)
theorem dX0_digest_213 : decode cX0_digest 213 = .ok (.iload 4, 2) := dk_21 4 (dk_at dksX0_digest_9 3 rfl rfl)
theorem dX0_digest_215 : decode cX0_digest 215 = .ok (.iconst 3, 1) := dk_6 (dk_at dksX0_digest_9 5 rfl rfl)
theorem dX0_digest_216 : decode cX0_digest 216 = .ok (.if_icmp .ge 24, 3) := dk_162 0 24 (dk_at dksX0_digest_9 6 rfl rfl)
theorem dX0_digest_219 : decode cX0_digest 219 = .ok (.ldc2_w 302, 3) := dk_20 1 46 (dk_at dksX0_digest_9 9 rfl rfl)
theorem dX0_digest_222 : decode cX0_digest 222 = .ok (.lload_n 1, 1) := dk_31 (dk_at dksX0_digest_9 12 rfl rfl)
theorem dX0_digest_223 : decode cX0_digest 223 = .ok (.lmul, 1) := dk_105 (dk_at dksX0_digest_9 13 rfl rfl)
theorem dX0_digest_224 : decode cX0_digest 224 = .ok (.aload_n 0, 1) := dk_42 (dk_at dksX0_digest_9 14 rfl rfl)
theorem dX0_digest_225 : decode cX0_digest 225 = .ok (.iload_n 3, 1) := dk_29 (dk_at dksX0_digest_9 15 rfl rfl)
theorem dX0_digest_226 : decode cX0_digest 226 = .ok (.iload 4, 2) := dk_21 4 (dk_at dksX0_digest_9 16 rfl rfl)
theorem dX0_digest_228 : decode cX0_digest 228 = .ok (.invokevirtual 288, 3) := dk_182 1 32 (dk_at dksX0_digest_9 18 rfl rfl)
theorem dX0_digest_231 : decode cX0_digest 231 = .ok (.i2l, 1) := dk_133 (dk_at dksX0_digest_9 21 rfl rfl)
theorem dX0_digest_232 : decode cX0_digest 232 = .ok (.ladd, 1) := dk_97 (dk_at dksX0_digest_9 22 rfl rfl)
theorem dX0_digest_233 : decode cX0_digest 233 = .ok (.lstore_n 1, 1) := dk_64 (dk_at dksX0_digest_9 23 rfl rfl)
theorem dX0_digest_234 : decode cX0_digest 234 = .ok (.iinc 4 1, 3) := dk_132 4 1 (dk_at dksX0_digest_10 0 rfl rfl)
theorem dX0_digest_237 : decode cX0_digest 237 = .ok (.goto (-24), 3) := dk_167 255 232 (dk_at dksX0_digest_10 3 rfl rfl)
theorem dX0_digest_240 : decode cX0_digest 240 = .ok (.iinc 3 1, 3) := dk_132 3 1 (dk_at dksX0_digest_10 6 rfl rfl)
theorem dX0_digest_243 : decode cX0_digest 243 = .ok (.goto (-38), 3) := dk_167 255 218 (dk_at dksX0_digest_10 9 rfl rfl)
theorem dX0_digest_246 : decode cX0_digest 246 = .ok (.lload_n 1, 1) := dk_31 (dk_at dksX0_digest_10 12 rfl rfl)
theorem dX0_digest_247 : decode cX0_digest 247 = .ok (.lreturn, 1) := dk_173 (dk_at dksX0_digest_10 13 rfl rfl)
theorem q35 : (Jvm.Cond.initialized "LimbMaker") ∈ lw_all := lw_g (lw_at lw_m1 1 rfl) rfl
theorem q63 : (Jvm.Cond.instanceMethod ({ cls := "LimbMaker", name := "asked", desc := "()I" } : Jvm.MethodName)) ∈ lw_all := lw_g (lw_at lw_m1 29 rfl) rfl
theorem q64 : (Jvm.Cond.selects "LimbMaker" ({ cls := "LimbMaker", name := "asked", desc := "()I" } : Jvm.MethodName) ({ cls := "LimbMaker", name := "asked", desc := "()I" } : Jvm.MethodName)) ∈ lw_all := lw_g (lw_at lw_m1 30 rfl) rfl
theorem q65 : (Jvm.Cond.code ({ cls := "LimbMaker", name := "asked", desc := "()I" } : Jvm.MethodName) prog_1_method_4_code (1 : Nat) (Option.some Jvm.ClassFile.FieldType.int)) ∈ lw_all := lw_g (lw_at lw_m1 31 rfl) rfl
theorem q67 : (Jvm.Cond.instantiable "LimbMaker" (29 : Nat)) ∈ lw_all := lw_g (lw_at lw_m1 33 rfl) rfl
theorem q69 : (Jvm.Cond.instanceMethod ({ cls := "LimbMaker", name := "<init>", desc := "()V" } : Jvm.MethodName)) ∈ lw_all := lw_g (lw_at lw_m1 35 rfl) rfl
theorem q70 : (Jvm.Cond.code ({ cls := "LimbMaker", name := "<init>", desc := "()V" } : Jvm.MethodName) prog_1_method_5_code (1 : Nat) (Option.none : Option Jvm.ClassFile.FieldType)) ∈ lw_all := lw_g (lw_at lw_m1 36 rfl) rfl
theorem q71 : (Jvm.Cond.methodLink "LimbMaker" (14 : Nat) ({ cls := "java/lang/Object", name := "<init>", desc := "()V" } : Jvm.MethodName)) ∈ lw_all := lw_g (lw_at lw_m1 37 rfl) rfl
theorem q74 : (Jvm.Cond.classLink "LimbMaker" (20 : Nat) "[I") ∈ lw_all := lw_g (lw_at lw_m1 40 rfl) rfl
theorem q76 : (Jvm.Cond.classLink "LimbMaker" (40 : Nat) "LimbMaker$Part") ∈ lw_all := lw_g (lw_at lw_m1 42 rfl) rfl
theorem q78 : (Jvm.Cond.classLink "LimbMaker" (52 : Nat) "java/util/ArrayList") ∈ lw_all := lw_g (lw_at lw_m1 44 rfl) rfl
theorem q80 : (Jvm.Cond.methodLink "LimbMaker" (54 : Nat) ({ cls := "java/util/ArrayList", name := "<init>", desc := "()V" } : Jvm.MethodName)) ∈ lw_all := lw_g (lw_at lw_m1 46 rfl) rfl
theorem q105 : (Jvm.Cond.fieldLink "LimbMaker" (1 : Nat) "LimbMaker" "latest" "I") ∈ lw_all := lw_g (lw_at lw_m1 71 rfl) rfl
theorem q106 : (Jvm.Cond.fieldLink "LimbMaker" (7 : Nat) "LimbMaker" "came" "[I") ∈ lw_all := lw_g (lw_at lw_m1 72 rfl) rfl
theorem q107 : (Jvm.Cond.fieldLink "LimbMaker" (11 : Nat) "LimbMaker" "asked" "I") ∈ lw_all := lw_g (lw_at lw_m1 73 rfl) rfl
theorem q108 : (Jvm.Cond.fieldLink "LimbMaker" (21 : Nat) "LimbMaker" "scans" "[[I") ∈ lw_all := lw_g (lw_at lw_m1 74 rfl) rfl
theorem q109 : (Jvm.Cond.fieldLink "LimbMaker" (101 : Nat) "LimbMaker" "ruleMany" "I") ∈ lw_all := lw_g (lw_at lw_m1 75 rfl) rfl
theorem q110 : (Jvm.Cond.fieldLink "LimbMaker" (25 : Nat) "LimbMaker" "ruleFrom" "[I") ∈ lw_all := lw_g (lw_at lw_m1 76 rfl) rfl
theorem q111 : (Jvm.Cond.fieldLink "LimbMaker" (28 : Nat) "LimbMaker" "ruleTo" "[I") ∈ lw_all := lw_g (lw_at lw_m1 77 rfl) rfl
theorem q112 : (Jvm.Cond.fieldLink "LimbMaker" (31 : Nat) "LimbMaker" "rulePlaces" "[I") ∈ lw_all := lw_g (lw_at lw_m1 78 rfl) rfl
theorem q113 : (Jvm.Cond.fieldLink "LimbMaker" (34 : Nat) "LimbMaker" "ruleMore" "[I") ∈ lw_all := lw_g (lw_at lw_m1 79 rfl) rfl
theorem q114 : (Jvm.Cond.fieldLink "LimbMaker" (136 : Nat) "LimbMaker" "endMany" "I") ∈ lw_all := lw_g (lw_at lw_m1 80 rfl) rfl
theorem q115 : (Jvm.Cond.fieldLink "LimbMaker" (37 : Nat) "LimbMaker" "ends" "[I") ∈ lw_all := lw_g (lw_at lw_m1 81 rfl) rfl
theorem q118 : (Jvm.Cond.fieldLink "LimbMaker" (42 : Nat) "LimbMaker" "parts" "[LLimbMaker$Part;") ∈ lw_all := lw_g (lw_at lw_m1 84 rfl) rfl
theorem q121 : (Jvm.Cond.fieldLink "LimbMaker" (141 : Nat) "LimbMaker" "partMany" "I") ∈ lw_all := lw_g (lw_at lw_m1 87 rfl) rfl
theorem q122 : (Jvm.Cond.fieldLink "LimbMaker" (46 : Nat) "LimbMaker" "going" "[I") ∈ lw_all := lw_g (lw_at lw_m1 88 rfl) rfl
theorem q123 : (Jvm.Cond.fieldLink "LimbMaker" (202 : Nat) "LimbMaker" "used" "I") ∈ lw_all := lw_g (lw_at lw_m1 89 rfl) rfl
theorem q124 : (Jvm.Cond.fieldLink "LimbMaker" (213 : Nat) "LimbMaker" "dueHeight" "I") ∈ lw_all := lw_g (lw_at lw_m1 90 rfl) rfl
theorem q125 : (Jvm.Cond.fieldLink "LimbMaker" (205 : Nat) "LimbMaker" "dueWeight" "I") ∈ lw_all := lw_g (lw_at lw_m1 91 rfl) rfl
theorem q126 : (Jvm.Cond.fieldLink "LimbMaker" (232 : Nat) "LimbMaker" "tries" "I") ∈ lw_all := lw_g (lw_at lw_m1 92 rfl) rfl
theorem q127 : (Jvm.Cond.fieldLink "LimbMaker" (235 : Nat) "LimbMaker" "most" "I") ∈ lw_all := lw_g (lw_at lw_m1 93 rfl) rfl
theorem q128 : (Jvm.Cond.fieldLink "LimbMaker" (225 : Nat) "LimbMaker" "isSpent" "Z") ∈ lw_all := lw_g (lw_at lw_m1 94 rfl) rfl
theorem q129 : (Jvm.Cond.fieldLink "LimbMaker" (49 : Nat) "LimbMaker" "best" "[I") ∈ lw_all := lw_g (lw_at lw_m1 95 rfl) rfl
theorem q130 : (Jvm.Cond.fieldLink "LimbMaker" (216 : Nat) "LimbMaker" "bestMany" "I") ∈ lw_all := lw_g (lw_at lw_m1 96 rfl) rfl
theorem q131 : (Jvm.Cond.fieldLink "LimbMaker" (219 : Nat) "LimbMaker" "bestPrice" "I") ∈ lw_all := lw_g (lw_at lw_m1 97 rfl) rfl
theorem q132 : (Jvm.Cond.fieldLink "LimbMaker" (222 : Nat) "LimbMaker" "bestHeight" "I") ∈ lw_all := lw_g (lw_at lw_m1 98 rfl) rfl
theorem q133 : (Jvm.Cond.fieldLink "LimbMaker" (249 : Nat) "LimbMaker" "cutsNow" "I") ∈ lw_all := lw_g (lw_at lw_m1 99 rfl) rfl
theorem q134 : (Jvm.Cond.fieldLink "LimbMaker" (55 : Nat) "LimbMaker" "moves" "Ljava/util/ArrayList;") ∈ lw_all := lw_g (lw_at lw_m1 100 rfl) rfl
theorem q135 : (Jvm.Cond.fieldLink "LimbMaker" (59 : Nat) "LimbMaker" "place" "[I") ∈ lw_all := lw_g (lw_at lw_m1 101 rfl) rfl
theorem q136 : (Jvm.Cond.fieldLink "LimbMaker" (62 : Nat) "LimbMaker" "loads" "[I") ∈ lw_all := lw_g (lw_at lw_m1 102 rfl) rfl
theorem q137 : (Jvm.Cond.fieldLink "LimbMaker" (65 : Nat) "LimbMaker" "loadMany" "[I") ∈ lw_all := lw_g (lw_at lw_m1 103 rfl) rfl
theorem q138 : (Jvm.Cond.lays "LimbMaker" "LimbMaker" "latest" "I") ∈ lw_all := lw_g (lw_at lw_m1 104 rfl) rfl
theorem q139 : (Jvm.Cond.soleField "LimbMaker" "latest") ∈ lw_all := lw_g (lw_at lw_m1 105 rfl) rfl
theorem q140 : (Jvm.Cond.laysFinal "LimbMaker" "LimbMaker" "came" "[I") ∈ lw_all := lw_g (lw_at lw_m1 106 rfl) rfl
theorem q141 : (Jvm.Cond.soleField "LimbMaker" "came") ∈ lw_all := lw_g (lw_at lw_m1 107 rfl) rfl
theorem q142 : (Jvm.Cond.lays "LimbMaker" "LimbMaker" "asked" "I") ∈ lw_all := lw_g (lw_at lw_m1 108 rfl) rfl
theorem q143 : (Jvm.Cond.soleField "LimbMaker" "asked") ∈ lw_all := lw_g (lw_at lw_m1 109 rfl) rfl
theorem q144 : (Jvm.Cond.laysFinal "LimbMaker" "LimbMaker" "scans" "[[I") ∈ lw_all := lw_g (lw_at lw_m1 110 rfl) rfl
theorem q145 : (Jvm.Cond.soleField "LimbMaker" "scans") ∈ lw_all := lw_g (lw_at lw_m1 111 rfl) rfl
theorem q146 : (Jvm.Cond.lays "LimbMaker" "LimbMaker" "ruleMany" "I") ∈ lw_all := lw_g (lw_at lw_m1 112 rfl) rfl
theorem q147 : (Jvm.Cond.soleField "LimbMaker" "ruleMany") ∈ lw_all := lw_g (lw_at lw_m1 113 rfl) rfl
theorem q148 : (Jvm.Cond.laysFinal "LimbMaker" "LimbMaker" "ruleFrom" "[I") ∈ lw_all := lw_g (lw_at lw_m1 114 rfl) rfl
theorem q149 : (Jvm.Cond.soleField "LimbMaker" "ruleFrom") ∈ lw_all := lw_g (lw_at lw_m1 115 rfl) rfl
theorem q150 : (Jvm.Cond.laysFinal "LimbMaker" "LimbMaker" "ruleTo" "[I") ∈ lw_all := lw_g (lw_at lw_m1 116 rfl) rfl
theorem q151 : (Jvm.Cond.soleField "LimbMaker" "ruleTo") ∈ lw_all := lw_g (lw_at lw_m1 117 rfl) rfl
theorem q152 : (Jvm.Cond.laysFinal "LimbMaker" "LimbMaker" "rulePlaces" "[I") ∈ lw_all := lw_g (lw_at lw_m1 118 rfl) rfl
theorem q153 : (Jvm.Cond.soleField "LimbMaker" "rulePlaces") ∈ lw_all := lw_g (lw_at lw_m1 119 rfl) rfl
theorem q154 : (Jvm.Cond.laysFinal "LimbMaker" "LimbMaker" "ruleMore" "[I") ∈ lw_all := lw_g (lw_at lw_m1 120 rfl) rfl
theorem q155 : (Jvm.Cond.soleField "LimbMaker" "ruleMore") ∈ lw_all := lw_g (lw_at lw_m1 121 rfl) rfl
theorem q156 : (Jvm.Cond.lays "LimbMaker" "LimbMaker" "endMany" "I") ∈ lw_all := lw_g (lw_at lw_m1 122 rfl) rfl
theorem q157 : (Jvm.Cond.soleField "LimbMaker" "endMany") ∈ lw_all := lw_g (lw_at lw_m1 123 rfl) rfl
theorem q158 : (Jvm.Cond.laysFinal "LimbMaker" "LimbMaker" "ends" "[I") ∈ lw_all := lw_g (lw_at lw_m1 124 rfl) rfl
theorem q159 : (Jvm.Cond.soleField "LimbMaker" "ends") ∈ lw_all := lw_g (lw_at lw_m1 125 rfl) rfl
theorem q160 : (Jvm.Cond.laysFinal "LimbMaker" "LimbMaker" "parts" "[LLimbMaker$Part;") ∈ lw_all := lw_g (lw_at lw_m1 126 rfl) rfl
theorem q161 : (Jvm.Cond.soleField "LimbMaker" "parts") ∈ lw_all := lw_g (lw_at lw_m1 127 rfl) rfl
theorem q162 : (Jvm.Cond.lays "LimbMaker" "LimbMaker" "partMany" "I") ∈ lw_all := lw_g (lw_at lw_m1 128 rfl) rfl
theorem q163 : (Jvm.Cond.soleField "LimbMaker" "partMany") ∈ lw_all := lw_g (lw_at lw_m1 129 rfl) rfl
theorem q164 : (Jvm.Cond.laysFinal "LimbMaker" "LimbMaker" "going" "[I") ∈ lw_all := lw_g (lw_at lw_m1 130 rfl) rfl
theorem q165 : (Jvm.Cond.soleField "LimbMaker" "going") ∈ lw_all := lw_g (lw_at lw_m1 131 rfl) rfl
theorem q166 : (Jvm.Cond.lays "LimbMaker" "LimbMaker" "used" "I") ∈ lw_all := lw_g (lw_at lw_m1 132 rfl) rfl
theorem q167 : (Jvm.Cond.soleField "LimbMaker" "used") ∈ lw_all := lw_g (lw_at lw_m1 133 rfl) rfl
theorem q168 : (Jvm.Cond.lays "LimbMaker" "LimbMaker" "dueHeight" "I") ∈ lw_all := lw_g (lw_at lw_m1 134 rfl) rfl
theorem q169 : (Jvm.Cond.soleField "LimbMaker" "dueHeight") ∈ lw_all := lw_g (lw_at lw_m1 135 rfl) rfl
theorem q170 : (Jvm.Cond.lays "LimbMaker" "LimbMaker" "dueWeight" "I") ∈ lw_all := lw_g (lw_at lw_m1 136 rfl) rfl
theorem q171 : (Jvm.Cond.soleField "LimbMaker" "dueWeight") ∈ lw_all := lw_g (lw_at lw_m1 137 rfl) rfl
theorem q172 : (Jvm.Cond.lays "LimbMaker" "LimbMaker" "tries" "I") ∈ lw_all := lw_g (lw_at lw_m1 138 rfl) rfl
theorem q173 : (Jvm.Cond.soleField "LimbMaker" "tries") ∈ lw_all := lw_g (lw_at lw_m1 139 rfl) rfl
theorem q174 : (Jvm.Cond.lays "LimbMaker" "LimbMaker" "most" "I") ∈ lw_all := lw_g (lw_at lw_m1 140 rfl) rfl
theorem q175 : (Jvm.Cond.soleField "LimbMaker" "most") ∈ lw_all := lw_g (lw_at lw_m1 141 rfl) rfl
theorem q176 : (Jvm.Cond.lays "LimbMaker" "LimbMaker" "isSpent" "Z") ∈ lw_all := lw_g (lw_at lw_m1 142 rfl) rfl
theorem q177 : (Jvm.Cond.soleField "LimbMaker" "isSpent") ∈ lw_all := lw_g (lw_at lw_m1 143 rfl) rfl
theorem q178 : (Jvm.Cond.laysFinal "LimbMaker" "LimbMaker" "best" "[I") ∈ lw_all := lw_g (lw_at lw_m1 144 rfl) rfl
theorem q179 : (Jvm.Cond.soleField "LimbMaker" "best") ∈ lw_all := lw_g (lw_at lw_m1 145 rfl) rfl
theorem q180 : (Jvm.Cond.lays "LimbMaker" "LimbMaker" "bestMany" "I") ∈ lw_all := lw_g (lw_at lw_m1 146 rfl) rfl
theorem q181 : (Jvm.Cond.soleField "LimbMaker" "bestMany") ∈ lw_all := lw_g (lw_at lw_m1 147 rfl) rfl
theorem q182 : (Jvm.Cond.lays "LimbMaker" "LimbMaker" "bestPrice" "I") ∈ lw_all := lw_g (lw_at lw_m1 148 rfl) rfl
theorem q183 : (Jvm.Cond.soleField "LimbMaker" "bestPrice") ∈ lw_all := lw_g (lw_at lw_m1 149 rfl) rfl
theorem q184 : (Jvm.Cond.lays "LimbMaker" "LimbMaker" "bestHeight" "I") ∈ lw_all := lw_g (lw_at lw_m1 150 rfl) rfl
theorem q185 : (Jvm.Cond.soleField "LimbMaker" "bestHeight") ∈ lw_all := lw_g (lw_at lw_m1 151 rfl) rfl
theorem q186 : (Jvm.Cond.lays "LimbMaker" "LimbMaker" "cutsNow" "I") ∈ lw_all := lw_g (lw_at lw_m1 152 rfl) rfl
theorem q187 : (Jvm.Cond.soleField "LimbMaker" "cutsNow") ∈ lw_all := lw_g (lw_at lw_m1 153 rfl) rfl
theorem q188 : (Jvm.Cond.laysFinal "LimbMaker" "LimbMaker" "moves" "Ljava/util/ArrayList;") ∈ lw_all := lw_g (lw_at lw_m1 154 rfl) rfl
theorem q189 : (Jvm.Cond.soleField "LimbMaker" "moves") ∈ lw_all := lw_g (lw_at lw_m1 155 rfl) rfl
theorem q190 : (Jvm.Cond.laysFinal "LimbMaker" "LimbMaker" "place" "[I") ∈ lw_all := lw_g (lw_at lw_m1 156 rfl) rfl
theorem q191 : (Jvm.Cond.soleField "LimbMaker" "place") ∈ lw_all := lw_g (lw_at lw_m1 157 rfl) rfl
theorem q192 : (Jvm.Cond.laysFinal "LimbMaker" "LimbMaker" "loads" "[I") ∈ lw_all := lw_g (lw_at lw_m1 158 rfl) rfl
theorem q193 : (Jvm.Cond.soleField "LimbMaker" "loads") ∈ lw_all := lw_g (lw_at lw_m1 159 rfl) rfl
theorem q194 : (Jvm.Cond.laysFinal "LimbMaker" "LimbMaker" "loadMany" "[I") ∈ lw_all := lw_g (lw_at lw_m1 160 rfl) rfl
theorem q195 : (Jvm.Cond.soleField "LimbMaker" "loadMany") ∈ lw_all := lw_g (lw_at lw_m1 161 rfl) rfl
theorem q196 : (Jvm.Cond.superclass "LimbMaker" "java/lang/Object") ∈ lw_all := lw_g (lw_at lw_m1 162 rfl) rfl
theorem q198 : (Jvm.Cond.instanceMethod ({ cls := "LimbMaker", name := "scan", desc := "(I)I" } : Jvm.MethodName)) ∈ lw_all := lw_g (lw_at lw_m1 164 rfl) rfl
theorem q199 : (Jvm.Cond.selects "LimbMaker" ({ cls := "LimbMaker", name := "scan", desc := "(I)I" } : Jvm.MethodName) ({ cls := "LimbMaker", name := "scan", desc := "(I)I" } : Jvm.MethodName)) ∈ lw_all := lw_g (lw_at lw_m1 165 rfl) rfl
theorem q200 : (Jvm.Cond.code ({ cls := "LimbMaker", name := "scan", desc := "(I)I" } : Jvm.MethodName) prog_1_method_9_code (5 : Nat) (Option.some Jvm.ClassFile.FieldType.int)) ∈ lw_all := lw_g (lw_at lw_m1 166 rfl) rfl
theorem q201 : (Jvm.Cond.methodLink "LimbMaker" (72 : Nat) ({ cls := "LimbMaker", name := "isScan", desc := "(I)Z" } : Jvm.MethodName)) ∈ lw_all := lw_g (lw_at lw_m1 167 rfl) rfl
theorem q202 : (Jvm.Cond.static ({ cls := "LimbMaker", name := "isScan", desc := "(I)Z" } : Jvm.MethodName)) ∈ lw_all := lw_g (lw_at lw_m1 168 rfl) rfl
theorem q203 : (Jvm.Cond.code ({ cls := "LimbMaker", name := "isScan", desc := "(I)Z" } : Jvm.MethodName) prog_1_method_6_code (1 : Nat) (Option.some Jvm.ClassFile.FieldType.boolean)) ∈ lw_all := lw_g (lw_at lw_m1 169 rfl) rfl
theorem q204 : (Jvm.Cond.methodLink "LimbMaker" (68 : Nat) ({ cls := "LimbMaker", name := "in", desc := "(III)Z" } : Jvm.MethodName)) ∈ lw_all := lw_g (lw_at lw_m1 170 rfl) rfl
theorem q205 : (Jvm.Cond.static ({ cls := "LimbMaker", name := "in", desc := "(III)Z" } : Jvm.MethodName)) ∈ lw_all := lw_g (lw_at lw_m1 171 rfl) rfl
theorem q206 : (Jvm.Cond.code ({ cls := "LimbMaker", name := "in", desc := "(III)Z" } : Jvm.MethodName) prog_1_method_1_code (3 : Nat) (Option.some Jvm.ClassFile.FieldType.boolean)) ∈ lw_all := lw_g (lw_at lw_m1 172 rfl) rfl
theorem q208 : (Jvm.Cond.instanceMethod ({ cls := "LimbMaker", name := "lay", desc := "(IIII)I" } : Jvm.MethodName)) ∈ lw_all := lw_g (lw_at lw_m1 174 rfl) rfl
theorem q209 : (Jvm.Cond.selects "LimbMaker" ({ cls := "LimbMaker", name := "lay", desc := "(IIII)I" } : Jvm.MethodName) ({ cls := "LimbMaker", name := "lay", desc := "(IIII)I" } : Jvm.MethodName)) ∈ lw_all := lw_g (lw_at lw_m1 175 rfl) rfl
theorem q210 : (Jvm.Cond.code ({ cls := "LimbMaker", name := "lay", desc := "(IIII)I" } : Jvm.MethodName) prog_1_method_10_code (7 : Nat) (Option.some Jvm.ClassFile.FieldType.int)) ∈ lw_all := lw_g (lw_at lw_m1 176 rfl) rfl
theorem q211 : (Jvm.Cond.methodLink "LimbMaker" (80 : Nat) ({ cls := "LimbMaker", name := "need", desc := "(I)I" } : Jvm.MethodName)) ∈ lw_all := lw_g (lw_at lw_m1 177 rfl) rfl
theorem q212 : (Jvm.Cond.privateMethod ({ cls := "LimbMaker", name := "need", desc := "(I)I" } : Jvm.MethodName)) ∈ lw_tbl := lw_at lw_m1 178 rfl
theorem q213 : (Jvm.Cond.instanceMethod ({ cls := "LimbMaker", name := "need", desc := "(I)I" } : Jvm.MethodName)) ∈ lw_all := lw_g (lw_at lw_m1 179 rfl) rfl
theorem q214 : (Jvm.Cond.code ({ cls := "LimbMaker", name := "need", desc := "(I)I" } : Jvm.MethodName) prog_1_method_8_code (2 : Nat) (Option.some Jvm.ClassFile.FieldType.int)) ∈ lw_all := lw_g (lw_at lw_m1 180 rfl) rfl
theorem q215 : (Jvm.Cond.methodLink "LimbMaker" (76 : Nat) ({ cls := "LimbMaker", name := "found", desc := "(I)I" } : Jvm.MethodName)) ∈ lw_all := lw_g (lw_at lw_m1 181 rfl) rfl
theorem q216 : (Jvm.Cond.privateMethod ({ cls := "LimbMaker", name := "found", desc := "(I)I" } : Jvm.MethodName)) ∈ lw_tbl := lw_at lw_m1 182 rfl
theorem q217 : (Jvm.Cond.instanceMethod ({ cls := "LimbMaker", name := "found", desc := "(I)I" } : Jvm.MethodName)) ∈ lw_all := lw_g (lw_at lw_m1 183 rfl) rfl
theorem q218 : (Jvm.Cond.code ({ cls := "LimbMaker", name := "found", desc := "(I)I" } : Jvm.MethodName) prog_1_method_2_code (2 : Nat) (Option.some Jvm.ClassFile.FieldType.int)) ∈ lw_all := lw_g (lw_at lw_m1 184 rfl) rfl
theorem q219 : (Jvm.Cond.methodLink "LimbMaker" (83 : Nat) ({ cls := "LimbMaker", name := "isPlace", desc := "(II)Z" } : Jvm.MethodName)) ∈ lw_all := lw_g (lw_at lw_m1 185 rfl) rfl
theorem q220 : (Jvm.Cond.static ({ cls := "LimbMaker", name := "isPlace", desc := "(II)Z" } : Jvm.MethodName)) ∈ lw_all := lw_g (lw_at lw_m1 186 rfl) rfl
theorem q221 : (Jvm.Cond.code ({ cls := "LimbMaker", name := "isPlace", desc := "(II)Z" } : Jvm.MethodName) prog_1_method_7_code (2 : Nat) (Option.some Jvm.ClassFile.FieldType.boolean)) ∈ lw_all := lw_g (lw_at lw_m1 187 rfl) rfl
theorem q223 : (Jvm.Cond.instanceMethod ({ cls := "LimbMaker", name := "at", desc := "(IIIZZ)I" } : Jvm.MethodName)) ∈ lw_all := lw_g (lw_at lw_m1 189 rfl) rfl
theorem q224 : (Jvm.Cond.selects "LimbMaker" ({ cls := "LimbMaker", name := "at", desc := "(IIIZZ)I" } : Jvm.MethodName) ({ cls := "LimbMaker", name := "at", desc := "(IIIZZ)I" } : Jvm.MethodName)) ∈ lw_all := lw_g (lw_at lw_m1 190 rfl) rfl
theorem q225 : (Jvm.Cond.code ({ cls := "LimbMaker", name := "at", desc := "(IIIZZ)I" } : Jvm.MethodName) prog_1_method_14_code (8 : Nat) (Option.some Jvm.ClassFile.FieldType.int)) ∈ lw_all := lw_g (lw_at lw_m1 191 rfl) rfl
theorem q226 : (Jvm.Cond.methodLink "LimbMaker" (107 : Nat) ({ cls := "LimbMaker", name := "shaped", desc := "([III)I" } : Jvm.MethodName)) ∈ lw_all := lw_g (lw_at lw_m1 192 rfl) rfl
theorem q227 : (Jvm.Cond.privateMethod ({ cls := "LimbMaker", name := "shaped", desc := "([III)I" } : Jvm.MethodName)) ∈ lw_tbl := lw_at lw_m1 193 rfl
theorem q228 : (Jvm.Cond.instanceMethod ({ cls := "LimbMaker", name := "shaped", desc := "([III)I" } : Jvm.MethodName)) ∈ lw_all := lw_g (lw_at lw_m1 194 rfl) rfl
theorem q229 : (Jvm.Cond.code ({ cls := "LimbMaker", name := "shaped", desc := "([III)I" } : Jvm.MethodName) prog_1_method_13_code (7 : Nat) (Option.some Jvm.ClassFile.FieldType.int)) ∈ lw_all := lw_g (lw_at lw_m1 195 rfl) rfl
theorem q230 : (Jvm.Cond.methodLink "LimbMaker" (97 : Nat) ({ cls := "LimbMaker", name := "filled", desc := "([III)I" } : Jvm.MethodName)) ∈ lw_all := lw_g (lw_at lw_m1 196 rfl) rfl
theorem q231 : (Jvm.Cond.static ({ cls := "LimbMaker", name := "filled", desc := "([III)I" } : Jvm.MethodName)) ∈ lw_all := lw_g (lw_at lw_m1 197 rfl) rfl
theorem q232 : (Jvm.Cond.code ({ cls := "LimbMaker", name := "filled", desc := "([III)I" } : Jvm.MethodName) prog_1_method_12_code (7 : Nat) (Option.some Jvm.ClassFile.FieldType.int)) ∈ lw_all := lw_g (lw_at lw_m1 198 rfl) rfl
theorem q233 : (Jvm.Cond.methodLink "LimbMaker" (93 : Nat) ({ cls := "LimbMaker", name := "stepsTo", desc := "([IIII)I" } : Jvm.MethodName)) ∈ lw_all := lw_g (lw_at lw_m1 199 rfl) rfl
theorem q234 : (Jvm.Cond.static ({ cls := "LimbMaker", name := "stepsTo", desc := "([IIII)I" } : Jvm.MethodName)) ∈ lw_all := lw_g (lw_at lw_m1 200 rfl) rfl
theorem q235 : (Jvm.Cond.code ({ cls := "LimbMaker", name := "stepsTo", desc := "([IIII)I" } : Jvm.MethodName) prog_1_method_11_code (5 : Nat) (Option.some Jvm.ClassFile.FieldType.int)) ∈ lw_all := lw_g (lw_at lw_m1 201 rfl) rfl
theorem q236 : (Jvm.Cond.methodLink "LimbMaker" (87 : Nat) ({ cls := "java/lang/Math", name := "floorMod", desc := "(II)I" } : Jvm.MethodName)) ∈ lw_all := lw_g (lw_at lw_m1 202 rfl) rfl
theorem q239 : (Jvm.Cond.methodLink "LimbMaker" (104 : Nat) ({ cls := "java/lang/Math", name := "max", desc := "(II)I" } : Jvm.MethodName)) ∈ lw_all := lw_g (lw_at lw_m1 205 rfl) rfl
theorem q243 : (Jvm.Cond.instanceMethod ({ cls := "LimbMaker", name := "tear", desc := "(I)I" } : Jvm.MethodName)) ∈ lw_all := lw_g (lw_at lw_m1 209 rfl) rfl
theorem q244 : (Jvm.Cond.selects "LimbMaker" ({ cls := "LimbMaker", name := "tear", desc := "(I)I" } : Jvm.MethodName) ({ cls := "LimbMaker", name := "tear", desc := "(I)I" } : Jvm.MethodName)) ∈ lw_all := lw_g (lw_at lw_m1 210 rfl) rfl
theorem q245 : (Jvm.Cond.code ({ cls := "LimbMaker", name := "tear", desc := "(I)I" } : Jvm.MethodName) prog_1_method_15_code (3 : Nat) (Option.some Jvm.ClassFile.FieldType.int)) ∈ lw_all := lw_g (lw_at lw_m1 211 rfl) rfl
theorem q247 : (Jvm.Cond.instanceMethod ({ cls := "LimbMaker", name := "copy", desc := "(IIIII)I" } : Jvm.MethodName)) ∈ lw_all := lw_g (lw_at lw_m1 213 rfl) rfl
theorem q248 : (Jvm.Cond.selects "LimbMaker" ({ cls := "LimbMaker", name := "copy", desc := "(IIIII)I" } : Jvm.MethodName) ({ cls := "LimbMaker", name := "copy", desc := "(IIIII)I" } : Jvm.MethodName)) ∈ lw_all := lw_g (lw_at lw_m1 214 rfl) rfl
theorem q249 : (Jvm.Cond.codeWith ({ cls := "LimbMaker", name := "copy", desc := "(IIIII)I" } : Jvm.MethodName) prog_1_method_16_code (7 : Nat) (Option.some Jvm.ClassFile.FieldType.int) [((27 : Nat), (48 : Nat), (49 : Nat), (116 : Nat)), ((27 : Nat), (48 : Nat), (57 : Nat), (118 : Nat))]) ∈ lw_all := lw_g (lw_at lw_m1 215 rfl) rfl
theorem q250 : (Jvm.Cond.classLink "LimbMaker" (116 : Nat) "java/lang/NullPointerException") ∈ lw_all := lw_g (lw_at lw_m1 216 rfl) rfl
theorem q332 : (Jvm.Cond.classLink "LimbMaker" (118 : Nat) "java/lang/IndexOutOfBoundsException") ∈ lw_all := lw_g (lw_at lw_m2 58 rfl) rfl
theorem q365 : (Jvm.Cond.methodLink "LimbMaker" (110 : Nat) ({ cls := "java/lang/System", name := "arraycopy", desc := "(Ljava/lang/Object;ILjava/lang/Object;II)V" } : Jvm.MethodName)) ∈ lw_all := lw_g (lw_at lw_m2 91 rfl) rfl
theorem q369 : (Jvm.Cond.instanceMethod ({ cls := "LimbMaker", name := "ring", desc := "(II)I" } : Jvm.MethodName)) ∈ lw_all := lw_g (lw_at lw_m2 95 rfl) rfl
theorem q370 : (Jvm.Cond.selects "LimbMaker" ({ cls := "LimbMaker", name := "ring", desc := "(II)I" } : Jvm.MethodName) ({ cls := "LimbMaker", name := "ring", desc := "(II)I" } : Jvm.MethodName)) ∈ lw_all := lw_g (lw_at lw_m2 96 rfl) rfl
theorem q371 : (Jvm.Cond.code ({ cls := "LimbMaker", name := "ring", desc := "(II)I" } : Jvm.MethodName) prog_1_method_18_code (4 : Nat) (Option.some Jvm.ClassFile.FieldType.int)) ∈ lw_all := lw_g (lw_at lw_m2 97 rfl) rfl
theorem q372 : (Jvm.Cond.methodLink "LimbMaker" (120 : Nat) ({ cls := "LimbMaker", name := "ringRoom", desc := "([II)I" } : Jvm.MethodName)) ∈ lw_all := lw_g (lw_at lw_m2 98 rfl) rfl
theorem q373 : (Jvm.Cond.static ({ cls := "LimbMaker", name := "ringRoom", desc := "([II)I" } : Jvm.MethodName)) ∈ lw_all := lw_g (lw_at lw_m2 99 rfl) rfl
theorem q374 : (Jvm.Cond.code ({ cls := "LimbMaker", name := "ringRoom", desc := "([II)I" } : Jvm.MethodName) prog_1_method_17_code (4 : Nat) (Option.some Jvm.ClassFile.FieldType.int)) ∈ lw_all := lw_g (lw_at lw_m2 100 rfl) rfl
theorem q376 : (Jvm.Cond.instanceMethod ({ cls := "LimbMaker", name := "room", desc := "(IZ)I" } : Jvm.MethodName)) ∈ lw_all := lw_g (lw_at lw_m2 102 rfl) rfl
theorem q377 : (Jvm.Cond.selects "LimbMaker" ({ cls := "LimbMaker", name := "room", desc := "(IZ)I" } : Jvm.MethodName) ({ cls := "LimbMaker", name := "room", desc := "(IZ)I" } : Jvm.MethodName)) ∈ lw_all := lw_g (lw_at lw_m2 103 rfl) rfl
theorem q378 : (Jvm.Cond.code ({ cls := "LimbMaker", name := "room", desc := "(IZ)I" } : Jvm.MethodName) prog_1_method_21_code (4 : Nat) (Option.some Jvm.ClassFile.FieldType.int)) ∈ lw_all := lw_g (lw_at lw_m2 104 rfl) rfl
theorem q379 : (Jvm.Cond.methodLink "LimbMaker" (130 : Nat) ({ cls := "LimbMaker", name := "roomOf", desc := "([IZ)I" } : Jvm.MethodName)) ∈ lw_all := lw_g (lw_at lw_m2 105 rfl) rfl
theorem q380 : (Jvm.Cond.static ({ cls := "LimbMaker", name := "roomOf", desc := "([IZ)I" } : Jvm.MethodName)) ∈ lw_all := lw_g (lw_at lw_m2 106 rfl) rfl
theorem q381 : (Jvm.Cond.code ({ cls := "LimbMaker", name := "roomOf", desc := "([IZ)I" } : Jvm.MethodName) prog_1_method_20_code (9 : Nat) (Option.some Jvm.ClassFile.FieldType.int)) ∈ lw_all := lw_g (lw_at lw_m2 107 rfl) rfl
theorem q382 : (Jvm.Cond.methodLink "LimbMaker" (124 : Nat) ({ cls := "LimbMaker", name := "nearestRoom", desc := "([III)I" } : Jvm.MethodName)) ∈ lw_all := lw_g (lw_at lw_m2 108 rfl) rfl
theorem q383 : (Jvm.Cond.static ({ cls := "LimbMaker", name := "nearestRoom", desc := "([III)I" } : Jvm.MethodName)) ∈ lw_all := lw_g (lw_at lw_m2 109 rfl) rfl
theorem q384 : (Jvm.Cond.code ({ cls := "LimbMaker", name := "nearestRoom", desc := "([III)I" } : Jvm.MethodName) prog_1_method_19_code (5 : Nat) (Option.some Jvm.ClassFile.FieldType.int)) ∈ lw_all := lw_g (lw_at lw_m2 110 rfl) rfl
theorem q385 : (Jvm.Cond.methodLink "LimbMaker" (127 : Nat) ({ cls := "java/lang/Math", name := "min", desc := "(II)I" } : Jvm.MethodName)) ∈ lw_all := lw_g (lw_at lw_m2 111 rfl) rfl
theorem q389 : (Jvm.Cond.instanceMethod ({ cls := "LimbMaker", name := "mean", desc := "(I)I" } : Jvm.MethodName)) ∈ lw_all := lw_g (lw_at lw_m2 115 rfl) rfl
theorem q390 : (Jvm.Cond.selects "LimbMaker" ({ cls := "LimbMaker", name := "mean", desc := "(I)I" } : Jvm.MethodName) ({ cls := "LimbMaker", name := "mean", desc := "(I)I" } : Jvm.MethodName)) ∈ lw_all := lw_g (lw_at lw_m2 116 rfl) rfl
theorem q391 : (Jvm.Cond.codeWith ({ cls := "LimbMaker", name := "mean", desc := "(I)I" } : Jvm.MethodName) prog_1_method_22_code (7 : Nat) (Option.some Jvm.ClassFile.FieldType.int) [((90 : Nat), (94 : Nat), (95 : Nat), (134 : Nat))]) ∈ lw_all := lw_g (lw_at lw_m2 117 rfl) rfl
theorem q392 : (Jvm.Cond.classLink "LimbMaker" (134 : Nat) "java/lang/ArithmeticException") ∈ lw_all := lw_g (lw_at lw_m2 118 rfl) rfl
theorem q407 : (Jvm.Cond.instanceMethod ({ cls := "LimbMaker", name := "rule", desc := "(IIII)I" } : Jvm.MethodName)) ∈ lw_all := lw_g (lw_at lw_m2 133 rfl) rfl
theorem q408 : (Jvm.Cond.selects "LimbMaker" ({ cls := "LimbMaker", name := "rule", desc := "(IIII)I" } : Jvm.MethodName) ({ cls := "LimbMaker", name := "rule", desc := "(IIII)I" } : Jvm.MethodName)) ∈ lw_all := lw_g (lw_at lw_m2 134 rfl) rfl
theorem q409 : (Jvm.Cond.code ({ cls := "LimbMaker", name := "rule", desc := "(IIII)I" } : Jvm.MethodName) prog_1_method_23_code (5 : Nat) (Option.some Jvm.ClassFile.FieldType.int)) ∈ lw_all := lw_g (lw_at lw_m2 135 rfl) rfl
theorem q411 : (Jvm.Cond.instanceMethod ({ cls := "LimbMaker", name := "ply", desc := "(I)I" } : Jvm.MethodName)) ∈ lw_all := lw_g (lw_at lw_m2 137 rfl) rfl
theorem q412 : (Jvm.Cond.selects "LimbMaker" ({ cls := "LimbMaker", name := "ply", desc := "(I)I" } : Jvm.MethodName) ({ cls := "LimbMaker", name := "ply", desc := "(I)I" } : Jvm.MethodName)) ∈ lw_all := lw_g (lw_at lw_m2 138 rfl) rfl
theorem q413 : (Jvm.Cond.code ({ cls := "LimbMaker", name := "ply", desc := "(I)I" } : Jvm.MethodName) prog_1_method_24_code (2 : Nat) (Option.some Jvm.ClassFile.FieldType.int)) ∈ lw_all := lw_g (lw_at lw_m2 139 rfl) rfl
theorem q415 : (Jvm.Cond.instanceMethod ({ cls := "LimbMaker", name := "plies", desc := "(II)I" } : Jvm.MethodName)) ∈ lw_all := lw_g (lw_at lw_m2 141 rfl) rfl
theorem q416 : (Jvm.Cond.selects "LimbMaker" ({ cls := "LimbMaker", name := "plies", desc := "(II)I" } : Jvm.MethodName) ({ cls := "LimbMaker", name := "plies", desc := "(II)I" } : Jvm.MethodName)) ∈ lw_all := lw_g (lw_at lw_m2 142 rfl) rfl
theorem q417 : (Jvm.Cond.codeWith ({ cls := "LimbMaker", name := "plies", desc := "(II)I" } : Jvm.MethodName) prog_1_method_25_code (9 : Nat) (Option.some Jvm.ClassFile.FieldType.int) [((63 : Nat), (124 : Nat), (125 : Nat), (134 : Nat))]) ∈ lw_all := lw_g (lw_at lw_m2 143 rfl) rfl
theorem q418 : (Jvm.Cond.constantLong "LimbMaker" (139 : Nat) (1000 : Int64)) ∈ lw_all := lw_g (lw_at lw_m2 144 rfl) rfl
theorem q420 : (Jvm.Cond.instanceMethod ({ cls := "LimbMaker", name := "part", desc := "(IIIIIII)I" } : Jvm.MethodName)) ∈ lw_all := lw_g (lw_at lw_m2 146 rfl) rfl
theorem q421 : (Jvm.Cond.selects "LimbMaker" ({ cls := "LimbMaker", name := "part", desc := "(IIIIIII)I" } : Jvm.MethodName) ({ cls := "LimbMaker", name := "part", desc := "(IIIIIII)I" } : Jvm.MethodName)) ∈ lw_all := lw_g (lw_at lw_m2 147 rfl) rfl
theorem q422 : (Jvm.Cond.code ({ cls := "LimbMaker", name := "part", desc := "(IIIIIII)I" } : Jvm.MethodName) prog_1_method_28_code (9 : Nat) (Option.some Jvm.ClassFile.FieldType.int)) ∈ lw_all := lw_g (lw_at lw_m2 148 rfl) rfl
theorem q423 : (Jvm.Cond.methodLink "LimbMaker" (144 : Nat) ({ cls := "LimbMaker", name := "isEnd", desc := "(I)Z" } : Jvm.MethodName)) ∈ lw_all := lw_g (lw_at lw_m2 149 rfl) rfl
theorem q424 : (Jvm.Cond.static ({ cls := "LimbMaker", name := "isEnd", desc := "(I)Z" } : Jvm.MethodName)) ∈ lw_all := lw_g (lw_at lw_m2 150 rfl) rfl
theorem q425 : (Jvm.Cond.code ({ cls := "LimbMaker", name := "isEnd", desc := "(I)Z" } : Jvm.MethodName) prog_1_method_27_code (1 : Nat) (Option.some Jvm.ClassFile.FieldType.boolean)) ∈ lw_all := lw_g (lw_at lw_m2 151 rfl) rfl
theorem q426 : (Jvm.Cond.classLink "LimbMaker" (147 : Nat) "LimbMaker$Cup") ∈ lw_all := lw_g (lw_at lw_m2 152 rfl) rfl
theorem q428 : (Jvm.Cond.methodLink "LimbMaker" (149 : Nat) ({ cls := "LimbMaker$Cup", name := "<init>", desc := "(LLimbMaker;IIIIII)V" } : Jvm.MethodName)) ∈ lw_all := lw_g (lw_at lw_m2 154 rfl) rfl
theorem q444 : (Jvm.Cond.fieldLink "LimbMaker" (168 : Nat) "LimbMaker$Part" "height" "I") ∈ lw_all := lw_g (lw_at lw_m2 170 rfl) rfl
theorem q446 : (Jvm.Cond.fieldLink "LimbMaker" (171 : Nat) "LimbMaker$Part" "bears" "I") ∈ lw_all := lw_g (lw_at lw_m2 172 rfl) rfl
theorem q450 : (Jvm.Cond.fieldLink "LimbMaker" (174 : Nat) "LimbMaker$Part" "price" "I") ∈ lw_all := lw_g (lw_at lw_m2 176 rfl) rfl
theorem q455 : (Jvm.Cond.fieldLink "LimbMaker" (177 : Nat) "LimbMaker$Part" "upper" "I") ∈ lw_all := lw_g (lw_at lw_m2 181 rfl) rfl
theorem q460 : (Jvm.Cond.fieldLink "LimbMaker" (180 : Nat) "LimbMaker$Part" "lower" "I") ∈ lw_all := lw_g (lw_at lw_m2 186 rfl) rfl
theorem q463 : (Jvm.Cond.fieldLink "LimbMaker" (183 : Nat) "LimbMaker$Part" "isRecalled" "Z") ∈ lw_all := lw_g (lw_at lw_m2 189 rfl) rfl
theorem q484 : (Jvm.Cond.classLink "LimbMaker" (152 : Nat) "LimbMaker$Knee") ∈ lw_all := lw_g (lw_at lw_m2 210 rfl) rfl
theorem q486 : (Jvm.Cond.methodLink "LimbMaker" (154 : Nat) ({ cls := "LimbMaker$Knee", name := "<init>", desc := "(LLimbMaker;IIIIII)V" } : Jvm.MethodName)) ∈ lw_all := lw_g (lw_at lw_m2 212 rfl) rfl
theorem q502 : (Jvm.Cond.classLink "LimbMaker" (155 : Nat) "LimbMaker$Foot") ∈ lw_all := lw_g (lw_at lw_m2 228 rfl) rfl
theorem q504 : (Jvm.Cond.methodLink "LimbMaker" (157 : Nat) ({ cls := "LimbMaker$Foot", name := "<init>", desc := "(LLimbMaker;IIIIII)V" } : Jvm.MethodName)) ∈ lw_all := lw_g (lw_at lw_m2 230 rfl) rfl
theorem q520 : (Jvm.Cond.classLink "LimbMaker" (158 : Nat) "LimbMaker$Tube") ∈ lw_all := lw_g (lw_at lw_m3 6 rfl) rfl
theorem q522 : (Jvm.Cond.methodLink "LimbMaker" (160 : Nat) ({ cls := "LimbMaker$Tube", name := "<init>", desc := "(LLimbMaker;IIIIIII)V" } : Jvm.MethodName)) ∈ lw_all := lw_g (lw_at lw_m3 8 rfl) rfl
theorem q542 : (Jvm.Cond.methodLink "LimbMaker" (163 : Nat) ({ cls := "LimbMaker$Part", name := "<init>", desc := "(LLimbMaker;IIIIII)V" } : Jvm.MethodName)) ∈ lw_all := lw_g (lw_at lw_m3 28 rfl) rfl
theorem q553 : (Jvm.Cond.instanceMethod ({ cls := "LimbMaker", name := "told", desc := "(II)I" } : Jvm.MethodName)) ∈ lw_all := lw_g (lw_at lw_m3 39 rfl) rfl
theorem q554 : (Jvm.Cond.selects "LimbMaker" ({ cls := "LimbMaker", name := "told", desc := "(II)I" } : Jvm.MethodName) ({ cls := "LimbMaker", name := "told", desc := "(II)I" } : Jvm.MethodName)) ∈ lw_all := lw_g (lw_at lw_m3 40 rfl) rfl
theorem q555 : (Jvm.Cond.code ({ cls := "LimbMaker", name := "told", desc := "(II)I" } : Jvm.MethodName) prog_1_method_30_code (3 : Nat) (Option.some Jvm.ClassFile.FieldType.int)) ∈ lw_all := lw_g (lw_at lw_m3 41 rfl) rfl
theorem q556 : (Jvm.Cond.methodLink "LimbMaker" (187 : Nat) ({ cls := "LimbMaker", name := "isPart", desc := "(I)Z" } : Jvm.MethodName)) ∈ lw_all := lw_g (lw_at lw_m3 42 rfl) rfl
theorem q557 : (Jvm.Cond.privateMethod ({ cls := "LimbMaker", name := "isPart", desc := "(I)Z" } : Jvm.MethodName)) ∈ lw_tbl := lw_at lw_m3 43 rfl
theorem q558 : (Jvm.Cond.instanceMethod ({ cls := "LimbMaker", name := "isPart", desc := "(I)Z" } : Jvm.MethodName)) ∈ lw_all := lw_g (lw_at lw_m3 44 rfl) rfl
theorem q559 : (Jvm.Cond.code ({ cls := "LimbMaker", name := "isPart", desc := "(I)Z" } : Jvm.MethodName) prog_1_method_26_code (2 : Nat) (Option.some Jvm.ClassFile.FieldType.boolean)) ∈ lw_all := lw_g (lw_at lw_m3 45 rfl) rfl
theorem q560 : (Jvm.Cond.methodLink "LimbMaker" (190 : Nat) ({ cls := "LimbMaker", name := "toldOf", desc := "(LLimbMaker$Part;I)I" } : Jvm.MethodName)) ∈ lw_all := lw_g (lw_at lw_m3 46 rfl) rfl
theorem q561 : (Jvm.Cond.static ({ cls := "LimbMaker", name := "toldOf", desc := "(LLimbMaker$Part;I)I" } : Jvm.MethodName)) ∈ lw_all := lw_g (lw_at lw_m3 47 rfl) rfl
theorem q562 : (Jvm.Cond.code ({ cls := "LimbMaker", name := "toldOf", desc := "(LLimbMaker$Part;I)I" } : Jvm.MethodName) prog_1_method_29_code (2 : Nat) (Option.some Jvm.ClassFile.FieldType.int)) ∈ lw_all := lw_g (lw_at lw_m3 48 rfl) rfl
theorem q563 : (Jvm.Cond.methodLink "LimbMaker" (164 : Nat) ({ cls := "LimbMaker$Part", name := "kind", desc := "()I" } : Jvm.MethodName)) ∈ lw_all := lw_g (lw_at lw_m3 49 rfl) rfl
theorem q582 : (Jvm.Cond.instanceMethod ({ cls := "LimbMaker", name := "mark", desc := "(II)I" } : Jvm.MethodName)) ∈ lw_all := lw_g (lw_at lw_m3 68 rfl) rfl
theorem q583 : (Jvm.Cond.selects "LimbMaker" ({ cls := "LimbMaker", name := "mark", desc := "(II)I" } : Jvm.MethodName) ({ cls := "LimbMaker", name := "mark", desc := "(II)I" } : Jvm.MethodName)) ∈ lw_all := lw_g (lw_at lw_m3 69 rfl) rfl
theorem q584 : (Jvm.Cond.codeWith ({ cls := "LimbMaker", name := "mark", desc := "(II)I" } : Jvm.MethodName) prog_1_method_31_code (8 : Nat) (Option.some Jvm.ClassFile.FieldType.int) [((26 : Nat), (63 : Nat), (100 : Nat), (200 : Nat)), ((64 : Nat), (75 : Nat), (100 : Nat), (200 : Nat)), ((76 : Nat), (87 : Nat), (100 : Nat), (200 : Nat)), ((88 : Nat), (99 : Nat), (100 : Nat), (200 : Nat))]) ∈ lw_all := lw_g (lw_at lw_m3 70 rfl) rfl
theorem q585 : (Jvm.Cond.classLink "LimbMaker" (200 : Nat) "java/lang/ClassCastException") ∈ lw_all := lw_g (lw_at lw_m3 71 rfl) rfl
theorem q599 : (Jvm.Cond.methodLink "LimbMaker" (194 : Nat) ({ cls := "LimbMaker$Cup", name := "mark", desc := "()I" } : Jvm.MethodName)) ∈ lw_all := lw_g (lw_at lw_m3 85 rfl) rfl
theorem q603 : (Jvm.Cond.methodLink "LimbMaker" (197 : Nat) ({ cls := "LimbMaker$Knee", name := "mark", desc := "()I" } : Jvm.MethodName)) ∈ lw_all := lw_g (lw_at lw_m3 89 rfl) rfl
theorem q607 : (Jvm.Cond.methodLink "LimbMaker" (198 : Nat) ({ cls := "LimbMaker$Foot", name := "mark", desc := "()I" } : Jvm.MethodName)) ∈ lw_all := lw_g (lw_at lw_m3 93 rfl) rfl
theorem q611 : (Jvm.Cond.methodLink "LimbMaker" (199 : Nat) ({ cls := "LimbMaker$Tube", name := "mark", desc := "()I" } : Jvm.MethodName)) ∈ lw_all := lw_g (lw_at lw_m3 97 rfl) rfl
theorem q620 : (Jvm.Cond.instanceMethod ({ cls := "LimbMaker", name := "recall", desc := "(IZ)I" } : Jvm.MethodName)) ∈ lw_all := lw_g (lw_at lw_m3 106 rfl) rfl
theorem q621 : (Jvm.Cond.selects "LimbMaker" ({ cls := "LimbMaker", name := "recall", desc := "(IZ)I" } : Jvm.MethodName) ({ cls := "LimbMaker", name := "recall", desc := "(IZ)I" } : Jvm.MethodName)) ∈ lw_all := lw_g (lw_at lw_m3 107 rfl) rfl
theorem q622 : (Jvm.Cond.code ({ cls := "LimbMaker", name := "recall", desc := "(IZ)I" } : Jvm.MethodName) prog_1_method_32_code (4 : Nat) (Option.some Jvm.ClassFile.FieldType.int)) ∈ lw_all := lw_g (lw_at lw_m3 108 rfl) rfl
theorem q624 : (Jvm.Cond.instanceMethod ({ cls := "LimbMaker", name := "unfit", desc := "(II)I" } : Jvm.MethodName)) ∈ lw_all := lw_g (lw_at lw_m3 110 rfl) rfl
theorem q625 : (Jvm.Cond.selects "LimbMaker" ({ cls := "LimbMaker", name := "unfit", desc := "(II)I" } : Jvm.MethodName) ({ cls := "LimbMaker", name := "unfit", desc := "(II)I" } : Jvm.MethodName)) ∈ lw_all := lw_g (lw_at lw_m3 111 rfl) rfl
theorem q626 : (Jvm.Cond.code ({ cls := "LimbMaker", name := "unfit", desc := "(II)I" } : Jvm.MethodName) prog_1_method_33_code (6 : Nat) (Option.some Jvm.ClassFile.FieldType.int)) ∈ lw_all := lw_g (lw_at lw_m3 112 rfl) rfl
theorem q628 : (Jvm.Cond.instanceMethod ({ cls := "LimbMaker", name := "leg", desc := "(III)I" } : Jvm.MethodName)) ∈ lw_all := lw_g (lw_at lw_m3 114 rfl) rfl
theorem q629 : (Jvm.Cond.selects "LimbMaker" ({ cls := "LimbMaker", name := "leg", desc := "(III)I" } : Jvm.MethodName) ({ cls := "LimbMaker", name := "leg", desc := "(III)I" } : Jvm.MethodName)) ∈ lw_all := lw_g (lw_at lw_m3 115 rfl) rfl
theorem q630 : (Jvm.Cond.code ({ cls := "LimbMaker", name := "leg", desc := "(III)I" } : Jvm.MethodName) prog_1_method_38_code (4 : Nat) (Option.some Jvm.ClassFile.FieldType.int)) ∈ lw_all := lw_g (lw_at lw_m3 116 rfl) rfl
theorem q631 : (Jvm.Cond.methodLink "LimbMaker" (245 : Nat) ({ cls := "LimbMaker", name := "goesOn", desc := "(IZIII)V" } : Jvm.MethodName)) ∈ lw_all := lw_g (lw_at lw_m3 117 rfl) rfl
theorem q632 : (Jvm.Cond.privateMethod ({ cls := "LimbMaker", name := "goesOn", desc := "(IZIII)V" } : Jvm.MethodName)) ∈ lw_tbl := lw_at lw_m3 118 rfl
theorem q633 : (Jvm.Cond.instanceMethod ({ cls := "LimbMaker", name := "goesOn", desc := "(IZIII)V" } : Jvm.MethodName)) ∈ lw_all := lw_g (lw_at lw_m3 119 rfl) rfl
theorem q634 : (Jvm.Cond.code ({ cls := "LimbMaker", name := "goesOn", desc := "(IZIII)V" } : Jvm.MethodName) prog_1_method_36_code (7 : Nat) (Option.none : Option Jvm.ClassFile.FieldType)) ∈ lw_all := lw_g (lw_at lw_m3 120 rfl) rfl
theorem q635 : (Jvm.Cond.methodLink "LimbMaker" (228 : Nat) ({ cls := "LimbMaker", name := "mayCome", desc := "(IIZII)Z" } : Jvm.MethodName)) ∈ lw_all := lw_g (lw_at lw_m3 121 rfl) rfl
theorem q636 : (Jvm.Cond.privateMethod ({ cls := "LimbMaker", name := "mayCome", desc := "(IIZII)Z" } : Jvm.MethodName)) ∈ lw_tbl := lw_at lw_m3 122 rfl
theorem q637 : (Jvm.Cond.instanceMethod ({ cls := "LimbMaker", name := "mayCome", desc := "(IIZII)Z" } : Jvm.MethodName)) ∈ lw_all := lw_g (lw_at lw_m3 123 rfl) rfl
theorem q638 : (Jvm.Cond.code ({ cls := "LimbMaker", name := "mayCome", desc := "(IIZII)Z" } : Jvm.MethodName) prog_1_method_34_code (9 : Nat) (Option.some Jvm.ClassFile.FieldType.boolean)) ∈ lw_all := lw_g (lw_at lw_m3 124 rfl) rfl
theorem q639 : (Jvm.Cond.interfaceEntry "LimbMaker" (208 : Nat)) ∈ lw_tbl := lw_at lw_m3 125 rfl
theorem q640 : (Jvm.Cond.methodLink "LimbMaker" (208 : Nat) ({ cls := "LimbMaker$Stands", name := "cut", desc := "()I" } : Jvm.MethodName)) ∈ lw_all := lw_g (lw_at lw_m3 126 rfl) rfl
theorem q658 : (Jvm.Cond.methodLink "LimbMaker" (238 : Nat) ({ cls := "LimbMaker", name := "comes", desc := "(IIZIII)V" } : Jvm.MethodName)) ∈ lw_all := lw_g (lw_at lw_m3 144 rfl) rfl
theorem q659 : (Jvm.Cond.privateMethod ({ cls := "LimbMaker", name := "comes", desc := "(IIZIII)V" } : Jvm.MethodName)) ∈ lw_tbl := lw_at lw_m3 145 rfl
theorem q660 : (Jvm.Cond.instanceMethod ({ cls := "LimbMaker", name := "comes", desc := "(IIZIII)V" } : Jvm.MethodName)) ∈ lw_all := lw_g (lw_at lw_m3 146 rfl) rfl
theorem q661 : (Jvm.Cond.code ({ cls := "LimbMaker", name := "comes", desc := "(IIZIII)V" } : Jvm.MethodName) prog_1_method_37_code (9 : Nat) (Option.none : Option Jvm.ClassFile.FieldType)) ∈ lw_all := lw_g (lw_at lw_m3 147 rfl) rfl
theorem q662 : (Jvm.Cond.methodLink "LimbMaker" (242 : Nat) ({ cls := "LimbMaker", name := "ends", desc := "(III)V" } : Jvm.MethodName)) ∈ lw_all := lw_g (lw_at lw_m3 148 rfl) rfl
theorem q663 : (Jvm.Cond.privateMethod ({ cls := "LimbMaker", name := "ends", desc := "(III)V" } : Jvm.MethodName)) ∈ lw_tbl := lw_at lw_m3 149 rfl
theorem q664 : (Jvm.Cond.instanceMethod ({ cls := "LimbMaker", name := "ends", desc := "(III)V" } : Jvm.MethodName)) ∈ lw_all := lw_g (lw_at lw_m3 150 rfl) rfl
theorem q665 : (Jvm.Cond.code ({ cls := "LimbMaker", name := "ends", desc := "(III)V" } : Jvm.MethodName) prog_1_method_35_code (5 : Nat) (Option.none : Option Jvm.ClassFile.FieldType)) ∈ lw_all := lw_g (lw_at lw_m3 151 rfl) rfl
theorem q667 : (Jvm.Cond.instanceMethod ({ cls := "LimbMaker", name := "legAt", desc := "(I)I" } : Jvm.MethodName)) ∈ lw_all := lw_g (lw_at lw_m3 153 rfl) rfl
theorem q668 : (Jvm.Cond.selects "LimbMaker" ({ cls := "LimbMaker", name := "legAt", desc := "(I)I" } : Jvm.MethodName) ({ cls := "LimbMaker", name := "legAt", desc := "(I)I" } : Jvm.MethodName)) ∈ lw_all := lw_g (lw_at lw_m3 154 rfl) rfl
theorem q669 : (Jvm.Cond.code ({ cls := "LimbMaker", name := "legAt", desc := "(I)I" } : Jvm.MethodName) prog_1_method_39_code (2 : Nat) (Option.some Jvm.ClassFile.FieldType.int)) ∈ lw_all := lw_g (lw_at lw_m3 155 rfl) rfl
theorem q671 : (Jvm.Cond.instanceMethod ({ cls := "LimbMaker", name := "cuts", desc := "()I" } : Jvm.MethodName)) ∈ lw_all := lw_g (lw_at lw_m3 157 rfl) rfl
theorem q672 : (Jvm.Cond.selects "LimbMaker" ({ cls := "LimbMaker", name := "cuts", desc := "()I" } : Jvm.MethodName) ({ cls := "LimbMaker", name := "cuts", desc := "()I" } : Jvm.MethodName)) ∈ lw_all := lw_g (lw_at lw_m3 158 rfl) rfl
theorem q673 : (Jvm.Cond.code ({ cls := "LimbMaker", name := "cuts", desc := "()I" } : Jvm.MethodName) prog_1_method_40_code (1 : Nat) (Option.some Jvm.ClassFile.FieldType.int)) ∈ lw_all := lw_g (lw_at lw_m3 159 rfl) rfl
theorem q675 : (Jvm.Cond.instanceMethod ({ cls := "LimbMaker", name := "tries", desc := "()I" } : Jvm.MethodName)) ∈ lw_all := lw_g (lw_at lw_m3 161 rfl) rfl
theorem q676 : (Jvm.Cond.selects "LimbMaker" ({ cls := "LimbMaker", name := "tries", desc := "()I" } : Jvm.MethodName) ({ cls := "LimbMaker", name := "tries", desc := "()I" } : Jvm.MethodName)) ∈ lw_all := lw_g (lw_at lw_m3 162 rfl) rfl
theorem q677 : (Jvm.Cond.code ({ cls := "LimbMaker", name := "tries", desc := "()I" } : Jvm.MethodName) prog_1_method_41_code (1 : Nat) (Option.some Jvm.ClassFile.FieldType.int)) ∈ lw_all := lw_g (lw_at lw_m3 163 rfl) rfl
theorem q679 : (Jvm.Cond.instanceMethod ({ cls := "LimbMaker", name := "shift", desc := "(III)I" } : Jvm.MethodName)) ∈ lw_all := lw_g (lw_at lw_m3 165 rfl) rfl
theorem q680 : (Jvm.Cond.selects "LimbMaker" ({ cls := "LimbMaker", name := "shift", desc := "(III)I" } : Jvm.MethodName) ({ cls := "LimbMaker", name := "shift", desc := "(III)I" } : Jvm.MethodName)) ∈ lw_all := lw_g (lw_at lw_m3 166 rfl) rfl
theorem q681 : (Jvm.Cond.code ({ cls := "LimbMaker", name := "shift", desc := "(III)I" } : Jvm.MethodName) prog_1_method_43_code (4 : Nat) (Option.some Jvm.ClassFile.FieldType.int)) ∈ lw_all := lw_g (lw_at lw_m3 167 rfl) rfl
theorem q682 : (Jvm.Cond.classLink "LimbMaker" (259 : Nat) "LimbMaker$Shift") ∈ lw_all := lw_g (lw_at lw_m3 168 rfl) rfl
theorem q684 : (Jvm.Cond.methodLink "LimbMaker" (261 : Nat) ({ cls := "LimbMaker$Shift", name := "<init>", desc := "(III)V" } : Jvm.MethodName)) ∈ lw_all := lw_g (lw_at lw_m3 170 rfl) rfl
theorem q698 : (Jvm.Cond.methodLink "LimbMaker" (263 : Nat) ({ cls := "LimbMaker", name := "add", desc := "(LLimbMaker$Moving;)I" } : Jvm.MethodName)) ∈ lw_all := lw_g (lw_at lw_m3 184 rfl) rfl
theorem q699 : (Jvm.Cond.privateMethod ({ cls := "LimbMaker", name := "add", desc := "(LLimbMaker$Moving;)I" } : Jvm.MethodName)) ∈ lw_tbl := lw_at lw_m3 185 rfl
theorem q700 : (Jvm.Cond.instanceMethod ({ cls := "LimbMaker", name := "add", desc := "(LLimbMaker$Moving;)I" } : Jvm.MethodName)) ∈ lw_all := lw_g (lw_at lw_m3 186 rfl) rfl
theorem q701 : (Jvm.Cond.code ({ cls := "LimbMaker", name := "add", desc := "(LLimbMaker$Moving;)I" } : Jvm.MethodName) prog_1_method_42_code (2 : Nat) (Option.some Jvm.ClassFile.FieldType.int)) ∈ lw_all := lw_g (lw_at lw_m3 187 rfl) rfl
theorem q702 : (Jvm.Cond.methodLink "LimbMaker" (252 : Nat) ({ cls := "java/util/ArrayList", name := "size", desc := "()I" } : Jvm.MethodName)) ∈ lw_all := lw_g (lw_at lw_m3 188 rfl) rfl
theorem q706 : (Jvm.Cond.methodLink "LimbMaker" (255 : Nat) ({ cls := "java/util/ArrayList", name := "add", desc := "(Ljava/lang/Object;)Z" } : Jvm.MethodName)) ∈ lw_all := lw_g (lw_at lw_m3 192 rfl) rfl
theorem q736 : (Jvm.Cond.selects "LimbMaker" ({ cls := "java/lang/Object", name := "getClass", desc := "()Ljava/lang/Class;" } : Jvm.MethodName) ({ cls := "java/lang/Object", name := "getClass", desc := "()Ljava/lang/Class;" } : Jvm.MethodName)) ∈ lw_all := lw_g (lw_at lw_m3 222 rfl) rfl
theorem q762 : (Jvm.Cond.instanceMethod ({ cls := "LimbMaker", name := "turn", desc := "(IZ)I" } : Jvm.MethodName)) ∈ lw_all := lw_g (lw_at lw_m4 8 rfl) rfl
theorem q763 : (Jvm.Cond.selects "LimbMaker" ({ cls := "LimbMaker", name := "turn", desc := "(IZ)I" } : Jvm.MethodName) ({ cls := "LimbMaker", name := "turn", desc := "(IZ)I" } : Jvm.MethodName)) ∈ lw_all := lw_g (lw_at lw_m4 9 rfl) rfl
theorem q764 : (Jvm.Cond.code ({ cls := "LimbMaker", name := "turn", desc := "(IZ)I" } : Jvm.MethodName) prog_1_method_44_code (3 : Nat) (Option.some Jvm.ClassFile.FieldType.int)) ∈ lw_all := lw_g (lw_at lw_m4 10 rfl) rfl
theorem q765 : (Jvm.Cond.classLink "LimbMaker" (266 : Nat) "LimbMaker$Turn") ∈ lw_all := lw_g (lw_at lw_m4 11 rfl) rfl
theorem q767 : (Jvm.Cond.methodLink "LimbMaker" (268 : Nat) ({ cls := "LimbMaker$Turn", name := "<init>", desc := "(IZ)V" } : Jvm.MethodName)) ∈ lw_all := lw_g (lw_at lw_m4 13 rfl) rfl
theorem q779 : (Jvm.Cond.instanceMethod ({ cls := "LimbMaker", name := "undo", desc := "()I" } : Jvm.MethodName)) ∈ lw_all := lw_g (lw_at lw_m4 25 rfl) rfl
theorem q780 : (Jvm.Cond.selects "LimbMaker" ({ cls := "LimbMaker", name := "undo", desc := "()I" } : Jvm.MethodName) ({ cls := "LimbMaker", name := "undo", desc := "()I" } : Jvm.MethodName)) ∈ lw_all := lw_g (lw_at lw_m4 26 rfl) rfl
theorem q781 : (Jvm.Cond.code ({ cls := "LimbMaker", name := "undo", desc := "()I" } : Jvm.MethodName) prog_1_method_45_code (1 : Nat) (Option.some Jvm.ClassFile.FieldType.int)) ∈ lw_all := lw_g (lw_at lw_m4 27 rfl) rfl
theorem q782 : (Jvm.Cond.methodLink "LimbMaker" (271 : Nat) ({ cls := "java/util/ArrayList", name := "isEmpty", desc := "()Z" } : Jvm.MethodName)) ∈ lw_all := lw_g (lw_at lw_m4 28 rfl) rfl
theorem q786 : (Jvm.Cond.methodLink "LimbMaker" (275 : Nat) ({ cls := "java/util/ArrayList", name := "remove", desc := "(I)Ljava/lang/Object;" } : Jvm.MethodName)) ∈ lw_all := lw_g (lw_at lw_m4 32 rfl) rfl
theorem q802 : (Jvm.Cond.instanceMethod ({ cls := "LimbMaker", name := "where", desc := "(II)I" } : Jvm.MethodName)) ∈ lw_all := lw_g (lw_at lw_m4 48 rfl) rfl
theorem q803 : (Jvm.Cond.selects "LimbMaker" ({ cls := "LimbMaker", name := "where", desc := "(II)I" } : Jvm.MethodName) ({ cls := "LimbMaker", name := "where", desc := "(II)I" } : Jvm.MethodName)) ∈ lw_all := lw_g (lw_at lw_m4 49 rfl) rfl
theorem q804 : (Jvm.Cond.code ({ cls := "LimbMaker", name := "where", desc := "(II)I" } : Jvm.MethodName) prog_1_method_47_code (3 : Nat) (Option.some Jvm.ClassFile.FieldType.int)) ∈ lw_all := lw_g (lw_at lw_m4 50 rfl) rfl
theorem q805 : (Jvm.Cond.methodLink "LimbMaker" (288 : Nat) ({ cls := "LimbMaker", name := "whereOf", desc := "(II)I" } : Jvm.MethodName)) ∈ lw_all := lw_g (lw_at lw_m4 51 rfl) rfl
theorem q806 : (Jvm.Cond.privateMethod ({ cls := "LimbMaker", name := "whereOf", desc := "(II)I" } : Jvm.MethodName)) ∈ lw_tbl := lw_at lw_m4 52 rfl
theorem q807 : (Jvm.Cond.instanceMethod ({ cls := "LimbMaker", name := "whereOf", desc := "(II)I" } : Jvm.MethodName)) ∈ lw_all := lw_g (lw_at lw_m4 53 rfl) rfl
theorem q808 : (Jvm.Cond.code ({ cls := "LimbMaker", name := "whereOf", desc := "(II)I" } : Jvm.MethodName) prog_1_method_46_code (4 : Nat) (Option.some Jvm.ClassFile.FieldType.int)) ∈ lw_all := lw_g (lw_at lw_m4 54 rfl) rfl
theorem q809 : (Jvm.Cond.methodLink "LimbMaker" (279 : Nat) ({ cls := "java/util/ArrayList", name := "get", desc := "(I)Ljava/lang/Object;" } : Jvm.MethodName)) ∈ lw_all := lw_g (lw_at lw_m4 55 rfl) rfl
theorem q817 : (Jvm.Cond.classLink "LimbMaker" (282 : Nat) "LimbMaker$Moving") ∈ lw_all := lw_g (lw_at lw_m4 63 rfl) rfl
theorem q818 : (Jvm.Cond.interfaceEntry "LimbMaker" (284 : Nat)) ∈ lw_tbl := lw_at lw_m4 64 rfl
theorem q819 : (Jvm.Cond.methodLink "LimbMaker" (284 : Nat) ({ cls := "LimbMaker$Moving", name := "move", desc := "([IZ)V" } : Jvm.MethodName)) ∈ lw_all := lw_g (lw_at lw_m4 65 rfl) rfl
theorem q834 : (Jvm.Cond.methodLink "LimbMaker" (291 : Nat) ({ cls := "LimbMaker", name := "tells", desc := "(II)I" } : Jvm.MethodName)) ∈ lw_all := lw_g (lw_at lw_m4 80 rfl) rfl
theorem q835 : (Jvm.Cond.privateMethod ({ cls := "LimbMaker", name := "tells", desc := "(II)I" } : Jvm.MethodName)) ∈ lw_tbl := lw_at lw_m4 81 rfl
theorem q836 : (Jvm.Cond.instanceMethod ({ cls := "LimbMaker", name := "tells", desc := "(II)I" } : Jvm.MethodName)) ∈ lw_all := lw_g (lw_at lw_m4 82 rfl) rfl
theorem q837 : (Jvm.Cond.code ({ cls := "LimbMaker", name := "tells", desc := "(II)I" } : Jvm.MethodName) prog_1_method_3_code (3 : Nat) (Option.some Jvm.ClassFile.FieldType.int)) ∈ lw_all := lw_g (lw_at lw_m4 83 rfl) rfl
theorem q839 : (Jvm.Cond.instanceMethod ({ cls := "LimbMaker", name := "step", desc := "(II)I" } : Jvm.MethodName)) ∈ lw_all := lw_g (lw_at lw_m4 85 rfl) rfl
theorem q840 : (Jvm.Cond.selects "LimbMaker" ({ cls := "LimbMaker", name := "step", desc := "(II)I" } : Jvm.MethodName) ({ cls := "LimbMaker", name := "step", desc := "(II)I" } : Jvm.MethodName)) ∈ lw_all := lw_g (lw_at lw_m4 86 rfl) rfl
theorem q841 : (Jvm.Cond.code ({ cls := "LimbMaker", name := "step", desc := "(II)I" } : Jvm.MethodName) prog_1_method_48_code (3 : Nat) (Option.some Jvm.ClassFile.FieldType.int)) ∈ lw_all := lw_g (lw_at lw_m4 87 rfl) rfl
theorem q843 : (Jvm.Cond.instanceMethod ({ cls := "LimbMaker", name := "clear", desc := "(I)I" } : Jvm.MethodName)) ∈ lw_all := lw_g (lw_at lw_m4 89 rfl) rfl
theorem q844 : (Jvm.Cond.selects "LimbMaker" ({ cls := "LimbMaker", name := "clear", desc := "(I)I" } : Jvm.MethodName) ({ cls := "LimbMaker", name := "clear", desc := "(I)I" } : Jvm.MethodName)) ∈ lw_all := lw_g (lw_at lw_m4 90 rfl) rfl
theorem q845 : (Jvm.Cond.code ({ cls := "LimbMaker", name := "clear", desc := "(I)I" } : Jvm.MethodName) prog_1_method_49_code (3 : Nat) (Option.some Jvm.ClassFile.FieldType.int)) ∈ lw_all := lw_g (lw_at lw_m4 91 rfl) rfl
theorem q847 : (Jvm.Cond.instanceMethod ({ cls := "LimbMaker", name := "even", desc := "()I" } : Jvm.MethodName)) ∈ lw_all := lw_g (lw_at lw_m4 93 rfl) rfl
theorem q848 : (Jvm.Cond.selects "LimbMaker" ({ cls := "LimbMaker", name := "even", desc := "()I" } : Jvm.MethodName) ({ cls := "LimbMaker", name := "even", desc := "()I" } : Jvm.MethodName)) ∈ lw_all := lw_g (lw_at lw_m4 94 rfl) rfl
theorem q849 : (Jvm.Cond.code ({ cls := "LimbMaker", name := "even", desc := "()I" } : Jvm.MethodName) prog_1_method_51_code (5 : Nat) (Option.some Jvm.ClassFile.FieldType.int)) ∈ lw_all := lw_g (lw_at lw_m4 95 rfl) rfl
theorem q850 : (Jvm.Cond.methodLink "LimbMaker" (297 : Nat) ({ cls := "LimbMaker", name := "differ", desc := "(I)I" } : Jvm.MethodName)) ∈ lw_all := lw_g (lw_at lw_m4 96 rfl) rfl
theorem q851 : (Jvm.Cond.privateMethod ({ cls := "LimbMaker", name := "differ", desc := "(I)I" } : Jvm.MethodName)) ∈ lw_tbl := lw_at lw_m4 97 rfl
theorem q852 : (Jvm.Cond.instanceMethod ({ cls := "LimbMaker", name := "differ", desc := "(I)I" } : Jvm.MethodName)) ∈ lw_all := lw_g (lw_at lw_m4 98 rfl) rfl
theorem q853 : (Jvm.Cond.code ({ cls := "LimbMaker", name := "differ", desc := "(I)I" } : Jvm.MethodName) prog_1_method_50_code (5 : Nat) (Option.some Jvm.ClassFile.FieldType.int)) ∈ lw_all := lw_g (lw_at lw_m4 99 rfl) rfl
theorem q854 : (Jvm.Cond.methodLink "LimbMaker" (294 : Nat) ({ cls := "java/lang/Math", name := "abs", desc := "(I)I" } : Jvm.MethodName)) ∈ lw_all := lw_g (lw_at lw_m4 100 rfl) rfl
theorem q858 : (Jvm.Cond.instanceMethod ({ cls := "LimbMaker", name := "meanLoad", desc := "(I)I" } : Jvm.MethodName)) ∈ lw_all := lw_g (lw_at lw_m4 104 rfl) rfl
theorem q859 : (Jvm.Cond.selects "LimbMaker" ({ cls := "LimbMaker", name := "meanLoad", desc := "(I)I" } : Jvm.MethodName) ({ cls := "LimbMaker", name := "meanLoad", desc := "(I)I" } : Jvm.MethodName)) ∈ lw_all := lw_g (lw_at lw_m4 105 rfl) rfl
theorem q860 : (Jvm.Cond.codeWith ({ cls := "LimbMaker", name := "meanLoad", desc := "(I)I" } : Jvm.MethodName) prog_1_method_52_code (4 : Nat) (Option.some Jvm.ClassFile.FieldType.int) [((45 : Nat), (53 : Nat), (54 : Nat), (134 : Nat))]) ∈ lw_all := lw_g (lw_at lw_m4 106 rfl) rfl
theorem q862 : (Jvm.Cond.instanceMethod ({ cls := "LimbMaker", name := "count", desc := "(I)I" } : Jvm.MethodName)) ∈ lw_all := lw_g (lw_at lw_m4 108 rfl) rfl
theorem q863 : (Jvm.Cond.selects "LimbMaker" ({ cls := "LimbMaker", name := "count", desc := "(I)I" } : Jvm.MethodName) ({ cls := "LimbMaker", name := "count", desc := "(I)I" } : Jvm.MethodName)) ∈ lw_all := lw_g (lw_at lw_m4 109 rfl) rfl
theorem q864 : (Jvm.Cond.code ({ cls := "LimbMaker", name := "count", desc := "(I)I" } : Jvm.MethodName) prog_1_method_53_code (5 : Nat) (Option.some Jvm.ClassFile.FieldType.int)) ∈ lw_all := lw_g (lw_at lw_m4 110 rfl) rfl
theorem q866 : (Jvm.Cond.instanceMethod ({ cls := "LimbMaker", name := "finding", desc := "()I" } : Jvm.MethodName)) ∈ lw_all := lw_g (lw_at lw_m4 112 rfl) rfl
theorem q867 : (Jvm.Cond.selects "LimbMaker" ({ cls := "LimbMaker", name := "finding", desc := "()I" } : Jvm.MethodName) ({ cls := "LimbMaker", name := "finding", desc := "()I" } : Jvm.MethodName)) ∈ lw_all := lw_g (lw_at lw_m4 113 rfl) rfl
theorem q868 : (Jvm.Cond.code ({ cls := "LimbMaker", name := "finding", desc := "()I" } : Jvm.MethodName) prog_1_method_54_code (1 : Nat) (Option.some Jvm.ClassFile.FieldType.int)) ∈ lw_all := lw_g (lw_at lw_m4 114 rfl) rfl
theorem q870 : (Jvm.Cond.instanceMethod ({ cls := "LimbMaker", name := "findings", desc := "(I)I" } : Jvm.MethodName)) ∈ lw_all := lw_g (lw_at lw_m4 116 rfl) rfl
theorem q871 : (Jvm.Cond.selects "LimbMaker" ({ cls := "LimbMaker", name := "findings", desc := "(I)I" } : Jvm.MethodName) ({ cls := "LimbMaker", name := "findings", desc := "(I)I" } : Jvm.MethodName)) ∈ lw_all := lw_g (lw_at lw_m4 117 rfl) rfl
theorem q872 : (Jvm.Cond.code ({ cls := "LimbMaker", name := "findings", desc := "(I)I" } : Jvm.MethodName) prog_1_method_55_code (2 : Nat) (Option.some Jvm.ClassFile.FieldType.int)) ∈ lw_all := lw_g (lw_at lw_m4 118 rfl) rfl
theorem q874 : (Jvm.Cond.instanceMethod ({ cls := "LimbMaker", name := "digest", desc := "()J" } : Jvm.MethodName)) ∈ lw_all := lw_g (lw_at lw_m4 120 rfl) rfl
theorem q875 : (Jvm.Cond.selects "LimbMaker" ({ cls := "LimbMaker", name := "digest", desc := "()J" } : Jvm.MethodName) ({ cls := "LimbMaker", name := "digest", desc := "()J" } : Jvm.MethodName)) ∈ lw_all := lw_g (lw_at lw_m4 121 rfl) rfl
theorem q876 : (Jvm.Cond.code ({ cls := "LimbMaker", name := "digest", desc := "()J" } : Jvm.MethodName) prog_1_method_56_code (6 : Nat) (Option.some Jvm.ClassFile.FieldType.long)) ∈ lw_all := lw_g (lw_at lw_m4 122 rfl) rfl
theorem q877 : (Jvm.Cond.constantLong "LimbMaker" (300 : Nat) (17 : Int64)) ∈ lw_all := lw_g (lw_at lw_m4 123 rfl) rfl
theorem q878 : (Jvm.Cond.constantLong "LimbMaker" (302 : Nat) (31 : Int64)) ∈ lw_all := lw_g (lw_at lw_m4 124 rfl) rfl
theorem q879 : (Jvm.Cond.methodLink "LimbMaker" (304 : Nat) ({ cls := "LimbMaker", name := "count", desc := "(I)I" } : Jvm.MethodName)) ∈ lw_all := lw_g (lw_at lw_m4 125 rfl) rfl
theorem q1204 : (Jvm.Cond.castable "LimbMaker" "java/lang/Object") ∈ lw_tbl := lw_at lw_m5 210 rfl
theorem in_X0 : ∀ w ∈ wsX00, w ∈ lw_all := lw_in wsX00 [138, 140, 142, 144, 146, 148, 150, 152, 154, 156, 158, 160, 162, 164, 166, 168, 170, 172, 174, 176, 178, 180, 182, 184, 186, 188, 190, 192, 194] (by decide +kernel) (by decide +kernel)
