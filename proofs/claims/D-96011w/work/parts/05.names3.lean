/-! EverybodyHasTheBookModel -/
set_option maxRecDepth 100000
def RX3 : String := "EverybodyHasTheBookModel"
def TX3 : u_T := fun k => match k with
  | 0 => ("EverybodyHasTheBookModel", "shelf", "[I", true)
  | 1 => ("EverybodyHasTheBookModel", "rowSort", "[I", true)
  | 2 => ("EverybodyHasTheBookModel", "rowSize", "[I", true)
  | 3 => ("EverybodyHasTheBookModel", "rows", "[[J", true)
  | 4 => ("EverybodyHasTheBookModel", "moved", "[J", true)
  | 5 => ("EverybodyHasTheBookModel", "shown", "[I", true)
  | 6 => ("EverybodyHasTheBookModel", "tape", "[I", true)
  | 7 => ("EverybodyHasTheBookModel", "tapeSize", "I", false)
  | 8 => ("EverybodyHasTheBookModel", "refused", "[I", true)
  | 9 => ("EverybodyHasTheBookModel", "inns", "I", false)
  | 10 => ("EverybodyHasTheBookModel", "inn", "[[I", true)
  | 11 => ("EverybodyHasTheBookModel", "goers", "I", false)
  | 12 => ("EverybodyHasTheBookModel", "goer", "[[I", true)
  | 13 => ("EverybodyHasTheBookModel", "age", "I", false)
  | 14 => ("EverybodyHasTheBookModel", "yearsGone", "I", false)
  | 15 => ("EverybodyHasTheBookModel", "seed", "I", false)
  | 16 => ("EverybodyHasTheBookModel", "kept", "LEverybodyHasTheBookModel;", false)
  | 17 => ("EverybodyHasTheBookModel", "tried", "LEverybodyHasTheBookModel;", false)
  | 18 => ("EverybodyHasTheBookModel", "at", "I", false)
  | 19 => ("EverybodyHasTheBookModel", "token", "I", false)
  | 20 => ("EverybodyHasTheBookModel", "from", "I", false)
  | 21 => ("EverybodyHasTheBookModel", "figures", "I", false)
  | 22 => ("EverybodyHasTheBookModel", "fault", "I", false)
  | 23 => ("EverybodyHasTheBookModel", "told", "[I", true)
  | 24 => ("EverybodyHasTheBookModel", "statements", "I", false)
  | 25 => ("EverybodyHasTheBookModel", "sleeps", "[[I", true)
  | 26 => ("EverybodyHasTheBookModel", "out", "[I", true)
  | 27 => ("EverybodyHasTheBookModel", "left", "[I", true)
  | 28 => ("EverybodyHasTheBookModel", "saidNow", "[I", true)
  | 29 => ("EverybodyHasTheBookModel", "thisJoy", "I", false)
  | 30 => ("EverybodyHasTheBookModel", "joys", "[I", true)
  | 31 => ("EverybodyHasTheBookModel", "yearJoy", "[I", true)
  | 32 => ("EverybodyHasTheBookModel", "bestJoy", "I", false)
  | _ => ("EverybodyHasTheBookModel", "bestRound", "[I", true)
def tyX3 : Nat → FieldType := fun k => match k with
  | 0 => .array .int
  | 1 => .array .int
  | 2 => .array .int
  | 3 => .array (.array .long)
  | 4 => .array .long
  | 5 => .array .int
  | 6 => .array .int
  | 7 => .int
  | 8 => .array .int
  | 9 => .int
  | 10 => .array (.array .int)
  | 11 => .int
  | 12 => .array (.array .int)
  | 13 => .int
  | 14 => .int
  | 15 => .int
  | 16 => .object "EverybodyHasTheBookModel"
  | 17 => .object "EverybodyHasTheBookModel"
  | 18 => .int
  | 19 => .int
  | 20 => .int
  | 21 => .int
  | 22 => .int
  | 23 => .array .int
  | 24 => .int
  | 25 => .array (.array .int)
  | 26 => .array .int
  | 27 => .array .int
  | 28 => .array .int
  | 29 => .int
  | 30 => .array .int
  | 31 => .array .int
  | 32 => .int
  | _ => .array .int
abbrev wsX30 : List Cond := u_ws RX3 TX3 34
set_option maxRecDepth 100000 in
theorem nmX3 : ∀ a, a < 34 → ∀ b, b < 34 → a ≠ b → (TX3 a).2.1 ≠ (TX3 b).2.1 := by decide +kernel
set_option maxRecDepth 100000 in
theorem tyX3_ok : ∀ k, k < 34 → parseFieldDescriptor (TX3 k).2.2.1 = some (tyX3 k) := by decide +kernel
abbrev cX3_init : ByteArray := prog_16_method_1_code
def yX3_init : MethodName := ⟨RX3, "<init>", "()V"⟩
def dkwX3_init_7 : List UInt8 := [6, 188, 10, 181, 0, 70, 177]
abbrev dktX3_init_7 : List UInt8 := dkwX3_init_7 ++ []
def dkwX3_init_6 : List UInt8 := [16, 6, 188, 10, 181, 0, 61, 42, 16, 6, 188, 10, 181, 0, 64, 42, 16, 6, 188, 10, 181, 0, 67, 42]
abbrev dktX3_init_6 : List UInt8 := dkwX3_init_6 ++ dktX3_init_7
def dkwX3_init_5 : List UInt8 := [197, 0, 37, 2, 181, 0, 52, 42, 16, 6, 188, 10, 181, 0, 55, 42, 16, 6, 188, 10, 181, 0, 58, 42]
abbrev dktX3_init_5 : List UInt8 := dkwX3_init_5 ++ dktX3_init_6
def dkwX3_init_4 : List UInt8 := [197, 0, 37, 2, 181, 0, 42, 42, 4, 181, 0, 45, 42, 6, 188, 10, 181, 0, 49, 42, 16, 6, 16, 6]
abbrev dktX3_init_4 : List UInt8 := dkwX3_init_4 ++ dktX3_init_5
def dkwX3_init_3 : List UInt8 := [188, 10, 181, 0, 34, 42, 16, 6, 16, 7, 197, 0, 37, 2, 181, 0, 39, 42, 16, 6, 6]
abbrev dktX3_init_3 : List UInt8 := dkwX3_init_3 ++ dktX3_init_4
def dkwX3_init_2 : List UInt8 := [181, 0, 24, 42, 16, 8, 188, 10, 181, 0, 28, 42, 17, 0, 250, 188, 10, 181, 0, 31, 42, 16, 8]
abbrev dktX3_init_2 : List UInt8 := dkwX3_init_2 ++ dktX3_init_3
def dkwX3_init_1 : List UInt8 := [188, 10, 181, 0, 16, 42, 16, 8, 16, 40, 197, 0, 19, 2, 181, 0, 21, 42, 16, 40, 188, 11]
abbrev dktX3_init_1 : List UInt8 := dkwX3_init_1 ++ dktX3_init_2
def dkwX3_init_0 : List UInt8 := [42, 183, 0, 1, 42, 16, 8, 188, 10, 181, 0, 7, 42, 16, 8, 188, 10, 181, 0, 13, 42, 16, 8]
abbrev dktX3_init_0 : List UInt8 := dkwX3_init_0 ++ dktX3_init_1
theorem dksX3_init_0 : cX3_init.data.toList.drop 0 = dktX3_init_0 := by decide +kernel
theorem dksX3_init_1 : cX3_init.data.toList.drop 23 = dktX3_init_1 := dk_seg dksX3_init_0 23 rfl rfl
theorem dksX3_init_2 : cX3_init.data.toList.drop 45 = dktX3_init_2 := dk_seg dksX3_init_1 22 rfl rfl
theorem dksX3_init_3 : cX3_init.data.toList.drop 68 = dktX3_init_3 := dk_seg dksX3_init_2 23 rfl rfl
theorem dksX3_init_4 : cX3_init.data.toList.drop 89 = dktX3_init_4 := dk_seg dksX3_init_3 21 rfl rfl
theorem dksX3_init_5 : cX3_init.data.toList.drop 113 = dktX3_init_5 := dk_seg dksX3_init_4 24 rfl rfl
theorem dksX3_init_6 : cX3_init.data.toList.drop 137 = dktX3_init_6 := dk_seg dksX3_init_5 24 rfl rfl
theorem dksX3_init_7 : cX3_init.data.toList.drop 161 = dktX3_init_7 := dk_seg dksX3_init_6 24 rfl rfl
theorem dX3_init_0 : decode cX3_init 0 = .ok (.aload_n 0, 1) := dk_42 (dk_at dksX3_init_0 0 rfl rfl)
theorem dX3_init_1 : decode cX3_init 1 = .ok (.invokespecial 1, 3) := dk_183 0 1 (dk_at dksX3_init_0 1 rfl rfl)
theorem dX3_init_4 : decode cX3_init 4 = .ok (.aload_n 0, 1) := dk_42 (dk_at dksX3_init_0 4 rfl rfl)
theorem dX3_init_5 : decode cX3_init 5 = .ok (.bipush 8, 2) := dk_16 8 (dk_at dksX3_init_0 5 rfl rfl)
theorem dX3_init_7 : decode cX3_init 7 = .ok (.newarray .int, 2) := dk_188_10 (dk_at dksX3_init_0 7 rfl rfl)
theorem dX3_init_9 : decode cX3_init 9 = .ok (.putfield 7, 3) := dk_181 0 7 (dk_at dksX3_init_0 9 rfl rfl)
theorem dX3_init_12 : decode cX3_init 12 = .ok (.aload_n 0, 1) := dk_42 (dk_at dksX3_init_0 12 rfl rfl)
theorem dX3_init_13 : decode cX3_init 13 = .ok (.bipush 8, 2) := dk_16 8 (dk_at dksX3_init_0 13 rfl rfl)
theorem dX3_init_15 : decode cX3_init 15 = .ok (.newarray .int, 2) := dk_188_10 (dk_at dksX3_init_0 15 rfl rfl)
theorem dX3_init_17 : decode cX3_init 17 = .ok (.putfield 13, 3) := dk_181 0 13 (dk_at dksX3_init_0 17 rfl rfl)
theorem dX3_init_20 : decode cX3_init 20 = .ok (.aload_n 0, 1) := dk_42 (dk_at dksX3_init_0 20 rfl rfl)
theorem dX3_init_21 : decode cX3_init 21 = .ok (.bipush 8, 2) := dk_16 8 (dk_at dksX3_init_0 21 rfl rfl)
theorem dX3_init_23 : decode cX3_init 23 = .ok (.newarray .int, 2) := dk_188_10 (dk_at dksX3_init_1 0 rfl rfl)
theorem dX3_init_25 : decode cX3_init 25 = .ok (.putfield 16, 3) := dk_181 0 16 (dk_at dksX3_init_1 2 rfl rfl)
theorem dX3_init_28 : decode cX3_init 28 = .ok (.aload_n 0, 1) := dk_42 (dk_at dksX3_init_1 5 rfl rfl)
theorem dX3_init_29 : decode cX3_init 29 = .ok (.bipush 8, 2) := dk_16 8 (dk_at dksX3_init_1 6 rfl rfl)
theorem dX3_init_31 : decode cX3_init 31 = .ok (.bipush 40, 2) := dk_16 40 (dk_at dksX3_init_1 8 rfl rfl)
theorem dX3_init_33 : decode cX3_init 33 = .ok (.multianewarray 19 2, 4) := by decide +kernel
theorem dX3_init_37 : decode cX3_init 37 = .ok (.putfield 21, 3) := dk_181 0 21 (dk_at dksX3_init_1 14 rfl rfl)
theorem dX3_init_40 : decode cX3_init 40 = .ok (.aload_n 0, 1) := dk_42 (dk_at dksX3_init_1 17 rfl rfl)
theorem dX3_init_41 : decode cX3_init 41 = .ok (.bipush 40, 2) := dk_16 40 (dk_at dksX3_init_1 18 rfl rfl)
theorem dX3_init_43 : decode cX3_init 43 = .ok (.newarray .long, 2) := dk_188_11 (dk_at dksX3_init_1 20 rfl rfl)
theorem dX3_init_45 : decode cX3_init 45 = .ok (.putfield 24, 3) := dk_181 0 24 (dk_at dksX3_init_2 0 rfl rfl)
theorem dX3_init_48 : decode cX3_init 48 = .ok (.aload_n 0, 1) := dk_42 (dk_at dksX3_init_2 3 rfl rfl)
theorem dX3_init_49 : decode cX3_init 49 = .ok (.bipush 8, 2) := dk_16 8 (dk_at dksX3_init_2 4 rfl rfl)
theorem dX3_init_51 : decode cX3_init 51 = .ok (.newarray .int, 2) := dk_188_10 (dk_at dksX3_init_2 6 rfl rfl)
theorem dX3_init_53 : decode cX3_init 53 = .ok (.putfield 28, 3) := dk_181 0 28 (dk_at dksX3_init_2 8 rfl rfl)
theorem dX3_init_56 : decode cX3_init 56 = .ok (.aload_n 0, 1) := dk_42 (dk_at dksX3_init_2 11 rfl rfl)
theorem dX3_init_57 : decode cX3_init 57 = .ok (.sipush 250, 3) := dk_17 0 250 (dk_at dksX3_init_2 12 rfl rfl)
theorem dX3_init_60 : decode cX3_init 60 = .ok (.newarray .int, 2) := dk_188_10 (dk_at dksX3_init_2 15 rfl rfl)
theorem dX3_init_62 : decode cX3_init 62 = .ok (.putfield 31, 3) := dk_181 0 31 (dk_at dksX3_init_2 17 rfl rfl)
theorem dX3_init_65 : decode cX3_init 65 = .ok (.aload_n 0, 1) := dk_42 (dk_at dksX3_init_2 20 rfl rfl)
theorem dX3_init_66 : decode cX3_init 66 = .ok (.bipush 8, 2) := dk_16 8 (dk_at dksX3_init_2 21 rfl rfl)
theorem dX3_init_68 : decode cX3_init 68 = .ok (.newarray .int, 2) := dk_188_10 (dk_at dksX3_init_3 0 rfl rfl)
theorem dX3_init_70 : decode cX3_init 70 = .ok (.putfield 34, 3) := dk_181 0 34 (dk_at dksX3_init_3 2 rfl rfl)
theorem dX3_init_73 : decode cX3_init 73 = .ok (.aload_n 0, 1) := dk_42 (dk_at dksX3_init_3 5 rfl rfl)
theorem dX3_init_74 : decode cX3_init 74 = .ok (.bipush 6, 2) := dk_16 6 (dk_at dksX3_init_3 6 rfl rfl)
theorem dX3_init_76 : decode cX3_init 76 = .ok (.bipush 7, 2) := dk_16 7 (dk_at dksX3_init_3 8 rfl rfl)
theorem dX3_init_78 : decode cX3_init 78 = .ok (.multianewarray 37 2, 4) := by decide +kernel
theorem dX3_init_82 : decode cX3_init 82 = .ok (.putfield 39, 3) := dk_181 0 39 (dk_at dksX3_init_3 14 rfl rfl)
theorem dX3_init_85 : decode cX3_init 85 = .ok (.aload_n 0, 1) := dk_42 (dk_at dksX3_init_3 17 rfl rfl)
theorem dX3_init_86 : decode cX3_init 86 = .ok (.bipush 6, 2) := dk_16 6 (dk_at dksX3_init_3 18 rfl rfl)
theorem dX3_init_88 : decode cX3_init 88 = .ok (.iconst 3, 1) := dk_6 (dk_at dksX3_init_3 20 rfl rfl)
theorem dX3_init_89 : decode cX3_init 89 = .ok (.multianewarray 37 2, 4) := by decide +kernel
theorem dX3_init_93 : decode cX3_init 93 = .ok (.putfield 42, 3) := dk_181 0 42 (dk_at dksX3_init_4 4 rfl rfl)
theorem dX3_init_96 : decode cX3_init 96 = .ok (.aload_n 0, 1) := dk_42 (dk_at dksX3_init_4 7 rfl rfl)
theorem dX3_init_97 : decode cX3_init 97 = .ok (.iconst 1, 1) := dk_4 (dk_at dksX3_init_4 8 rfl rfl)
theorem dX3_init_98 : decode cX3_init 98 = .ok (.putfield 45, 3) := dk_181 0 45 (dk_at dksX3_init_4 9 rfl rfl)
theorem dX3_init_101 : decode cX3_init 101 = .ok (.aload_n 0, 1) := dk_42 (dk_at dksX3_init_4 12 rfl rfl)
theorem dX3_init_102 : decode cX3_init 102 = .ok (.iconst 3, 1) := dk_6 (dk_at dksX3_init_4 13 rfl rfl)
theorem dX3_init_103 : decode cX3_init 103 = .ok (.newarray .int, 2) := dk_188_10 (dk_at dksX3_init_4 14 rfl rfl)
theorem dX3_init_105 : decode cX3_init 105 = .ok (.putfield 49, 3) := dk_181 0 49 (dk_at dksX3_init_4 16 rfl rfl)
theorem dX3_init_108 : decode cX3_init 108 = .ok (.aload_n 0, 1) := dk_42 (dk_at dksX3_init_4 19 rfl rfl)
theorem dX3_init_109 : decode cX3_init 109 = .ok (.bipush 6, 2) := dk_16 6 (dk_at dksX3_init_4 20 rfl rfl)
theorem dX3_init_111 : decode cX3_init 111 = .ok (.bipush 6, 2) := dk_16 6 (dk_at dksX3_init_4 22 rfl rfl)
theorem dX3_init_113 : decode cX3_init 113 = .ok (.multianewarray 37 2, 4) := by decide +kernel
theorem dX3_init_117 : decode cX3_init 117 = .ok (.putfield 52, 3) := dk_181 0 52 (dk_at dksX3_init_5 4 rfl rfl)
theorem dX3_init_120 : decode cX3_init 120 = .ok (.aload_n 0, 1) := dk_42 (dk_at dksX3_init_5 7 rfl rfl)
theorem dX3_init_121 : decode cX3_init 121 = .ok (.bipush 6, 2) := dk_16 6 (dk_at dksX3_init_5 8 rfl rfl)
theorem dX3_init_123 : decode cX3_init 123 = .ok (.newarray .int, 2) := dk_188_10 (dk_at dksX3_init_5 10 rfl rfl)
theorem dX3_init_125 : decode cX3_init 125 = .ok (.putfield 55, 3) := dk_181 0 55 (dk_at dksX3_init_5 12 rfl rfl)
theorem dX3_init_128 : decode cX3_init 128 = .ok (.aload_n 0, 1) := dk_42 (dk_at dksX3_init_5 15 rfl rfl)
theorem dX3_init_129 : decode cX3_init 129 = .ok (.bipush 6, 2) := dk_16 6 (dk_at dksX3_init_5 16 rfl rfl)
theorem dX3_init_131 : decode cX3_init 131 = .ok (.newarray .int, 2) := dk_188_10 (dk_at dksX3_init_5 18 rfl rfl)
theorem dX3_init_133 : decode cX3_init 133 = .ok (.putfield 58, 3) := dk_181 0 58 (dk_at dksX3_init_5 20 rfl rfl)
theorem dX3_init_136 : decode cX3_init 136 = .ok (.aload_n 0, 1) := dk_42 (dk_at dksX3_init_5 23 rfl rfl)
theorem dX3_init_137 : decode cX3_init 137 = .ok (.bipush 6, 2) := dk_16 6 (dk_at dksX3_init_6 0 rfl rfl)
theorem dX3_init_139 : decode cX3_init 139 = .ok (.newarray .int, 2) := dk_188_10 (dk_at dksX3_init_6 2 rfl rfl)
theorem dX3_init_141 : decode cX3_init 141 = .ok (.putfield 61, 3) := dk_181 0 61 (dk_at dksX3_init_6 4 rfl rfl)
theorem dX3_init_144 : decode cX3_init 144 = .ok (.aload_n 0, 1) := dk_42 (dk_at dksX3_init_6 7 rfl rfl)
theorem dX3_init_145 : decode cX3_init 145 = .ok (.bipush 6, 2) := dk_16 6 (dk_at dksX3_init_6 8 rfl rfl)
theorem dX3_init_147 : decode cX3_init 147 = .ok (.newarray .int, 2) := dk_188_10 (dk_at dksX3_init_6 10 rfl rfl)
theorem dX3_init_149 : decode cX3_init 149 = .ok (.putfield 64, 3) := dk_181 0 64 (dk_at dksX3_init_6 12 rfl rfl)
theorem dX3_init_152 : decode cX3_init 152 = .ok (.aload_n 0, 1) := dk_42 (dk_at dksX3_init_6 15 rfl rfl)
theorem dX3_init_153 : decode cX3_init 153 = .ok (.bipush 6, 2) := dk_16 6 (dk_at dksX3_init_6 16 rfl rfl)
theorem dX3_init_155 : decode cX3_init 155 = .ok (.newarray .int, 2) := dk_188_10 (dk_at dksX3_init_6 18 rfl rfl)
theorem dX3_init_157 : decode cX3_init 157 = .ok (.putfield 67, 3) := dk_181 0 67 (dk_at dksX3_init_6 20 rfl rfl)
theorem dX3_init_160 : decode cX3_init 160 = .ok (.aload_n 0, 1) := dk_42 (dk_at dksX3_init_6 23 rfl rfl)
theorem dX3_init_161 : decode cX3_init 161 = .ok (.iconst 3, 1) := dk_6 (dk_at dksX3_init_7 0 rfl rfl)
theorem dX3_init_162 : decode cX3_init 162 = .ok (.newarray .int, 2) := dk_188_10 (dk_at dksX3_init_7 1 rfl rfl)
theorem dX3_init_164 : decode cX3_init 164 = .ok (.putfield 70, 3) := dk_181 0 70 (dk_at dksX3_init_7 3 rfl rfl)
theorem dX3_init_167 : decode cX3_init 167 = .ok (.return_, 1) := dk_177 (dk_at dksX3_init_7 6 rfl rfl)
abbrev cX3_row : ByteArray := prog_16_method_8_code
def yX3_row : MethodName := ⟨RX3, "row", "(III)I"⟩
def dkwX3_row_3 : List UInt8 := [162, 0, 19, 42, 180, 0, 21, 27, 50, 21, 4, 9, 80, 132, 4, 1, 167, 255, 236, 4, 172]
abbrev dktX3_row_3 : List UInt8 := dkwX3_row_3 ++ []
def dkwX3_row_2 : List UInt8 := [4, 79, 42, 180, 0, 13, 27, 28, 79, 42, 180, 0, 16, 27, 29, 79, 3, 54, 4, 21, 4, 16, 40]
abbrev dktX3_row_2 : List UInt8 := dkwX3_row_2 ++ dktX3_row_3
def dkwX3_row_1 : List UInt8 := [29, 133, 9, 20, 0, 89, 184, 0, 76, 154, 0, 10, 42, 16, 254, 182, 0, 91, 172, 42, 180, 0, 7, 27]
abbrev dktX3_row_1 : List UInt8 := dkwX3_row_1 ++ dktX3_row_2
def dkwX3_row_0 : List UInt8 := [27, 133, 9, 20, 0, 85, 184, 0, 76, 153, 0, 27, 28, 133, 9, 20, 0, 87, 184, 0, 76, 153, 0, 15]
abbrev dktX3_row_0 : List UInt8 := dkwX3_row_0 ++ dktX3_row_1
theorem dksX3_row_0 : cX3_row.data.toList.drop 0 = dktX3_row_0 := by decide +kernel
theorem dksX3_row_1 : cX3_row.data.toList.drop 24 = dktX3_row_1 := dk_seg dksX3_row_0 24 rfl rfl
theorem dksX3_row_2 : cX3_row.data.toList.drop 48 = dktX3_row_2 := dk_seg dksX3_row_1 24 rfl rfl
theorem dksX3_row_3 : cX3_row.data.toList.drop 71 = dktX3_row_3 := dk_seg dksX3_row_2 23 rfl rfl
theorem dX3_row_0 : decode cX3_row 0 = .ok (.iload_n 1, 1) := dk_27 (dk_at dksX3_row_0 0 rfl rfl)
theorem dX3_row_1 : decode cX3_row 1 = .ok (.i2l, 1) := dk_133 (dk_at dksX3_row_0 1 rfl rfl)
theorem dX3_row_2 : decode cX3_row 2 = .ok (.lconst 0, 1) := dk_9 (dk_at dksX3_row_0 2 rfl rfl)
theorem dX3_row_3 : decode cX3_row 3 = .ok (.ldc2_w 85, 3) := dk_20 0 85 (dk_at dksX3_row_0 3 rfl rfl)
theorem dX3_row_6 : decode cX3_row 6 = .ok (.invokestatic 76, 3) := dk_184 0 76 (dk_at dksX3_row_0 6 rfl rfl)
theorem dX3_row_9 : decode cX3_row 9 = .ok (.ifCond .eq 27, 3) := dk_153 0 27 (dk_at dksX3_row_0 9 rfl rfl)
theorem dX3_row_12 : decode cX3_row 12 = .ok (.iload_n 2, 1) := dk_28 (dk_at dksX3_row_0 12 rfl rfl)
theorem dX3_row_13 : decode cX3_row 13 = .ok (.i2l, 1) := dk_133 (dk_at dksX3_row_0 13 rfl rfl)
theorem dX3_row_14 : decode cX3_row 14 = .ok (.lconst 0, 1) := dk_9 (dk_at dksX3_row_0 14 rfl rfl)
theorem dX3_row_15 : decode cX3_row 15 = .ok (.ldc2_w 87, 3) := dk_20 0 87 (dk_at dksX3_row_0 15 rfl rfl)
theorem dX3_row_18 : decode cX3_row 18 = .ok (.invokestatic 76, 3) := dk_184 0 76 (dk_at dksX3_row_0 18 rfl rfl)
theorem dX3_row_21 : decode cX3_row 21 = .ok (.ifCond .eq 15, 3) := dk_153 0 15 (dk_at dksX3_row_0 21 rfl rfl)
theorem dX3_row_24 : decode cX3_row 24 = .ok (.iload_n 3, 1) := dk_29 (dk_at dksX3_row_1 0 rfl rfl)
theorem dX3_row_25 : decode cX3_row 25 = .ok (.i2l, 1) := dk_133 (dk_at dksX3_row_1 1 rfl rfl)
theorem dX3_row_26 : decode cX3_row 26 = .ok (.lconst 0, 1) := dk_9 (dk_at dksX3_row_1 2 rfl rfl)
theorem dX3_row_27 : decode cX3_row 27 = .ok (.ldc2_w 89, 3) := dk_20 0 89 (dk_at dksX3_row_1 3 rfl rfl)
theorem dX3_row_30 : decode cX3_row 30 = .ok (.invokestatic 76, 3) := dk_184 0 76 (dk_at dksX3_row_1 6 rfl rfl)
theorem dX3_row_33 : decode cX3_row 33 = .ok (.ifCond .ne 10, 3) := dk_154 0 10 (dk_at dksX3_row_1 9 rfl rfl)
theorem dX3_row_36 : decode cX3_row 36 = .ok (.aload_n 0, 1) := dk_42 (dk_at dksX3_row_1 12 rfl rfl)
theorem dX3_row_37 : decode cX3_row 37 = .ok (.bipush (-2), 2) := dk_16 254 (dk_at dksX3_row_1 13 rfl rfl)
theorem dX3_row_39 : decode cX3_row 39 = .ok (.invokevirtual 91, 3) := dk_182 0 91 (dk_at dksX3_row_1 15 rfl rfl)
theorem dX3_row_42 : decode cX3_row 42 = .ok (.ireturn, 1) := dk_172 (dk_at dksX3_row_1 18 rfl rfl)
theorem dX3_row_43 : decode cX3_row 43 = .ok (.aload_n 0, 1) := dk_42 (dk_at dksX3_row_1 19 rfl rfl)
theorem dX3_row_44 : decode cX3_row 44 = .ok (.getfield 7, 3) := dk_180 0 7 (dk_at dksX3_row_1 20 rfl rfl)
theorem dX3_row_47 : decode cX3_row 47 = .ok (.iload_n 1, 1) := dk_27 (dk_at dksX3_row_1 23 rfl rfl)
theorem dX3_row_48 : decode cX3_row 48 = .ok (.iconst 1, 1) := dk_4 (dk_at dksX3_row_2 0 rfl rfl)
theorem dX3_row_49 : decode cX3_row 49 = .ok (.iastore, 1) := dk_79 (dk_at dksX3_row_2 1 rfl rfl)
theorem dX3_row_50 : decode cX3_row 50 = .ok (.aload_n 0, 1) := dk_42 (dk_at dksX3_row_2 2 rfl rfl)
theorem dX3_row_51 : decode cX3_row 51 = .ok (.getfield 13, 3) := dk_180 0 13 (dk_at dksX3_row_2 3 rfl rfl)
theorem dX3_row_54 : decode cX3_row 54 = .ok (.iload_n 1, 1) := dk_27 (dk_at dksX3_row_2 6 rfl rfl)
theorem dX3_row_55 : decode cX3_row 55 = .ok (.iload_n 2, 1) := dk_28 (dk_at dksX3_row_2 7 rfl rfl)
theorem dX3_row_56 : decode cX3_row 56 = .ok (.iastore, 1) := dk_79 (dk_at dksX3_row_2 8 rfl rfl)
theorem dX3_row_57 : decode cX3_row 57 = .ok (.aload_n 0, 1) := dk_42 (dk_at dksX3_row_2 9 rfl rfl)
theorem dX3_row_58 : decode cX3_row 58 = .ok (.getfield 16, 3) := dk_180 0 16 (dk_at dksX3_row_2 10 rfl rfl)
theorem dX3_row_61 : decode cX3_row 61 = .ok (.iload_n 1, 1) := dk_27 (dk_at dksX3_row_2 13 rfl rfl)
theorem dX3_row_62 : decode cX3_row 62 = .ok (.iload_n 3, 1) := dk_29 (dk_at dksX3_row_2 14 rfl rfl)
theorem dX3_row_63 : decode cX3_row 63 = .ok (.iastore, 1) := dk_79 (dk_at dksX3_row_2 15 rfl rfl)
theorem dX3_row_64 : decode cX3_row 64 = .ok (.iconst 0, 1) := dk_3 (dk_at dksX3_row_2 16 rfl rfl)
theorem dX3_row_65 : decode cX3_row 65 = .ok (.istore 4, 2) := dk_54 4 (dk_at dksX3_row_2 17 rfl rfl)
theorem dX3_row_67 : decode cX3_row 67 = .ok (.iload 4, 2) := dk_21 4 (dk_at dksX3_row_2 19 rfl rfl)
theorem dX3_row_69 : decode cX3_row 69 = .ok (.bipush 40, 2) := dk_16 40 (dk_at dksX3_row_2 21 rfl rfl)
theorem dX3_row_71 : decode cX3_row 71 = .ok (.if_icmp .ge 19, 3) := dk_162 0 19 (dk_at dksX3_row_3 0 rfl rfl)
theorem dX3_row_74 : decode cX3_row 74 = .ok (.aload_n 0, 1) := dk_42 (dk_at dksX3_row_3 3 rfl rfl)
theorem dX3_row_75 : decode cX3_row 75 = .ok (.getfield 21, 3) := dk_180 0 21 (dk_at dksX3_row_3 4 rfl rfl)
theorem dX3_row_78 : decode cX3_row 78 = .ok (.iload_n 1, 1) := dk_27 (dk_at dksX3_row_3 7 rfl rfl)
theorem dX3_row_79 : decode cX3_row 79 = .ok (.aaload, 1) := dk_50 (dk_at dksX3_row_3 8 rfl rfl)
theorem dX3_row_80 : decode cX3_row 80 = .ok (.iload 4, 2) := dk_21 4 (dk_at dksX3_row_3 9 rfl rfl)
theorem dX3_row_82 : decode cX3_row 82 = .ok (.lconst 0, 1) := dk_9 (dk_at dksX3_row_3 11 rfl rfl)
theorem dX3_row_83 : decode cX3_row 83 = .ok (.lastore, 1) := dk_80 (dk_at dksX3_row_3 12 rfl rfl)
theorem dX3_row_84 : decode cX3_row 84 = .ok (.iinc 4 1, 3) := dk_132 4 1 (dk_at dksX3_row_3 13 rfl rfl)
theorem dX3_row_87 : decode cX3_row 87 = .ok (.goto (-20), 3) := dk_167 255 236 (dk_at dksX3_row_3 16 rfl rfl)
theorem dX3_row_90 : decode cX3_row 90 = .ok (.iconst 1, 1) := dk_4 (dk_at dksX3_row_3 19 rfl rfl)
theorem dX3_row_91 : decode cX3_row 91 = .ok (.ireturn, 1) := dk_172 (dk_at dksX3_row_3 20 rfl rfl)
abbrev cX3_in : ByteArray := prog_16_method_3_code
def yX3_in : MethodName := ⟨RX3, "in", "(JJJ)Z"⟩
def dkwX3_in_0 : List UInt8 := [30, 32, 148, 155, 0, 14, 30, 22, 4, 148, 157, 0, 7, 4, 167, 0, 4, 3, 172]
abbrev dktX3_in_0 : List UInt8 := dkwX3_in_0 ++ []
theorem dksX3_in_0 : cX3_in.data.toList.drop 0 = dktX3_in_0 := by decide +kernel
theorem dX3_in_0 : decode cX3_in 0 = .ok (.lload_n 0, 1) := dk_30 (dk_at dksX3_in_0 0 rfl rfl)
theorem dX3_in_1 : decode cX3_in 1 = .ok (.lload_n 2, 1) := dk_32 (dk_at dksX3_in_0 1 rfl rfl)
theorem dX3_in_2 : decode cX3_in 2 = .ok (.lcmp, 1) := dk_148 (dk_at dksX3_in_0 2 rfl rfl)
theorem dX3_in_3 : decode cX3_in 3 = .ok (.ifCond .lt 14, 3) := dk_155 0 14 (dk_at dksX3_in_0 3 rfl rfl)
theorem dX3_in_6 : decode cX3_in 6 = .ok (.lload_n 0, 1) := dk_30 (dk_at dksX3_in_0 6 rfl rfl)
theorem dX3_in_7 : decode cX3_in 7 = .ok (.lload 4, 2) := dk_22 4 (dk_at dksX3_in_0 7 rfl rfl)
theorem dX3_in_9 : decode cX3_in 9 = .ok (.lcmp, 1) := dk_148 (dk_at dksX3_in_0 9 rfl rfl)
theorem dX3_in_10 : decode cX3_in 10 = .ok (.ifCond .gt 7, 3) := dk_157 0 7 (dk_at dksX3_in_0 10 rfl rfl)
theorem dX3_in_13 : decode cX3_in 13 = .ok (.iconst 1, 1) := dk_4 (dk_at dksX3_in_0 13 rfl rfl)
theorem dX3_in_14 : decode cX3_in 14 = .ok (.goto 4, 3) := dk_167 0 4 (dk_at dksX3_in_0 14 rfl rfl)
theorem dX3_in_17 : decode cX3_in 17 = .ok (.iconst 0, 1) := dk_3 (dk_at dksX3_in_0 17 rfl rfl)
theorem dX3_in_18 : decode cX3_in 18 = .ok (.ireturn, 1) := dk_172 (dk_at dksX3_in_0 18 rfl rfl)
abbrev cX3_refuse : ByteArray := prog_16_method_2_code
def yX3_refuse : MethodName := ⟨RX3, "refuse", "(I)I"⟩
def dkwX3_refuse_0 : List UInt8 := [42, 180, 0, 34, 27, 116, 92, 46, 4, 96, 79, 27, 172]
abbrev dktX3_refuse_0 : List UInt8 := dkwX3_refuse_0 ++ []
theorem dksX3_refuse_0 : cX3_refuse.data.toList.drop 0 = dktX3_refuse_0 := by decide +kernel
theorem dX3_refuse_0 : decode cX3_refuse 0 = .ok (.aload_n 0, 1) := dk_42 (dk_at dksX3_refuse_0 0 rfl rfl)
theorem dX3_refuse_1 : decode cX3_refuse 1 = .ok (.getfield 34, 3) := dk_180 0 34 (dk_at dksX3_refuse_0 1 rfl rfl)
theorem dX3_refuse_4 : decode cX3_refuse 4 = .ok (.iload_n 1, 1) := dk_27 (dk_at dksX3_refuse_0 4 rfl rfl)
theorem dX3_refuse_5 : decode cX3_refuse 5 = .ok (.ineg, 1) := dk_116 (dk_at dksX3_refuse_0 5 rfl rfl)
theorem dX3_refuse_6 : decode cX3_refuse 6 = .ok (.dup2, 1) := dk_92 (dk_at dksX3_refuse_0 6 rfl rfl)
theorem dX3_refuse_7 : decode cX3_refuse 7 = .ok (.iaload, 1) := dk_46 (dk_at dksX3_refuse_0 7 rfl rfl)
theorem dX3_refuse_8 : decode cX3_refuse 8 = .ok (.iconst 1, 1) := dk_4 (dk_at dksX3_refuse_0 8 rfl rfl)
theorem dX3_refuse_9 : decode cX3_refuse 9 = .ok (.iadd, 1) := dk_96 (dk_at dksX3_refuse_0 9 rfl rfl)
theorem dX3_refuse_10 : decode cX3_refuse 10 = .ok (.iastore, 1) := dk_79 (dk_at dksX3_refuse_0 10 rfl rfl)
theorem dX3_refuse_11 : decode cX3_refuse 11 = .ok (.iload_n 1, 1) := dk_27 (dk_at dksX3_refuse_0 11 rfl rfl)
theorem dX3_refuse_12 : decode cX3_refuse 12 = .ok (.ireturn, 1) := dk_172 (dk_at dksX3_refuse_0 12 rfl rfl)
abbrev cX3_set : ByteArray := prog_16_method_11_code
def yX3_set : MethodName := ⟨RX3, "set", "(IIJ)I"⟩
def dkwX3_set_2 : List UInt8 := [180, 0, 13, 27, 46, 33, 184, 0, 98, 80, 4, 172]
abbrev dktX3_set_2 : List UInt8 := dkwX3_set_2 ++ []
def dkwX3_set_1 : List UInt8 := [4, 100, 133, 184, 0, 76, 154, 0, 10, 42, 16, 254, 182, 0, 91, 172, 42, 180, 0, 21, 27, 50, 28, 42]
abbrev dktX3_set_1 : List UInt8 := dkwX3_set_1 ++ dktX3_set_2
def dkwX3_set_0 : List UInt8 := [42, 27, 182, 0, 95, 54, 5, 21, 5, 153, 0, 6, 21, 5, 172, 28, 133, 9, 42, 180, 0, 16, 27, 46]
abbrev dktX3_set_0 : List UInt8 := dkwX3_set_0 ++ dktX3_set_1
theorem dksX3_set_0 : cX3_set.data.toList.drop 0 = dktX3_set_0 := by decide +kernel
theorem dksX3_set_1 : cX3_set.data.toList.drop 24 = dktX3_set_1 := dk_seg dksX3_set_0 24 rfl rfl
theorem dksX3_set_2 : cX3_set.data.toList.drop 48 = dktX3_set_2 := dk_seg dksX3_set_1 24 rfl rfl
theorem dX3_set_0 : decode cX3_set 0 = .ok (.aload_n 0, 1) := dk_42 (dk_at dksX3_set_0 0 rfl rfl)
theorem dX3_set_1 : decode cX3_set 1 = .ok (.iload_n 1, 1) := dk_27 (dk_at dksX3_set_0 1 rfl rfl)
theorem dX3_set_2 : decode cX3_set 2 = .ok (.invokevirtual 95, 3) := dk_182 0 95 (dk_at dksX3_set_0 2 rfl rfl)
theorem dX3_set_5 : decode cX3_set 5 = .ok (.istore 5, 2) := dk_54 5 (dk_at dksX3_set_0 5 rfl rfl)
theorem dX3_set_7 : decode cX3_set 7 = .ok (.iload 5, 2) := dk_21 5 (dk_at dksX3_set_0 7 rfl rfl)
theorem dX3_set_9 : decode cX3_set 9 = .ok (.ifCond .eq 6, 3) := dk_153 0 6 (dk_at dksX3_set_0 9 rfl rfl)
theorem dX3_set_12 : decode cX3_set 12 = .ok (.iload 5, 2) := dk_21 5 (dk_at dksX3_set_0 12 rfl rfl)
theorem dX3_set_14 : decode cX3_set 14 = .ok (.ireturn, 1) := dk_172 (dk_at dksX3_set_0 14 rfl rfl)
theorem dX3_set_15 : decode cX3_set 15 = .ok (.iload_n 2, 1) := dk_28 (dk_at dksX3_set_0 15 rfl rfl)
theorem dX3_set_16 : decode cX3_set 16 = .ok (.i2l, 1) := dk_133 (dk_at dksX3_set_0 16 rfl rfl)
theorem dX3_set_17 : decode cX3_set 17 = .ok (.lconst 0, 1) := dk_9 (dk_at dksX3_set_0 17 rfl rfl)
theorem dX3_set_18 : decode cX3_set 18 = .ok (.aload_n 0, 1) := dk_42 (dk_at dksX3_set_0 18 rfl rfl)
theorem dX3_set_19 : decode cX3_set 19 = .ok (.getfield 16, 3) := dk_180 0 16 (dk_at dksX3_set_0 19 rfl rfl)
theorem dX3_set_22 : decode cX3_set 22 = .ok (.iload_n 1, 1) := dk_27 (dk_at dksX3_set_0 22 rfl rfl)
theorem dX3_set_23 : decode cX3_set 23 = .ok (.iaload, 1) := dk_46 (dk_at dksX3_set_0 23 rfl rfl)
theorem dX3_set_24 : decode cX3_set 24 = .ok (.iconst 1, 1) := dk_4 (dk_at dksX3_set_1 0 rfl rfl)
theorem dX3_set_25 : decode cX3_set 25 = .ok (.isub, 1) := dk_100 (dk_at dksX3_set_1 1 rfl rfl)
theorem dX3_set_26 : decode cX3_set 26 = .ok (.i2l, 1) := dk_133 (dk_at dksX3_set_1 2 rfl rfl)
theorem dX3_set_27 : decode cX3_set 27 = .ok (.invokestatic 76, 3) := dk_184 0 76 (dk_at dksX3_set_1 3 rfl rfl)
theorem dX3_set_30 : decode cX3_set 30 = .ok (.ifCond .ne 10, 3) := dk_154 0 10 (dk_at dksX3_set_1 6 rfl rfl)
theorem dX3_set_33 : decode cX3_set 33 = .ok (.aload_n 0, 1) := dk_42 (dk_at dksX3_set_1 9 rfl rfl)
theorem dX3_set_34 : decode cX3_set 34 = .ok (.bipush (-2), 2) := dk_16 254 (dk_at dksX3_set_1 10 rfl rfl)
theorem dX3_set_36 : decode cX3_set 36 = .ok (.invokevirtual 91, 3) := dk_182 0 91 (dk_at dksX3_set_1 12 rfl rfl)
theorem dX3_set_39 : decode cX3_set 39 = .ok (.ireturn, 1) := dk_172 (dk_at dksX3_set_1 15 rfl rfl)
theorem dX3_set_40 : decode cX3_set 40 = .ok (.aload_n 0, 1) := dk_42 (dk_at dksX3_set_1 16 rfl rfl)
theorem dX3_set_41 : decode cX3_set 41 = .ok (.getfield 21, 3) := dk_180 0 21 (dk_at dksX3_set_1 17 rfl rfl)
theorem dX3_set_44 : decode cX3_set 44 = .ok (.iload_n 1, 1) := dk_27 (dk_at dksX3_set_1 20 rfl rfl)
theorem dX3_set_45 : decode cX3_set 45 = .ok (.aaload, 1) := dk_50 (dk_at dksX3_set_1 21 rfl rfl)
theorem dX3_set_46 : decode cX3_set 46 = .ok (.iload_n 2, 1) := dk_28 (dk_at dksX3_set_1 22 rfl rfl)
theorem dX3_set_47 : decode cX3_set 47 = .ok (.aload_n 0, 1) := dk_42 (dk_at dksX3_set_1 23 rfl rfl)
theorem dX3_set_48 : decode cX3_set 48 = .ok (.getfield 13, 3) := dk_180 0 13 (dk_at dksX3_set_2 0 rfl rfl)
theorem dX3_set_51 : decode cX3_set 51 = .ok (.iload_n 1, 1) := dk_27 (dk_at dksX3_set_2 3 rfl rfl)
theorem dX3_set_52 : decode cX3_set 52 = .ok (.iaload, 1) := dk_46 (dk_at dksX3_set_2 4 rfl rfl)
theorem dX3_set_53 : decode cX3_set 53 = .ok (.lload_n 3, 1) := dk_33 (dk_at dksX3_set_2 5 rfl rfl)
theorem dX3_set_54 : decode cX3_set 54 = .ok (.invokestatic 98, 3) := dk_184 0 98 (dk_at dksX3_set_2 6 rfl rfl)
theorem dX3_set_57 : decode cX3_set 57 = .ok (.lastore, 1) := dk_80 (dk_at dksX3_set_2 9 rfl rfl)
theorem dX3_set_58 : decode cX3_set 58 = .ok (.iconst 1, 1) := dk_4 (dk_at dksX3_set_2 10 rfl rfl)
theorem dX3_set_59 : decode cX3_set 59 = .ok (.ireturn, 1) := dk_172 (dk_at dksX3_set_2 11 rfl rfl)
abbrev cX3_noRow : ByteArray := prog_16_method_10_code
def yX3_noRow : MethodName := ⟨RX3, "noRow", "(I)I"⟩
def dkwX3_noRow_2 : List UInt8 := [182, 0, 91, 167, 0, 4, 3, 172]
abbrev dktX3_noRow_2 : List UInt8 := dkwX3_noRow_2 ++ []
def dkwX3_noRow_1 : List UInt8 := [46, 5, 160, 0, 10, 42, 16, 253, 182, 0, 91, 172, 42, 180, 0, 7, 27, 46, 154, 0, 12, 42, 16, 252]
abbrev dktX3_noRow_1 : List UInt8 := dkwX3_noRow_1 ++ dktX3_noRow_2
def dkwX3_noRow_0 : List UInt8 := [27, 133, 9, 20, 0, 85, 184, 0, 76, 154, 0, 10, 42, 16, 254, 182, 0, 91, 172, 42, 180, 0, 7, 27]
abbrev dktX3_noRow_0 : List UInt8 := dkwX3_noRow_0 ++ dktX3_noRow_1
theorem dksX3_noRow_0 : cX3_noRow.data.toList.drop 0 = dktX3_noRow_0 := by decide +kernel
theorem dksX3_noRow_1 : cX3_noRow.data.toList.drop 24 = dktX3_noRow_1 := dk_seg dksX3_noRow_0 24 rfl rfl
theorem dksX3_noRow_2 : cX3_noRow.data.toList.drop 48 = dktX3_noRow_2 := dk_seg dksX3_noRow_1 24 rfl rfl
theorem dX3_noRow_0 : decode cX3_noRow 0 = .ok (.iload_n 1, 1) := dk_27 (dk_at dksX3_noRow_0 0 rfl rfl)
theorem dX3_noRow_1 : decode cX3_noRow 1 = .ok (.i2l, 1) := dk_133 (dk_at dksX3_noRow_0 1 rfl rfl)
theorem dX3_noRow_2 : decode cX3_noRow 2 = .ok (.lconst 0, 1) := dk_9 (dk_at dksX3_noRow_0 2 rfl rfl)
theorem dX3_noRow_3 : decode cX3_noRow 3 = .ok (.ldc2_w 85, 3) := dk_20 0 85 (dk_at dksX3_noRow_0 3 rfl rfl)
theorem dX3_noRow_6 : decode cX3_noRow 6 = .ok (.invokestatic 76, 3) := dk_184 0 76 (dk_at dksX3_noRow_0 6 rfl rfl)
theorem dX3_noRow_9 : decode cX3_noRow 9 = .ok (.ifCond .ne 10, 3) := dk_154 0 10 (dk_at dksX3_noRow_0 9 rfl rfl)
theorem dX3_noRow_12 : decode cX3_noRow 12 = .ok (.aload_n 0, 1) := dk_42 (dk_at dksX3_noRow_0 12 rfl rfl)
theorem dX3_noRow_13 : decode cX3_noRow 13 = .ok (.bipush (-2), 2) := dk_16 254 (dk_at dksX3_noRow_0 13 rfl rfl)
theorem dX3_noRow_15 : decode cX3_noRow 15 = .ok (.invokevirtual 91, 3) := dk_182 0 91 (dk_at dksX3_noRow_0 15 rfl rfl)
theorem dX3_noRow_18 : decode cX3_noRow 18 = .ok (.ireturn, 1) := dk_172 (dk_at dksX3_noRow_0 18 rfl rfl)
theorem dX3_noRow_19 : decode cX3_noRow 19 = .ok (.aload_n 0, 1) := dk_42 (dk_at dksX3_noRow_0 19 rfl rfl)
theorem dX3_noRow_20 : decode cX3_noRow 20 = .ok (.getfield 7, 3) := dk_180 0 7 (dk_at dksX3_noRow_0 20 rfl rfl)
theorem dX3_noRow_23 : decode cX3_noRow 23 = .ok (.iload_n 1, 1) := dk_27 (dk_at dksX3_noRow_0 23 rfl rfl)
theorem dX3_noRow_24 : decode cX3_noRow 24 = .ok (.iaload, 1) := dk_46 (dk_at dksX3_noRow_1 0 rfl rfl)
theorem dX3_noRow_25 : decode cX3_noRow 25 = .ok (.iconst 2, 1) := dk_5 (dk_at dksX3_noRow_1 1 rfl rfl)
theorem dX3_noRow_26 : decode cX3_noRow 26 = .ok (.if_icmp .ne 10, 3) := dk_160 0 10 (dk_at dksX3_noRow_1 2 rfl rfl)
theorem dX3_noRow_29 : decode cX3_noRow 29 = .ok (.aload_n 0, 1) := dk_42 (dk_at dksX3_noRow_1 5 rfl rfl)
theorem dX3_noRow_30 : decode cX3_noRow 30 = .ok (.bipush (-3), 2) := dk_16 253 (dk_at dksX3_noRow_1 6 rfl rfl)
theorem dX3_noRow_32 : decode cX3_noRow 32 = .ok (.invokevirtual 91, 3) := dk_182 0 91 (dk_at dksX3_noRow_1 8 rfl rfl)
theorem dX3_noRow_35 : decode cX3_noRow 35 = .ok (.ireturn, 1) := dk_172 (dk_at dksX3_noRow_1 11 rfl rfl)
theorem dX3_noRow_36 : decode cX3_noRow 36 = .ok (.aload_n 0, 1) := dk_42 (dk_at dksX3_noRow_1 12 rfl rfl)
theorem dX3_noRow_37 : decode cX3_noRow 37 = .ok (.getfield 7, 3) := dk_180 0 7 (dk_at dksX3_noRow_1 13 rfl rfl)
theorem dX3_noRow_40 : decode cX3_noRow 40 = .ok (.iload_n 1, 1) := dk_27 (dk_at dksX3_noRow_1 16 rfl rfl)
theorem dX3_noRow_41 : decode cX3_noRow 41 = .ok (.iaload, 1) := dk_46 (dk_at dksX3_noRow_1 17 rfl rfl)
theorem dX3_noRow_42 : decode cX3_noRow 42 = .ok (.ifCond .ne 12, 3) := dk_154 0 12 (dk_at dksX3_noRow_1 18 rfl rfl)
theorem dX3_noRow_45 : decode cX3_noRow 45 = .ok (.aload_n 0, 1) := dk_42 (dk_at dksX3_noRow_1 21 rfl rfl)
theorem dX3_noRow_46 : decode cX3_noRow 46 = .ok (.bipush (-4), 2) := dk_16 252 (dk_at dksX3_noRow_1 22 rfl rfl)
theorem dX3_noRow_48 : decode cX3_noRow 48 = .ok (.invokevirtual 91, 3) := dk_182 0 91 (dk_at dksX3_noRow_2 0 rfl rfl)
theorem dX3_noRow_51 : decode cX3_noRow 51 = .ok (.goto 4, 3) := dk_167 0 4 (dk_at dksX3_noRow_2 3 rfl rfl)
theorem dX3_noRow_54 : decode cX3_noRow 54 = .ok (.iconst 0, 1) := dk_3 (dk_at dksX3_noRow_2 6 rfl rfl)
theorem dX3_noRow_55 : decode cX3_noRow 55 = .ok (.ireturn, 1) := dk_172 (dk_at dksX3_noRow_2 7 rfl rfl)
abbrev cX3_fit : ByteArray := prog_16_method_9_code
def yX3_fit : MethodName := ⟨RX3, "fit", "(IJ)J"⟩
def dkwX3_fit_3 : List UInt8 := [167, 0, 4, 9, 173]
abbrev dktX3_fit_3 : List UInt8 := dkwX3_fit_3 ++ []
def dkwX3_fit_2 : List UInt8 := [31, 136, 145, 133, 173, 31, 136, 147, 133, 173, 31, 136, 133, 173, 31, 173, 31, 9, 148, 153, 0, 7, 10]
abbrev dktX3_fit_2 : List UInt8 := dkwX3_fit_2 ++ dktX3_fit_3
def dkwX3_fit_1 : List UInt8 := [170, 0, 0, 0, 0, 0, 47, 0, 0, 0, 0, 0, 0, 0, 3, 0, 0, 0, 31, 0, 0, 0, 36, 0, 0, 0, 41, 0, 0, 0, 45]
abbrev dktX3_fit_1 : List UInt8 := dkwX3_fit_1 ++ dktX3_fit_2
def dkwX3_fit_0 : List UInt8 := [26]
abbrev dktX3_fit_0 : List UInt8 := dkwX3_fit_0 ++ dktX3_fit_1
theorem dksX3_fit_0 : cX3_fit.data.toList.drop 0 = dktX3_fit_0 := by decide +kernel
theorem dksX3_fit_1 : cX3_fit.data.toList.drop 1 = dktX3_fit_1 := dk_seg dksX3_fit_0 1 rfl rfl
theorem dksX3_fit_2 : cX3_fit.data.toList.drop 32 = dktX3_fit_2 := dk_seg dksX3_fit_1 31 rfl rfl
theorem dksX3_fit_3 : cX3_fit.data.toList.drop 55 = dktX3_fit_3 := dk_seg dksX3_fit_2 23 rfl rfl
theorem dX3_fit_0 : decode cX3_fit 0 = .ok (.iload_n 0, 1) := dk_26 (dk_at dksX3_fit_0 0 rfl rfl)
theorem dX3_fit_1 : decode cX3_fit 1 = .ok (.tableswitch 47 0 3 #[31, 36, 41, 45], 31) := by decide +kernel
theorem dX3_fit_32 : decode cX3_fit 32 = .ok (.lload_n 1, 1) := dk_31 (dk_at dksX3_fit_2 0 rfl rfl)
theorem dX3_fit_33 : decode cX3_fit 33 = .ok (.l2i, 1) := dk_136 (dk_at dksX3_fit_2 1 rfl rfl)
theorem dX3_fit_34 : decode cX3_fit 34 = .ok (.i2b, 1) := dk_145 (dk_at dksX3_fit_2 2 rfl rfl)
theorem dX3_fit_35 : decode cX3_fit 35 = .ok (.i2l, 1) := dk_133 (dk_at dksX3_fit_2 3 rfl rfl)
theorem dX3_fit_36 : decode cX3_fit 36 = .ok (.lreturn, 1) := dk_173 (dk_at dksX3_fit_2 4 rfl rfl)
theorem dX3_fit_37 : decode cX3_fit 37 = .ok (.lload_n 1, 1) := dk_31 (dk_at dksX3_fit_2 5 rfl rfl)
theorem dX3_fit_38 : decode cX3_fit 38 = .ok (.l2i, 1) := dk_136 (dk_at dksX3_fit_2 6 rfl rfl)
theorem dX3_fit_39 : decode cX3_fit 39 = .ok (.i2s, 1) := dk_147 (dk_at dksX3_fit_2 7 rfl rfl)
theorem dX3_fit_40 : decode cX3_fit 40 = .ok (.i2l, 1) := dk_133 (dk_at dksX3_fit_2 8 rfl rfl)
theorem dX3_fit_41 : decode cX3_fit 41 = .ok (.lreturn, 1) := dk_173 (dk_at dksX3_fit_2 9 rfl rfl)
theorem dX3_fit_42 : decode cX3_fit 42 = .ok (.lload_n 1, 1) := dk_31 (dk_at dksX3_fit_2 10 rfl rfl)
theorem dX3_fit_43 : decode cX3_fit 43 = .ok (.l2i, 1) := dk_136 (dk_at dksX3_fit_2 11 rfl rfl)
theorem dX3_fit_44 : decode cX3_fit 44 = .ok (.i2l, 1) := dk_133 (dk_at dksX3_fit_2 12 rfl rfl)
theorem dX3_fit_45 : decode cX3_fit 45 = .ok (.lreturn, 1) := dk_173 (dk_at dksX3_fit_2 13 rfl rfl)
theorem dX3_fit_46 : decode cX3_fit 46 = .ok (.lload_n 1, 1) := dk_31 (dk_at dksX3_fit_2 14 rfl rfl)
theorem dX3_fit_47 : decode cX3_fit 47 = .ok (.lreturn, 1) := dk_173 (dk_at dksX3_fit_2 15 rfl rfl)
theorem dX3_fit_48 : decode cX3_fit 48 = .ok (.lload_n 1, 1) := dk_31 (dk_at dksX3_fit_2 16 rfl rfl)
theorem dX3_fit_49 : decode cX3_fit 49 = .ok (.lconst 0, 1) := dk_9 (dk_at dksX3_fit_2 17 rfl rfl)
theorem dX3_fit_50 : decode cX3_fit 50 = .ok (.lcmp, 1) := dk_148 (dk_at dksX3_fit_2 18 rfl rfl)
theorem dX3_fit_51 : decode cX3_fit 51 = .ok (.ifCond .eq 7, 3) := dk_153 0 7 (dk_at dksX3_fit_2 19 rfl rfl)
theorem dX3_fit_54 : decode cX3_fit 54 = .ok (.lconst 1, 1) := dk_10 (dk_at dksX3_fit_2 22 rfl rfl)
theorem dX3_fit_55 : decode cX3_fit 55 = .ok (.goto 4, 3) := dk_167 0 4 (dk_at dksX3_fit_3 0 rfl rfl)
theorem dX3_fit_58 : decode cX3_fit 58 = .ok (.lconst 0, 1) := dk_9 (dk_at dksX3_fit_3 3 rfl rfl)
theorem dX3_fit_59 : decode cX3_fit 59 = .ok (.lreturn, 1) := dk_173 (dk_at dksX3_fit_3 4 rfl rfl)
abbrev cX3_copy : ByteArray := prog_16_method_12_code
def yX3_copy : MethodName := ⟨RX3, "copy", "(IIIII)I"⟩
def dkwX3_copy_11 : List UInt8 := [21, 5, 172]
abbrev dktX3_copy_11 : List UInt8 := dkwX3_copy_11 ++ []
def dkwX3_copy_10 : List UInt8 := [180, 0, 21, 28, 50, 21, 4, 21, 6, 96, 42, 180, 0, 24, 21, 6, 47, 80, 132, 6, 1, 167, 255, 227]
abbrev dktX3_copy_10 : List UInt8 := dkwX3_copy_10 ++ dktX3_copy_11
def dkwX3_copy_9 : List UInt8 := [21, 6, 96, 47, 80, 132, 6, 1, 167, 255, 228, 3, 54, 6, 21, 6, 21, 5, 162, 0, 28, 42]
abbrev dktX3_copy_9 : List UInt8 := dkwX3_copy_9 ++ dktX3_copy_10
def dkwX3_copy_8 : List UInt8 := [3, 54, 6, 21, 6, 21, 5, 162, 0, 27, 42, 180, 0, 24, 21, 6, 42, 180, 0, 21, 27, 50, 29]
abbrev dktX3_copy_8 : List UInt8 := dkwX3_copy_8 ++ dktX3_copy_9
def dkwX3_copy_7 : List UInt8 := [163, 0, 17, 21, 4, 42, 180, 0, 16, 28, 46, 21, 5, 100, 164, 0, 10, 42, 16, 254, 182, 0, 91, 172]
abbrev dktX3_copy_7 : List UInt8 := dkwX3_copy_7 ++ dktX3_copy_8
def dkwX3_copy_6 : List UInt8 := [163, 0, 41, 21, 5, 42, 180, 0, 16, 28, 46, 163, 0, 30, 29, 42, 180, 0, 16, 27, 46, 21, 5, 100]
abbrev dktX3_copy_6 : List UInt8 := dkwX3_copy_6 ++ dktX3_copy_7
def dkwX3_copy_5 : List UInt8 := [21, 5, 155, 0, 61, 29, 155, 0, 57, 21, 4, 155, 0, 52, 21, 5, 42, 180, 0, 16, 27, 46]
abbrev dktX3_copy_5 : List UInt8 := dkwX3_copy_5 ++ dktX3_copy_6
def dkwX3_copy_4 : List UInt8 := [180, 0, 7, 27, 46, 153, 0, 12, 42, 180, 0, 7, 28, 46, 154, 0, 10, 42, 16, 252, 182, 0, 91, 172]
abbrev dktX3_copy_4 : List UInt8 := dkwX3_copy_4 ++ dktX3_copy_5
def dkwX3_copy_3 : List UInt8 := [180, 0, 13, 27, 46, 42, 180, 0, 13, 28, 46, 159, 0, 10, 42, 16, 253, 182, 0, 91, 172, 42]
abbrev dktX3_copy_3 : List UInt8 := dkwX3_copy_3 ++ dktX3_copy_4
def dkwX3_copy_2 : List UInt8 := [159, 0, 38, 42, 180, 0, 7, 27, 46, 4, 160, 0, 35, 42, 180, 0, 7, 28, 46, 4, 160, 0, 25, 42]
abbrev dktX3_copy_2 : List UInt8 := dkwX3_copy_2 ++ dktX3_copy_3
def dkwX3_copy_1 : List UInt8 := [42, 16, 254, 182, 0, 91, 172, 42, 180, 0, 7, 27, 46, 5, 159, 0, 48, 42, 180, 0, 7, 28, 46, 5]
abbrev dktX3_copy_1 : List UInt8 := dkwX3_copy_1 ++ dktX3_copy_2
def dkwX3_copy_0 : List UInt8 := [27, 133, 9, 20, 0, 85, 184, 0, 76, 153, 0, 15, 28, 133, 9, 20, 0, 85, 184, 0, 76, 154, 0, 10]
abbrev dktX3_copy_0 : List UInt8 := dkwX3_copy_0 ++ dktX3_copy_1
theorem dksX3_copy_0 : cX3_copy.data.toList.drop 0 = dktX3_copy_0 := by decide +kernel
theorem dksX3_copy_1 : cX3_copy.data.toList.drop 24 = dktX3_copy_1 := dk_seg dksX3_copy_0 24 rfl rfl
theorem dksX3_copy_2 : cX3_copy.data.toList.drop 48 = dktX3_copy_2 := dk_seg dksX3_copy_1 24 rfl rfl
theorem dksX3_copy_3 : cX3_copy.data.toList.drop 72 = dktX3_copy_3 := dk_seg dksX3_copy_2 24 rfl rfl
theorem dksX3_copy_4 : cX3_copy.data.toList.drop 94 = dktX3_copy_4 := dk_seg dksX3_copy_3 22 rfl rfl
theorem dksX3_copy_5 : cX3_copy.data.toList.drop 118 = dktX3_copy_5 := dk_seg dksX3_copy_4 24 rfl rfl
theorem dksX3_copy_6 : cX3_copy.data.toList.drop 140 = dktX3_copy_6 := dk_seg dksX3_copy_5 22 rfl rfl
theorem dksX3_copy_7 : cX3_copy.data.toList.drop 164 = dktX3_copy_7 := dk_seg dksX3_copy_6 24 rfl rfl
theorem dksX3_copy_8 : cX3_copy.data.toList.drop 188 = dktX3_copy_8 := dk_seg dksX3_copy_7 24 rfl rfl
theorem dksX3_copy_9 : cX3_copy.data.toList.drop 211 = dktX3_copy_9 := dk_seg dksX3_copy_8 23 rfl rfl
theorem dksX3_copy_10 : cX3_copy.data.toList.drop 233 = dktX3_copy_10 := dk_seg dksX3_copy_9 22 rfl rfl
theorem dksX3_copy_11 : cX3_copy.data.toList.drop 257 = dktX3_copy_11 := dk_seg dksX3_copy_10 24 rfl rfl
theorem dX3_copy_0 : decode cX3_copy 0 = .ok (.iload_n 1, 1) := dk_27 (dk_at dksX3_copy_0 0 rfl rfl)
theorem dX3_copy_1 : decode cX3_copy 1 = .ok (.i2l, 1) := dk_133 (dk_at dksX3_copy_0 1 rfl rfl)
theorem dX3_copy_2 : decode cX3_copy 2 = .ok (.lconst 0, 1) := dk_9 (dk_at dksX3_copy_0 2 rfl rfl)
theorem dX3_copy_3 : decode cX3_copy 3 = .ok (.ldc2_w 85, 3) := dk_20 0 85 (dk_at dksX3_copy_0 3 rfl rfl)
theorem dX3_copy_6 : decode cX3_copy 6 = .ok (.invokestatic 76, 3) := dk_184 0 76 (dk_at dksX3_copy_0 6 rfl rfl)
theorem dX3_copy_9 : decode cX3_copy 9 = .ok (.ifCond .eq 15, 3) := dk_153 0 15 (dk_at dksX3_copy_0 9 rfl rfl)
theorem dX3_copy_12 : decode cX3_copy 12 = .ok (.iload_n 2, 1) := dk_28 (dk_at dksX3_copy_0 12 rfl rfl)
theorem dX3_copy_13 : decode cX3_copy 13 = .ok (.i2l, 1) := dk_133 (dk_at dksX3_copy_0 13 rfl rfl)
theorem dX3_copy_14 : decode cX3_copy 14 = .ok (.lconst 0, 1) := dk_9 (dk_at dksX3_copy_0 14 rfl rfl)
theorem dX3_copy_15 : decode cX3_copy 15 = .ok (.ldc2_w 85, 3) := dk_20 0 85 (dk_at dksX3_copy_0 15 rfl rfl)
theorem dX3_copy_18 : decode cX3_copy 18 = .ok (.invokestatic 76, 3) := dk_184 0 76 (dk_at dksX3_copy_0 18 rfl rfl)
theorem dX3_copy_21 : decode cX3_copy 21 = .ok (.ifCond .ne 10, 3) := dk_154 0 10 (dk_at dksX3_copy_0 21 rfl rfl)
theorem dX3_copy_24 : decode cX3_copy 24 = .ok (.aload_n 0, 1) := dk_42 (dk_at dksX3_copy_1 0 rfl rfl)
theorem dX3_copy_25 : decode cX3_copy 25 = .ok (.bipush (-2), 2) := dk_16 254 (dk_at dksX3_copy_1 1 rfl rfl)
theorem dX3_copy_27 : decode cX3_copy 27 = .ok (.invokevirtual 91, 3) := dk_182 0 91 (dk_at dksX3_copy_1 3 rfl rfl)
theorem dX3_copy_30 : decode cX3_copy 30 = .ok (.ireturn, 1) := dk_172 (dk_at dksX3_copy_1 6 rfl rfl)
theorem dX3_copy_31 : decode cX3_copy 31 = .ok (.aload_n 0, 1) := dk_42 (dk_at dksX3_copy_1 7 rfl rfl)
theorem dX3_copy_32 : decode cX3_copy 32 = .ok (.getfield 7, 3) := dk_180 0 7 (dk_at dksX3_copy_1 8 rfl rfl)
theorem dX3_copy_35 : decode cX3_copy 35 = .ok (.iload_n 1, 1) := dk_27 (dk_at dksX3_copy_1 11 rfl rfl)
theorem dX3_copy_36 : decode cX3_copy 36 = .ok (.iaload, 1) := dk_46 (dk_at dksX3_copy_1 12 rfl rfl)
theorem dX3_copy_37 : decode cX3_copy 37 = .ok (.iconst 2, 1) := dk_5 (dk_at dksX3_copy_1 13 rfl rfl)
theorem dX3_copy_38 : decode cX3_copy 38 = .ok (.if_icmp .eq 48, 3) := dk_159 0 48 (dk_at dksX3_copy_1 14 rfl rfl)
theorem dX3_copy_41 : decode cX3_copy 41 = .ok (.aload_n 0, 1) := dk_42 (dk_at dksX3_copy_1 17 rfl rfl)
theorem dX3_copy_42 : decode cX3_copy 42 = .ok (.getfield 7, 3) := dk_180 0 7 (dk_at dksX3_copy_1 18 rfl rfl)
theorem dX3_copy_45 : decode cX3_copy 45 = .ok (.iload_n 2, 1) := dk_28 (dk_at dksX3_copy_1 21 rfl rfl)
theorem dX3_copy_46 : decode cX3_copy 46 = .ok (.iaload, 1) := dk_46 (dk_at dksX3_copy_1 22 rfl rfl)
theorem dX3_copy_47 : decode cX3_copy 47 = .ok (.iconst 2, 1) := dk_5 (dk_at dksX3_copy_1 23 rfl rfl)
theorem dX3_copy_48 : decode cX3_copy 48 = .ok (.if_icmp .eq 38, 3) := dk_159 0 38 (dk_at dksX3_copy_2 0 rfl rfl)
theorem dX3_copy_51 : decode cX3_copy 51 = .ok (.aload_n 0, 1) := dk_42 (dk_at dksX3_copy_2 3 rfl rfl)
theorem dX3_copy_52 : decode cX3_copy 52 = .ok (.getfield 7, 3) := dk_180 0 7 (dk_at dksX3_copy_2 4 rfl rfl)
theorem dX3_copy_55 : decode cX3_copy 55 = .ok (.iload_n 1, 1) := dk_27 (dk_at dksX3_copy_2 7 rfl rfl)
theorem dX3_copy_56 : decode cX3_copy 56 = .ok (.iaload, 1) := dk_46 (dk_at dksX3_copy_2 8 rfl rfl)
theorem dX3_copy_57 : decode cX3_copy 57 = .ok (.iconst 1, 1) := dk_4 (dk_at dksX3_copy_2 9 rfl rfl)
theorem dX3_copy_58 : decode cX3_copy 58 = .ok (.if_icmp .ne 35, 3) := dk_160 0 35 (dk_at dksX3_copy_2 10 rfl rfl)
theorem dX3_copy_61 : decode cX3_copy 61 = .ok (.aload_n 0, 1) := dk_42 (dk_at dksX3_copy_2 13 rfl rfl)
theorem dX3_copy_62 : decode cX3_copy 62 = .ok (.getfield 7, 3) := dk_180 0 7 (dk_at dksX3_copy_2 14 rfl rfl)
theorem dX3_copy_65 : decode cX3_copy 65 = .ok (.iload_n 2, 1) := dk_28 (dk_at dksX3_copy_2 17 rfl rfl)
theorem dX3_copy_66 : decode cX3_copy 66 = .ok (.iaload, 1) := dk_46 (dk_at dksX3_copy_2 18 rfl rfl)
theorem dX3_copy_67 : decode cX3_copy 67 = .ok (.iconst 1, 1) := dk_4 (dk_at dksX3_copy_2 19 rfl rfl)
theorem dX3_copy_68 : decode cX3_copy 68 = .ok (.if_icmp .ne 25, 3) := dk_160 0 25 (dk_at dksX3_copy_2 20 rfl rfl)
theorem dX3_copy_71 : decode cX3_copy 71 = .ok (.aload_n 0, 1) := dk_42 (dk_at dksX3_copy_2 23 rfl rfl)
theorem dX3_copy_72 : decode cX3_copy 72 = .ok (.getfield 13, 3) := dk_180 0 13 (dk_at dksX3_copy_3 0 rfl rfl)
theorem dX3_copy_75 : decode cX3_copy 75 = .ok (.iload_n 1, 1) := dk_27 (dk_at dksX3_copy_3 3 rfl rfl)
theorem dX3_copy_76 : decode cX3_copy 76 = .ok (.iaload, 1) := dk_46 (dk_at dksX3_copy_3 4 rfl rfl)
theorem dX3_copy_77 : decode cX3_copy 77 = .ok (.aload_n 0, 1) := dk_42 (dk_at dksX3_copy_3 5 rfl rfl)
theorem dX3_copy_78 : decode cX3_copy 78 = .ok (.getfield 13, 3) := dk_180 0 13 (dk_at dksX3_copy_3 6 rfl rfl)
theorem dX3_copy_81 : decode cX3_copy 81 = .ok (.iload_n 2, 1) := dk_28 (dk_at dksX3_copy_3 9 rfl rfl)
theorem dX3_copy_82 : decode cX3_copy 82 = .ok (.iaload, 1) := dk_46 (dk_at dksX3_copy_3 10 rfl rfl)
theorem dX3_copy_83 : decode cX3_copy 83 = .ok (.if_icmp .eq 10, 3) := dk_159 0 10 (dk_at dksX3_copy_3 11 rfl rfl)
theorem dX3_copy_86 : decode cX3_copy 86 = .ok (.aload_n 0, 1) := dk_42 (dk_at dksX3_copy_3 14 rfl rfl)
theorem dX3_copy_87 : decode cX3_copy 87 = .ok (.bipush (-3), 2) := dk_16 253 (dk_at dksX3_copy_3 15 rfl rfl)
theorem dX3_copy_89 : decode cX3_copy 89 = .ok (.invokevirtual 91, 3) := dk_182 0 91 (dk_at dksX3_copy_3 17 rfl rfl)
theorem dX3_copy_92 : decode cX3_copy 92 = .ok (.ireturn, 1) := dk_172 (dk_at dksX3_copy_3 20 rfl rfl)
theorem dX3_copy_93 : decode cX3_copy 93 = .ok (.aload_n 0, 1) := dk_42 (dk_at dksX3_copy_3 21 rfl rfl)
theorem dX3_copy_94 : decode cX3_copy 94 = .ok (.getfield 7, 3) := dk_180 0 7 (dk_at dksX3_copy_4 0 rfl rfl)
theorem dX3_copy_97 : decode cX3_copy 97 = .ok (.iload_n 1, 1) := dk_27 (dk_at dksX3_copy_4 3 rfl rfl)
theorem dX3_copy_98 : decode cX3_copy 98 = .ok (.iaload, 1) := dk_46 (dk_at dksX3_copy_4 4 rfl rfl)
theorem dX3_copy_99 : decode cX3_copy 99 = .ok (.ifCond .eq 12, 3) := dk_153 0 12 (dk_at dksX3_copy_4 5 rfl rfl)
theorem dX3_copy_102 : decode cX3_copy 102 = .ok (.aload_n 0, 1) := dk_42 (dk_at dksX3_copy_4 8 rfl rfl)
theorem dX3_copy_103 : decode cX3_copy 103 = .ok (.getfield 7, 3) := dk_180 0 7 (dk_at dksX3_copy_4 9 rfl rfl)
theorem dX3_copy_106 : decode cX3_copy 106 = .ok (.iload_n 2, 1) := dk_28 (dk_at dksX3_copy_4 12 rfl rfl)
theorem dX3_copy_107 : decode cX3_copy 107 = .ok (.iaload, 1) := dk_46 (dk_at dksX3_copy_4 13 rfl rfl)
theorem dX3_copy_108 : decode cX3_copy 108 = .ok (.ifCond .ne 10, 3) := dk_154 0 10 (dk_at dksX3_copy_4 14 rfl rfl)
theorem dX3_copy_111 : decode cX3_copy 111 = .ok (.aload_n 0, 1) := dk_42 (dk_at dksX3_copy_4 17 rfl rfl)
theorem dX3_copy_112 : decode cX3_copy 112 = .ok (.bipush (-4), 2) := dk_16 252 (dk_at dksX3_copy_4 18 rfl rfl)
theorem dX3_copy_114 : decode cX3_copy 114 = .ok (.invokevirtual 91, 3) := dk_182 0 91 (dk_at dksX3_copy_4 20 rfl rfl)
theorem dX3_copy_117 : decode cX3_copy 117 = .ok (.ireturn, 1) := dk_172 (dk_at dksX3_copy_4 23 rfl rfl)
theorem dX3_copy_118 : decode cX3_copy 118 = .ok (.iload 5, 2) := dk_21 5 (dk_at dksX3_copy_5 0 rfl rfl)
theorem dX3_copy_120 : decode cX3_copy 120 = .ok (.ifCond .lt 61, 3) := dk_155 0 61 (dk_at dksX3_copy_5 2 rfl rfl)
theorem dX3_copy_123 : decode cX3_copy 123 = .ok (.iload_n 3, 1) := dk_29 (dk_at dksX3_copy_5 5 rfl rfl)
theorem dX3_copy_124 : decode cX3_copy 124 = .ok (.ifCond .lt 57, 3) := dk_155 0 57 (dk_at dksX3_copy_5 6 rfl rfl)
theorem dX3_copy_127 : decode cX3_copy 127 = .ok (.iload 4, 2) := dk_21 4 (dk_at dksX3_copy_5 9 rfl rfl)
theorem dX3_copy_129 : decode cX3_copy 129 = .ok (.ifCond .lt 52, 3) := dk_155 0 52 (dk_at dksX3_copy_5 11 rfl rfl)
theorem dX3_copy_132 : decode cX3_copy 132 = .ok (.iload 5, 2) := dk_21 5 (dk_at dksX3_copy_5 14 rfl rfl)
theorem dX3_copy_134 : decode cX3_copy 134 = .ok (.aload_n 0, 1) := dk_42 (dk_at dksX3_copy_5 16 rfl rfl)
theorem dX3_copy_135 : decode cX3_copy 135 = .ok (.getfield 16, 3) := dk_180 0 16 (dk_at dksX3_copy_5 17 rfl rfl)
theorem dX3_copy_138 : decode cX3_copy 138 = .ok (.iload_n 1, 1) := dk_27 (dk_at dksX3_copy_5 20 rfl rfl)
theorem dX3_copy_139 : decode cX3_copy 139 = .ok (.iaload, 1) := dk_46 (dk_at dksX3_copy_5 21 rfl rfl)
theorem dX3_copy_140 : decode cX3_copy 140 = .ok (.if_icmp .gt 41, 3) := dk_163 0 41 (dk_at dksX3_copy_6 0 rfl rfl)
theorem dX3_copy_143 : decode cX3_copy 143 = .ok (.iload 5, 2) := dk_21 5 (dk_at dksX3_copy_6 3 rfl rfl)
theorem dX3_copy_145 : decode cX3_copy 145 = .ok (.aload_n 0, 1) := dk_42 (dk_at dksX3_copy_6 5 rfl rfl)
theorem dX3_copy_146 : decode cX3_copy 146 = .ok (.getfield 16, 3) := dk_180 0 16 (dk_at dksX3_copy_6 6 rfl rfl)
theorem dX3_copy_149 : decode cX3_copy 149 = .ok (.iload_n 2, 1) := dk_28 (dk_at dksX3_copy_6 9 rfl rfl)
theorem dX3_copy_150 : decode cX3_copy 150 = .ok (.iaload, 1) := dk_46 (dk_at dksX3_copy_6 10 rfl rfl)
theorem dX3_copy_151 : decode cX3_copy 151 = .ok (.if_icmp .gt 30, 3) := dk_163 0 30 (dk_at dksX3_copy_6 11 rfl rfl)
theorem dX3_copy_154 : decode cX3_copy 154 = .ok (.iload_n 3, 1) := dk_29 (dk_at dksX3_copy_6 14 rfl rfl)
theorem dX3_copy_155 : decode cX3_copy 155 = .ok (.aload_n 0, 1) := dk_42 (dk_at dksX3_copy_6 15 rfl rfl)
theorem dX3_copy_156 : decode cX3_copy 156 = .ok (.getfield 16, 3) := dk_180 0 16 (dk_at dksX3_copy_6 16 rfl rfl)
theorem dX3_copy_159 : decode cX3_copy 159 = .ok (.iload_n 1, 1) := dk_27 (dk_at dksX3_copy_6 19 rfl rfl)
theorem dX3_copy_160 : decode cX3_copy 160 = .ok (.iaload, 1) := dk_46 (dk_at dksX3_copy_6 20 rfl rfl)
theorem dX3_copy_161 : decode cX3_copy 161 = .ok (.iload 5, 2) := dk_21 5 (dk_at dksX3_copy_6 21 rfl rfl)
theorem dX3_copy_163 : decode cX3_copy 163 = .ok (.isub, 1) := dk_100 (dk_at dksX3_copy_6 23 rfl rfl)
theorem dX3_copy_164 : decode cX3_copy 164 = .ok (.if_icmp .gt 17, 3) := dk_163 0 17 (dk_at dksX3_copy_7 0 rfl rfl)
theorem dX3_copy_167 : decode cX3_copy 167 = .ok (.iload 4, 2) := dk_21 4 (dk_at dksX3_copy_7 3 rfl rfl)
theorem dX3_copy_169 : decode cX3_copy 169 = .ok (.aload_n 0, 1) := dk_42 (dk_at dksX3_copy_7 5 rfl rfl)
theorem dX3_copy_170 : decode cX3_copy 170 = .ok (.getfield 16, 3) := dk_180 0 16 (dk_at dksX3_copy_7 6 rfl rfl)
theorem dX3_copy_173 : decode cX3_copy 173 = .ok (.iload_n 2, 1) := dk_28 (dk_at dksX3_copy_7 9 rfl rfl)
theorem dX3_copy_174 : decode cX3_copy 174 = .ok (.iaload, 1) := dk_46 (dk_at dksX3_copy_7 10 rfl rfl)
theorem dX3_copy_175 : decode cX3_copy 175 = .ok (.iload 5, 2) := dk_21 5 (dk_at dksX3_copy_7 11 rfl rfl)
theorem dX3_copy_177 : decode cX3_copy 177 = .ok (.isub, 1) := dk_100 (dk_at dksX3_copy_7 13 rfl rfl)
theorem dX3_copy_178 : decode cX3_copy 178 = .ok (.if_icmp .le 10, 3) := dk_164 0 10 (dk_at dksX3_copy_7 14 rfl rfl)
theorem dX3_copy_181 : decode cX3_copy 181 = .ok (.aload_n 0, 1) := dk_42 (dk_at dksX3_copy_7 17 rfl rfl)
theorem dX3_copy_182 : decode cX3_copy 182 = .ok (.bipush (-2), 2) := dk_16 254 (dk_at dksX3_copy_7 18 rfl rfl)
theorem dX3_copy_184 : decode cX3_copy 184 = .ok (.invokevirtual 91, 3) := dk_182 0 91 (dk_at dksX3_copy_7 20 rfl rfl)
theorem dX3_copy_187 : decode cX3_copy 187 = .ok (.ireturn, 1) := dk_172 (dk_at dksX3_copy_7 23 rfl rfl)
theorem dX3_copy_188 : decode cX3_copy 188 = .ok (.iconst 0, 1) := dk_3 (dk_at dksX3_copy_8 0 rfl rfl)
theorem dX3_copy_189 : decode cX3_copy 189 = .ok (.istore 6, 2) := dk_54 6 (dk_at dksX3_copy_8 1 rfl rfl)
theorem dX3_copy_191 : decode cX3_copy 191 = .ok (.iload 6, 2) := dk_21 6 (dk_at dksX3_copy_8 3 rfl rfl)
theorem dX3_copy_193 : decode cX3_copy 193 = .ok (.iload 5, 2) := dk_21 5 (dk_at dksX3_copy_8 5 rfl rfl)
theorem dX3_copy_195 : decode cX3_copy 195 = .ok (.if_icmp .ge 27, 3) := dk_162 0 27 (dk_at dksX3_copy_8 7 rfl rfl)
theorem dX3_copy_198 : decode cX3_copy 198 = .ok (.aload_n 0, 1) := dk_42 (dk_at dksX3_copy_8 10 rfl rfl)
theorem dX3_copy_199 : decode cX3_copy 199 = .ok (.getfield 24, 3) := dk_180 0 24 (dk_at dksX3_copy_8 11 rfl rfl)
theorem dX3_copy_202 : decode cX3_copy 202 = .ok (.iload 6, 2) := dk_21 6 (dk_at dksX3_copy_8 14 rfl rfl)
theorem dX3_copy_204 : decode cX3_copy 204 = .ok (.aload_n 0, 1) := dk_42 (dk_at dksX3_copy_8 16 rfl rfl)
theorem dX3_copy_205 : decode cX3_copy 205 = .ok (.getfield 21, 3) := dk_180 0 21 (dk_at dksX3_copy_8 17 rfl rfl)
theorem dX3_copy_208 : decode cX3_copy 208 = .ok (.iload_n 1, 1) := dk_27 (dk_at dksX3_copy_8 20 rfl rfl)
theorem dX3_copy_209 : decode cX3_copy 209 = .ok (.aaload, 1) := dk_50 (dk_at dksX3_copy_8 21 rfl rfl)
theorem dX3_copy_210 : decode cX3_copy 210 = .ok (.iload_n 3, 1) := dk_29 (dk_at dksX3_copy_8 22 rfl rfl)
theorem dX3_copy_211 : decode cX3_copy 211 = .ok (.iload 6, 2) := dk_21 6 (dk_at dksX3_copy_9 0 rfl rfl)
theorem dX3_copy_213 : decode cX3_copy 213 = .ok (.iadd, 1) := dk_96 (dk_at dksX3_copy_9 2 rfl rfl)
theorem dX3_copy_214 : decode cX3_copy 214 = .ok (.laload, 1) := dk_47 (dk_at dksX3_copy_9 3 rfl rfl)
theorem dX3_copy_215 : decode cX3_copy 215 = .ok (.lastore, 1) := dk_80 (dk_at dksX3_copy_9 4 rfl rfl)
theorem dX3_copy_216 : decode cX3_copy 216 = .ok (.iinc 6 1, 3) := dk_132 6 1 (dk_at dksX3_copy_9 5 rfl rfl)
theorem dX3_copy_219 : decode cX3_copy 219 = .ok (.goto (-28), 3) := dk_167 255 228 (dk_at dksX3_copy_9 8 rfl rfl)
theorem dX3_copy_222 : decode cX3_copy 222 = .ok (.iconst 0, 1) := dk_3 (dk_at dksX3_copy_9 11 rfl rfl)
theorem dX3_copy_223 : decode cX3_copy 223 = .ok (.istore 6, 2) := dk_54 6 (dk_at dksX3_copy_9 12 rfl rfl)
theorem dX3_copy_225 : decode cX3_copy 225 = .ok (.iload 6, 2) := dk_21 6 (dk_at dksX3_copy_9 14 rfl rfl)
theorem dX3_copy_227 : decode cX3_copy 227 = .ok (.iload 5, 2) := dk_21 5 (dk_at dksX3_copy_9 16 rfl rfl)
theorem dX3_copy_229 : decode cX3_copy 229 = .ok (.if_icmp .ge 28, 3) := dk_162 0 28 (dk_at dksX3_copy_9 18 rfl rfl)
theorem dX3_copy_232 : decode cX3_copy 232 = .ok (.aload_n 0, 1) := dk_42 (dk_at dksX3_copy_9 21 rfl rfl)
theorem dX3_copy_233 : decode cX3_copy 233 = .ok (.getfield 21, 3) := dk_180 0 21 (dk_at dksX3_copy_10 0 rfl rfl)
theorem dX3_copy_236 : decode cX3_copy 236 = .ok (.iload_n 2, 1) := dk_28 (dk_at dksX3_copy_10 3 rfl rfl)
theorem dX3_copy_237 : decode cX3_copy 237 = .ok (.aaload, 1) := dk_50 (dk_at dksX3_copy_10 4 rfl rfl)
theorem dX3_copy_238 : decode cX3_copy 238 = .ok (.iload 4, 2) := dk_21 4 (dk_at dksX3_copy_10 5 rfl rfl)
theorem dX3_copy_240 : decode cX3_copy 240 = .ok (.iload 6, 2) := dk_21 6 (dk_at dksX3_copy_10 7 rfl rfl)
theorem dX3_copy_242 : decode cX3_copy 242 = .ok (.iadd, 1) := dk_96 (dk_at dksX3_copy_10 9 rfl rfl)
theorem dX3_copy_243 : decode cX3_copy 243 = .ok (.aload_n 0, 1) := dk_42 (dk_at dksX3_copy_10 10 rfl rfl)
theorem dX3_copy_244 : decode cX3_copy 244 = .ok (.getfield 24, 3) := dk_180 0 24 (dk_at dksX3_copy_10 11 rfl rfl)
theorem dX3_copy_247 : decode cX3_copy 247 = .ok (.iload 6, 2) := dk_21 6 (dk_at dksX3_copy_10 14 rfl rfl)
theorem dX3_copy_249 : decode cX3_copy 249 = .ok (.laload, 1) := dk_47 (dk_at dksX3_copy_10 16 rfl rfl)
theorem dX3_copy_250 : decode cX3_copy 250 = .ok (.lastore, 1) := dk_80 (dk_at dksX3_copy_10 17 rfl rfl)
theorem dX3_copy_251 : decode cX3_copy 251 = .ok (.iinc 6 1, 3) := dk_132 6 1 (dk_at dksX3_copy_10 18 rfl rfl)
theorem dX3_copy_254 : decode cX3_copy 254 = .ok (.goto (-29), 3) := dk_167 255 227 (dk_at dksX3_copy_10 21 rfl rfl)
theorem dX3_copy_257 : decode cX3_copy 257 = .ok (.iload 5, 2) := dk_21 5 (dk_at dksX3_copy_11 0 rfl rfl)
theorem dX3_copy_259 : decode cX3_copy 259 = .ok (.ireturn, 1) := dk_172 (dk_at dksX3_copy_11 2 rfl rfl)
abbrev cX3_element : ByteArray := prog_16_method_13_code
def yX3_element : MethodName := ⟨RX3, "element", "(II)J"⟩
def dkwX3_element_2 : List UInt8 := [167, 0, 4, 9, 173]
abbrev dktX3_element_2 : List UInt8 := dkwX3_element_2 ++ []
def dkwX3_element_1 : List UInt8 := [9, 42, 180, 0, 16, 27, 46, 4, 100, 133, 184, 0, 76, 153, 0, 14, 42, 180, 0, 21, 27, 50, 28, 47]
abbrev dktX3_element_1 : List UInt8 := dkwX3_element_1 ++ dktX3_element_2
def dkwX3_element_0 : List UInt8 := [27, 133, 9, 20, 0, 85, 184, 0, 76, 153, 0, 42, 42, 180, 0, 7, 27, 46, 4, 160, 0, 32, 28, 133]
abbrev dktX3_element_0 : List UInt8 := dkwX3_element_0 ++ dktX3_element_1
theorem dksX3_element_0 : cX3_element.data.toList.drop 0 = dktX3_element_0 := by decide +kernel
theorem dksX3_element_1 : cX3_element.data.toList.drop 24 = dktX3_element_1 := dk_seg dksX3_element_0 24 rfl rfl
theorem dksX3_element_2 : cX3_element.data.toList.drop 48 = dktX3_element_2 := dk_seg dksX3_element_1 24 rfl rfl
theorem dX3_element_0 : decode cX3_element 0 = .ok (.iload_n 1, 1) := dk_27 (dk_at dksX3_element_0 0 rfl rfl)
theorem dX3_element_1 : decode cX3_element 1 = .ok (.i2l, 1) := dk_133 (dk_at dksX3_element_0 1 rfl rfl)
theorem dX3_element_2 : decode cX3_element 2 = .ok (.lconst 0, 1) := dk_9 (dk_at dksX3_element_0 2 rfl rfl)
theorem dX3_element_3 : decode cX3_element 3 = .ok (.ldc2_w 85, 3) := dk_20 0 85 (dk_at dksX3_element_0 3 rfl rfl)
theorem dX3_element_6 : decode cX3_element 6 = .ok (.invokestatic 76, 3) := dk_184 0 76 (dk_at dksX3_element_0 6 rfl rfl)
theorem dX3_element_9 : decode cX3_element 9 = .ok (.ifCond .eq 42, 3) := dk_153 0 42 (dk_at dksX3_element_0 9 rfl rfl)
theorem dX3_element_12 : decode cX3_element 12 = .ok (.aload_n 0, 1) := dk_42 (dk_at dksX3_element_0 12 rfl rfl)
theorem dX3_element_13 : decode cX3_element 13 = .ok (.getfield 7, 3) := dk_180 0 7 (dk_at dksX3_element_0 13 rfl rfl)
theorem dX3_element_16 : decode cX3_element 16 = .ok (.iload_n 1, 1) := dk_27 (dk_at dksX3_element_0 16 rfl rfl)
theorem dX3_element_17 : decode cX3_element 17 = .ok (.iaload, 1) := dk_46 (dk_at dksX3_element_0 17 rfl rfl)
theorem dX3_element_18 : decode cX3_element 18 = .ok (.iconst 1, 1) := dk_4 (dk_at dksX3_element_0 18 rfl rfl)
theorem dX3_element_19 : decode cX3_element 19 = .ok (.if_icmp .ne 32, 3) := dk_160 0 32 (dk_at dksX3_element_0 19 rfl rfl)
theorem dX3_element_22 : decode cX3_element 22 = .ok (.iload_n 2, 1) := dk_28 (dk_at dksX3_element_0 22 rfl rfl)
theorem dX3_element_23 : decode cX3_element 23 = .ok (.i2l, 1) := dk_133 (dk_at dksX3_element_0 23 rfl rfl)
theorem dX3_element_24 : decode cX3_element 24 = .ok (.lconst 0, 1) := dk_9 (dk_at dksX3_element_1 0 rfl rfl)
theorem dX3_element_25 : decode cX3_element 25 = .ok (.aload_n 0, 1) := dk_42 (dk_at dksX3_element_1 1 rfl rfl)
theorem dX3_element_26 : decode cX3_element 26 = .ok (.getfield 16, 3) := dk_180 0 16 (dk_at dksX3_element_1 2 rfl rfl)
theorem dX3_element_29 : decode cX3_element 29 = .ok (.iload_n 1, 1) := dk_27 (dk_at dksX3_element_1 5 rfl rfl)
theorem dX3_element_30 : decode cX3_element 30 = .ok (.iaload, 1) := dk_46 (dk_at dksX3_element_1 6 rfl rfl)
theorem dX3_element_31 : decode cX3_element 31 = .ok (.iconst 1, 1) := dk_4 (dk_at dksX3_element_1 7 rfl rfl)
theorem dX3_element_32 : decode cX3_element 32 = .ok (.isub, 1) := dk_100 (dk_at dksX3_element_1 8 rfl rfl)
theorem dX3_element_33 : decode cX3_element 33 = .ok (.i2l, 1) := dk_133 (dk_at dksX3_element_1 9 rfl rfl)
theorem dX3_element_34 : decode cX3_element 34 = .ok (.invokestatic 76, 3) := dk_184 0 76 (dk_at dksX3_element_1 10 rfl rfl)
theorem dX3_element_37 : decode cX3_element 37 = .ok (.ifCond .eq 14, 3) := dk_153 0 14 (dk_at dksX3_element_1 13 rfl rfl)
theorem dX3_element_40 : decode cX3_element 40 = .ok (.aload_n 0, 1) := dk_42 (dk_at dksX3_element_1 16 rfl rfl)
theorem dX3_element_41 : decode cX3_element 41 = .ok (.getfield 21, 3) := dk_180 0 21 (dk_at dksX3_element_1 17 rfl rfl)
theorem dX3_element_44 : decode cX3_element 44 = .ok (.iload_n 1, 1) := dk_27 (dk_at dksX3_element_1 20 rfl rfl)
theorem dX3_element_45 : decode cX3_element 45 = .ok (.aaload, 1) := dk_50 (dk_at dksX3_element_1 21 rfl rfl)
theorem dX3_element_46 : decode cX3_element 46 = .ok (.iload_n 2, 1) := dk_28 (dk_at dksX3_element_1 22 rfl rfl)
theorem dX3_element_47 : decode cX3_element 47 = .ok (.laload, 1) := dk_47 (dk_at dksX3_element_1 23 rfl rfl)
theorem dX3_element_48 : decode cX3_element 48 = .ok (.goto 4, 3) := dk_167 0 4 (dk_at dksX3_element_2 0 rfl rfl)
theorem dX3_element_51 : decode cX3_element 51 = .ok (.lconst 0, 1) := dk_9 (dk_at dksX3_element_2 3 rfl rfl)
theorem dX3_element_52 : decode cX3_element 52 = .ok (.lreturn, 1) := dk_173 (dk_at dksX3_element_2 4 rfl rfl)
abbrev cX3_holds : ByteArray := prog_16_method_14_code
def yX3_holds : MethodName := ⟨RX3, "holds", "(I)I"⟩
def dkwX3_holds_2 : List UInt8 := [27, 46, 96, 172]
abbrev dktX3_holds_2 : List UInt8 := dkwX3_holds_2 ++ []
def dkwX3_holds_1 : List UInt8 := [180, 0, 7, 27, 46, 4, 160, 0, 12, 42, 180, 0, 13, 27, 46, 167, 0, 12, 16, 10, 42, 180, 0, 28]
abbrev dktX3_holds_1 : List UInt8 := dkwX3_holds_1 ++ dktX3_holds_2
def dkwX3_holds_0 : List UInt8 := [27, 133, 9, 20, 0, 85, 184, 0, 76, 153, 0, 12, 42, 180, 0, 7, 27, 46, 154, 0, 5, 2, 172, 42]
abbrev dktX3_holds_0 : List UInt8 := dkwX3_holds_0 ++ dktX3_holds_1
theorem dksX3_holds_0 : cX3_holds.data.toList.drop 0 = dktX3_holds_0 := by decide +kernel
theorem dksX3_holds_1 : cX3_holds.data.toList.drop 24 = dktX3_holds_1 := dk_seg dksX3_holds_0 24 rfl rfl
theorem dksX3_holds_2 : cX3_holds.data.toList.drop 48 = dktX3_holds_2 := dk_seg dksX3_holds_1 24 rfl rfl
theorem dX3_holds_0 : decode cX3_holds 0 = .ok (.iload_n 1, 1) := dk_27 (dk_at dksX3_holds_0 0 rfl rfl)
theorem dX3_holds_1 : decode cX3_holds 1 = .ok (.i2l, 1) := dk_133 (dk_at dksX3_holds_0 1 rfl rfl)
theorem dX3_holds_2 : decode cX3_holds 2 = .ok (.lconst 0, 1) := dk_9 (dk_at dksX3_holds_0 2 rfl rfl)
theorem dX3_holds_3 : decode cX3_holds 3 = .ok (.ldc2_w 85, 3) := dk_20 0 85 (dk_at dksX3_holds_0 3 rfl rfl)
theorem dX3_holds_6 : decode cX3_holds 6 = .ok (.invokestatic 76, 3) := dk_184 0 76 (dk_at dksX3_holds_0 6 rfl rfl)
theorem dX3_holds_9 : decode cX3_holds 9 = .ok (.ifCond .eq 12, 3) := dk_153 0 12 (dk_at dksX3_holds_0 9 rfl rfl)
theorem dX3_holds_12 : decode cX3_holds 12 = .ok (.aload_n 0, 1) := dk_42 (dk_at dksX3_holds_0 12 rfl rfl)
theorem dX3_holds_13 : decode cX3_holds 13 = .ok (.getfield 7, 3) := dk_180 0 7 (dk_at dksX3_holds_0 13 rfl rfl)
theorem dX3_holds_16 : decode cX3_holds 16 = .ok (.iload_n 1, 1) := dk_27 (dk_at dksX3_holds_0 16 rfl rfl)
theorem dX3_holds_17 : decode cX3_holds 17 = .ok (.iaload, 1) := dk_46 (dk_at dksX3_holds_0 17 rfl rfl)
theorem dX3_holds_18 : decode cX3_holds 18 = .ok (.ifCond .ne 5, 3) := dk_154 0 5 (dk_at dksX3_holds_0 18 rfl rfl)
theorem dX3_holds_21 : decode cX3_holds 21 = .ok (.iconst (-1), 1) := dk_2 (dk_at dksX3_holds_0 21 rfl rfl)
theorem dX3_holds_22 : decode cX3_holds 22 = .ok (.ireturn, 1) := dk_172 (dk_at dksX3_holds_0 22 rfl rfl)
theorem dX3_holds_23 : decode cX3_holds 23 = .ok (.aload_n 0, 1) := dk_42 (dk_at dksX3_holds_0 23 rfl rfl)
theorem dX3_holds_24 : decode cX3_holds 24 = .ok (.getfield 7, 3) := dk_180 0 7 (dk_at dksX3_holds_1 0 rfl rfl)
theorem dX3_holds_27 : decode cX3_holds 27 = .ok (.iload_n 1, 1) := dk_27 (dk_at dksX3_holds_1 3 rfl rfl)
theorem dX3_holds_28 : decode cX3_holds 28 = .ok (.iaload, 1) := dk_46 (dk_at dksX3_holds_1 4 rfl rfl)
theorem dX3_holds_29 : decode cX3_holds 29 = .ok (.iconst 1, 1) := dk_4 (dk_at dksX3_holds_1 5 rfl rfl)
theorem dX3_holds_30 : decode cX3_holds 30 = .ok (.if_icmp .ne 12, 3) := dk_160 0 12 (dk_at dksX3_holds_1 6 rfl rfl)
theorem dX3_holds_33 : decode cX3_holds 33 = .ok (.aload_n 0, 1) := dk_42 (dk_at dksX3_holds_1 9 rfl rfl)
theorem dX3_holds_34 : decode cX3_holds 34 = .ok (.getfield 13, 3) := dk_180 0 13 (dk_at dksX3_holds_1 10 rfl rfl)
theorem dX3_holds_37 : decode cX3_holds 37 = .ok (.iload_n 1, 1) := dk_27 (dk_at dksX3_holds_1 13 rfl rfl)
theorem dX3_holds_38 : decode cX3_holds 38 = .ok (.iaload, 1) := dk_46 (dk_at dksX3_holds_1 14 rfl rfl)
theorem dX3_holds_39 : decode cX3_holds 39 = .ok (.goto 12, 3) := dk_167 0 12 (dk_at dksX3_holds_1 15 rfl rfl)
theorem dX3_holds_42 : decode cX3_holds 42 = .ok (.bipush 10, 2) := dk_16 10 (dk_at dksX3_holds_1 18 rfl rfl)
theorem dX3_holds_44 : decode cX3_holds 44 = .ok (.aload_n 0, 1) := dk_42 (dk_at dksX3_holds_1 20 rfl rfl)
theorem dX3_holds_45 : decode cX3_holds 45 = .ok (.getfield 28, 3) := dk_180 0 28 (dk_at dksX3_holds_1 21 rfl rfl)
theorem dX3_holds_48 : decode cX3_holds 48 = .ok (.iload_n 1, 1) := dk_27 (dk_at dksX3_holds_2 0 rfl rfl)
theorem dX3_holds_49 : decode cX3_holds 49 = .ok (.iaload, 1) := dk_46 (dk_at dksX3_holds_2 1 rfl rfl)
theorem dX3_holds_50 : decode cX3_holds 50 = .ok (.iadd, 1) := dk_96 (dk_at dksX3_holds_2 2 rfl rfl)
theorem dX3_holds_51 : decode cX3_holds 51 = .ok (.ireturn, 1) := dk_172 (dk_at dksX3_holds_2 3 rfl rfl)
abbrev cX3_show : ByteArray := prog_16_method_15_code
def yX3_show : MethodName := ⟨RX3, "show", "(II)I"⟩
def dkwX3_show_2 : List UInt8 := [5, 79, 42, 180, 0, 28, 27, 28, 79, 4, 172]
abbrev dktX3_show_2 : List UInt8 := dkwX3_show_2 ++ []
def dkwX3_show_1 : List UInt8 := [154, 0, 10, 42, 16, 254, 182, 0, 91, 172, 42, 180, 0, 7, 27, 28, 2, 160, 0, 7, 3, 167, 0, 4]
abbrev dktX3_show_1 : List UInt8 := dkwX3_show_1 ++ dktX3_show_2
def dkwX3_show_0 : List UInt8 := [27, 133, 9, 20, 0, 85, 184, 0, 76, 153, 0, 16, 28, 2, 159, 0, 18, 42, 28, 182, 0, 102]
abbrev dktX3_show_0 : List UInt8 := dkwX3_show_0 ++ dktX3_show_1
theorem dksX3_show_0 : cX3_show.data.toList.drop 0 = dktX3_show_0 := by decide +kernel
theorem dksX3_show_1 : cX3_show.data.toList.drop 22 = dktX3_show_1 := dk_seg dksX3_show_0 22 rfl rfl
theorem dksX3_show_2 : cX3_show.data.toList.drop 46 = dktX3_show_2 := dk_seg dksX3_show_1 24 rfl rfl
theorem dX3_show_0 : decode cX3_show 0 = .ok (.iload_n 1, 1) := dk_27 (dk_at dksX3_show_0 0 rfl rfl)
theorem dX3_show_1 : decode cX3_show 1 = .ok (.i2l, 1) := dk_133 (dk_at dksX3_show_0 1 rfl rfl)
theorem dX3_show_2 : decode cX3_show 2 = .ok (.lconst 0, 1) := dk_9 (dk_at dksX3_show_0 2 rfl rfl)
theorem dX3_show_3 : decode cX3_show 3 = .ok (.ldc2_w 85, 3) := dk_20 0 85 (dk_at dksX3_show_0 3 rfl rfl)
theorem dX3_show_6 : decode cX3_show 6 = .ok (.invokestatic 76, 3) := dk_184 0 76 (dk_at dksX3_show_0 6 rfl rfl)
theorem dX3_show_9 : decode cX3_show 9 = .ok (.ifCond .eq 16, 3) := dk_153 0 16 (dk_at dksX3_show_0 9 rfl rfl)
theorem dX3_show_12 : decode cX3_show 12 = .ok (.iload_n 2, 1) := dk_28 (dk_at dksX3_show_0 12 rfl rfl)
theorem dX3_show_13 : decode cX3_show 13 = .ok (.iconst (-1), 1) := dk_2 (dk_at dksX3_show_0 13 rfl rfl)
theorem dX3_show_14 : decode cX3_show 14 = .ok (.if_icmp .eq 18, 3) := dk_159 0 18 (dk_at dksX3_show_0 14 rfl rfl)
theorem dX3_show_17 : decode cX3_show 17 = .ok (.aload_n 0, 1) := dk_42 (dk_at dksX3_show_0 17 rfl rfl)
theorem dX3_show_18 : decode cX3_show 18 = .ok (.iload_n 2, 1) := dk_28 (dk_at dksX3_show_0 18 rfl rfl)
theorem dX3_show_19 : decode cX3_show 19 = .ok (.invokevirtual 102, 3) := dk_182 0 102 (dk_at dksX3_show_0 19 rfl rfl)
theorem dX3_show_22 : decode cX3_show 22 = .ok (.ifCond .ne 10, 3) := dk_154 0 10 (dk_at dksX3_show_1 0 rfl rfl)
theorem dX3_show_25 : decode cX3_show 25 = .ok (.aload_n 0, 1) := dk_42 (dk_at dksX3_show_1 3 rfl rfl)
theorem dX3_show_26 : decode cX3_show 26 = .ok (.bipush (-2), 2) := dk_16 254 (dk_at dksX3_show_1 4 rfl rfl)
theorem dX3_show_28 : decode cX3_show 28 = .ok (.invokevirtual 91, 3) := dk_182 0 91 (dk_at dksX3_show_1 6 rfl rfl)
theorem dX3_show_31 : decode cX3_show 31 = .ok (.ireturn, 1) := dk_172 (dk_at dksX3_show_1 9 rfl rfl)
theorem dX3_show_32 : decode cX3_show 32 = .ok (.aload_n 0, 1) := dk_42 (dk_at dksX3_show_1 10 rfl rfl)
theorem dX3_show_33 : decode cX3_show 33 = .ok (.getfield 7, 3) := dk_180 0 7 (dk_at dksX3_show_1 11 rfl rfl)
theorem dX3_show_36 : decode cX3_show 36 = .ok (.iload_n 1, 1) := dk_27 (dk_at dksX3_show_1 14 rfl rfl)
theorem dX3_show_37 : decode cX3_show 37 = .ok (.iload_n 2, 1) := dk_28 (dk_at dksX3_show_1 15 rfl rfl)
theorem dX3_show_38 : decode cX3_show 38 = .ok (.iconst (-1), 1) := dk_2 (dk_at dksX3_show_1 16 rfl rfl)
theorem dX3_show_39 : decode cX3_show 39 = .ok (.if_icmp .ne 7, 3) := dk_160 0 7 (dk_at dksX3_show_1 17 rfl rfl)
theorem dX3_show_42 : decode cX3_show 42 = .ok (.iconst 0, 1) := dk_3 (dk_at dksX3_show_1 20 rfl rfl)
theorem dX3_show_43 : decode cX3_show 43 = .ok (.goto 4, 3) := dk_167 0 4 (dk_at dksX3_show_1 21 rfl rfl)
theorem dX3_show_46 : decode cX3_show 46 = .ok (.iconst 2, 1) := dk_5 (dk_at dksX3_show_2 0 rfl rfl)
theorem dX3_show_47 : decode cX3_show 47 = .ok (.iastore, 1) := dk_79 (dk_at dksX3_show_2 1 rfl rfl)
theorem dX3_show_48 : decode cX3_show 48 = .ok (.aload_n 0, 1) := dk_42 (dk_at dksX3_show_2 2 rfl rfl)
theorem dX3_show_49 : decode cX3_show 49 = .ok (.getfield 28, 3) := dk_180 0 28 (dk_at dksX3_show_2 3 rfl rfl)
theorem dX3_show_52 : decode cX3_show 52 = .ok (.iload_n 1, 1) := dk_27 (dk_at dksX3_show_2 6 rfl rfl)
theorem dX3_show_53 : decode cX3_show 53 = .ok (.iload_n 2, 1) := dk_28 (dk_at dksX3_show_2 7 rfl rfl)
theorem dX3_show_54 : decode cX3_show 54 = .ok (.iastore, 1) := dk_79 (dk_at dksX3_show_2 8 rfl rfl)
theorem dX3_show_55 : decode cX3_show 55 = .ok (.iconst 1, 1) := dk_4 (dk_at dksX3_show_2 9 rfl rfl)
theorem dX3_show_56 : decode cX3_show 56 = .ok (.ireturn, 1) := dk_172 (dk_at dksX3_show_2 10 rfl rfl)
abbrev cX3_isGoer : ByteArray := prog_16_method_6_code
def yX3_isGoer : MethodName := ⟨RX3, "isGoer", "(I)Z"⟩
def dkwX3_isGoer_0 : List UInt8 := [27, 133, 9, 42, 180, 0, 80, 4, 100, 133, 184, 0, 76, 172]
abbrev dktX3_isGoer_0 : List UInt8 := dkwX3_isGoer_0 ++ []
theorem dksX3_isGoer_0 : cX3_isGoer.data.toList.drop 0 = dktX3_isGoer_0 := by decide +kernel
theorem dX3_isGoer_0 : decode cX3_isGoer 0 = .ok (.iload_n 1, 1) := dk_27 (dk_at dksX3_isGoer_0 0 rfl rfl)
theorem dX3_isGoer_1 : decode cX3_isGoer 1 = .ok (.i2l, 1) := dk_133 (dk_at dksX3_isGoer_0 1 rfl rfl)
theorem dX3_isGoer_2 : decode cX3_isGoer 2 = .ok (.lconst 0, 1) := dk_9 (dk_at dksX3_isGoer_0 2 rfl rfl)
theorem dX3_isGoer_3 : decode cX3_isGoer 3 = .ok (.aload_n 0, 1) := dk_42 (dk_at dksX3_isGoer_0 3 rfl rfl)
theorem dX3_isGoer_4 : decode cX3_isGoer 4 = .ok (.getfield 80, 3) := dk_180 0 80 (dk_at dksX3_isGoer_0 4 rfl rfl)
theorem dX3_isGoer_7 : decode cX3_isGoer 7 = .ok (.iconst 1, 1) := dk_4 (dk_at dksX3_isGoer_0 7 rfl rfl)
theorem dX3_isGoer_8 : decode cX3_isGoer 8 = .ok (.isub, 1) := dk_100 (dk_at dksX3_isGoer_0 8 rfl rfl)
theorem dX3_isGoer_9 : decode cX3_isGoer 9 = .ok (.i2l, 1) := dk_133 (dk_at dksX3_isGoer_0 9 rfl rfl)
theorem dX3_isGoer_10 : decode cX3_isGoer 10 = .ok (.invokestatic 76, 3) := dk_184 0 76 (dk_at dksX3_isGoer_0 10 rfl rfl)
theorem dX3_isGoer_13 : decode cX3_isGoer 13 = .ok (.ireturn, 1) := dk_172 (dk_at dksX3_isGoer_0 13 rfl rfl)
abbrev cX3_says : ByteArray := prog_16_method_17_code
def yX3_says : MethodName := ⟨RX3, "says", "(II)I"⟩
def dkwX3_says_5 : List UInt8 := [27, 46, 182, 0, 112, 172]
abbrev dktX3_says_5 : List UInt8 := dkwX3_says_5 ++ []
def dkwX3_says_4 : List UInt8 := [154, 0, 19, 42, 180, 0, 42, 42, 180, 0, 28, 27, 46, 50, 4, 46, 167, 0, 13, 42, 42, 180, 0, 28]
abbrev dktX3_says_4 : List UInt8 := dkwX3_says_4 ++ dktX3_says_5
def dkwX3_says_3 : List UInt8 := [16, 253, 182, 0, 91, 172, 42, 180, 0, 7, 27, 46, 154, 0, 10, 42, 16, 252, 182, 0, 91, 172, 28]
abbrev dktX3_says_3 : List UInt8 := dkwX3_says_3 ++ dktX3_says_4
def dkwX3_says_2 : List UInt8 := [160, 0, 30, 42, 180, 0, 42, 42, 180, 0, 28, 27, 46, 50, 3, 46, 28, 184, 0, 108, 154, 0, 10, 42]
abbrev dktX3_says_2 : List UInt8 := dkwX3_says_2 ++ dktX3_says_3
def dkwX3_says_1 : List UInt8 := [42, 16, 254, 182, 0, 91, 172, 42, 180, 0, 7, 27, 46, 4, 159, 0, 33, 42, 180, 0, 7, 27, 46, 5]
abbrev dktX3_says_1 : List UInt8 := dkwX3_says_1 ++ dktX3_says_2
def dkwX3_says_0 : List UInt8 := [27, 133, 9, 20, 0, 85, 184, 0, 76, 153, 0, 15, 28, 133, 9, 20, 0, 106, 184, 0, 76, 154, 0, 10]
abbrev dktX3_says_0 : List UInt8 := dkwX3_says_0 ++ dktX3_says_1
theorem dksX3_says_0 : cX3_says.data.toList.drop 0 = dktX3_says_0 := by decide +kernel
theorem dksX3_says_1 : cX3_says.data.toList.drop 24 = dktX3_says_1 := dk_seg dksX3_says_0 24 rfl rfl
theorem dksX3_says_2 : cX3_says.data.toList.drop 48 = dktX3_says_2 := dk_seg dksX3_says_1 24 rfl rfl
theorem dksX3_says_3 : cX3_says.data.toList.drop 72 = dktX3_says_3 := dk_seg dksX3_says_2 24 rfl rfl
theorem dksX3_says_4 : cX3_says.data.toList.drop 95 = dktX3_says_4 := dk_seg dksX3_says_3 23 rfl rfl
theorem dksX3_says_5 : cX3_says.data.toList.drop 119 = dktX3_says_5 := dk_seg dksX3_says_4 24 rfl rfl
theorem dX3_says_0 : decode cX3_says 0 = .ok (.iload_n 1, 1) := dk_27 (dk_at dksX3_says_0 0 rfl rfl)
theorem dX3_says_1 : decode cX3_says 1 = .ok (.i2l, 1) := dk_133 (dk_at dksX3_says_0 1 rfl rfl)
theorem dX3_says_2 : decode cX3_says 2 = .ok (.lconst 0, 1) := dk_9 (dk_at dksX3_says_0 2 rfl rfl)
theorem dX3_says_3 : decode cX3_says 3 = .ok (.ldc2_w 85, 3) := dk_20 0 85 (dk_at dksX3_says_0 3 rfl rfl)
theorem dX3_says_6 : decode cX3_says 6 = .ok (.invokestatic 76, 3) := dk_184 0 76 (dk_at dksX3_says_0 6 rfl rfl)
theorem dX3_says_9 : decode cX3_says 9 = .ok (.ifCond .eq 15, 3) := dk_153 0 15 (dk_at dksX3_says_0 9 rfl rfl)
theorem dX3_says_12 : decode cX3_says 12 = .ok (.iload_n 2, 1) := dk_28 (dk_at dksX3_says_0 12 rfl rfl)
theorem dX3_says_13 : decode cX3_says 13 = .ok (.i2l, 1) := dk_133 (dk_at dksX3_says_0 13 rfl rfl)
theorem dX3_says_14 : decode cX3_says 14 = .ok (.lconst 0, 1) := dk_9 (dk_at dksX3_says_0 14 rfl rfl)
theorem dX3_says_15 : decode cX3_says 15 = .ok (.ldc2_w 106, 3) := dk_20 0 106 (dk_at dksX3_says_0 15 rfl rfl)
theorem dX3_says_18 : decode cX3_says 18 = .ok (.invokestatic 76, 3) := dk_184 0 76 (dk_at dksX3_says_0 18 rfl rfl)
theorem dX3_says_21 : decode cX3_says 21 = .ok (.ifCond .ne 10, 3) := dk_154 0 10 (dk_at dksX3_says_0 21 rfl rfl)
theorem dX3_says_24 : decode cX3_says 24 = .ok (.aload_n 0, 1) := dk_42 (dk_at dksX3_says_1 0 rfl rfl)
theorem dX3_says_25 : decode cX3_says 25 = .ok (.bipush (-2), 2) := dk_16 254 (dk_at dksX3_says_1 1 rfl rfl)
theorem dX3_says_27 : decode cX3_says 27 = .ok (.invokevirtual 91, 3) := dk_182 0 91 (dk_at dksX3_says_1 3 rfl rfl)
theorem dX3_says_30 : decode cX3_says 30 = .ok (.ireturn, 1) := dk_172 (dk_at dksX3_says_1 6 rfl rfl)
theorem dX3_says_31 : decode cX3_says 31 = .ok (.aload_n 0, 1) := dk_42 (dk_at dksX3_says_1 7 rfl rfl)
theorem dX3_says_32 : decode cX3_says 32 = .ok (.getfield 7, 3) := dk_180 0 7 (dk_at dksX3_says_1 8 rfl rfl)
theorem dX3_says_35 : decode cX3_says 35 = .ok (.iload_n 1, 1) := dk_27 (dk_at dksX3_says_1 11 rfl rfl)
theorem dX3_says_36 : decode cX3_says 36 = .ok (.iaload, 1) := dk_46 (dk_at dksX3_says_1 12 rfl rfl)
theorem dX3_says_37 : decode cX3_says 37 = .ok (.iconst 1, 1) := dk_4 (dk_at dksX3_says_1 13 rfl rfl)
theorem dX3_says_38 : decode cX3_says 38 = .ok (.if_icmp .eq 33, 3) := dk_159 0 33 (dk_at dksX3_says_1 14 rfl rfl)
theorem dX3_says_41 : decode cX3_says 41 = .ok (.aload_n 0, 1) := dk_42 (dk_at dksX3_says_1 17 rfl rfl)
theorem dX3_says_42 : decode cX3_says 42 = .ok (.getfield 7, 3) := dk_180 0 7 (dk_at dksX3_says_1 18 rfl rfl)
theorem dX3_says_45 : decode cX3_says 45 = .ok (.iload_n 1, 1) := dk_27 (dk_at dksX3_says_1 21 rfl rfl)
theorem dX3_says_46 : decode cX3_says 46 = .ok (.iaload, 1) := dk_46 (dk_at dksX3_says_1 22 rfl rfl)
theorem dX3_says_47 : decode cX3_says 47 = .ok (.iconst 2, 1) := dk_5 (dk_at dksX3_says_1 23 rfl rfl)
theorem dX3_says_48 : decode cX3_says 48 = .ok (.if_icmp .ne 30, 3) := dk_160 0 30 (dk_at dksX3_says_2 0 rfl rfl)
theorem dX3_says_51 : decode cX3_says 51 = .ok (.aload_n 0, 1) := dk_42 (dk_at dksX3_says_2 3 rfl rfl)
theorem dX3_says_52 : decode cX3_says 52 = .ok (.getfield 42, 3) := dk_180 0 42 (dk_at dksX3_says_2 4 rfl rfl)
theorem dX3_says_55 : decode cX3_says 55 = .ok (.aload_n 0, 1) := dk_42 (dk_at dksX3_says_2 7 rfl rfl)
theorem dX3_says_56 : decode cX3_says 56 = .ok (.getfield 28, 3) := dk_180 0 28 (dk_at dksX3_says_2 8 rfl rfl)
theorem dX3_says_59 : decode cX3_says 59 = .ok (.iload_n 1, 1) := dk_27 (dk_at dksX3_says_2 11 rfl rfl)
theorem dX3_says_60 : decode cX3_says 60 = .ok (.iaload, 1) := dk_46 (dk_at dksX3_says_2 12 rfl rfl)
theorem dX3_says_61 : decode cX3_says 61 = .ok (.aaload, 1) := dk_50 (dk_at dksX3_says_2 13 rfl rfl)
theorem dX3_says_62 : decode cX3_says 62 = .ok (.iconst 0, 1) := dk_3 (dk_at dksX3_says_2 14 rfl rfl)
theorem dX3_says_63 : decode cX3_says 63 = .ok (.iaload, 1) := dk_46 (dk_at dksX3_says_2 15 rfl rfl)
theorem dX3_says_64 : decode cX3_says 64 = .ok (.iload_n 2, 1) := dk_28 (dk_at dksX3_says_2 16 rfl rfl)
theorem dX3_says_65 : decode cX3_says 65 = .ok (.invokestatic 108, 3) := dk_184 0 108 (dk_at dksX3_says_2 17 rfl rfl)
theorem dX3_says_68 : decode cX3_says 68 = .ok (.ifCond .ne 10, 3) := dk_154 0 10 (dk_at dksX3_says_2 20 rfl rfl)
theorem dX3_says_71 : decode cX3_says 71 = .ok (.aload_n 0, 1) := dk_42 (dk_at dksX3_says_2 23 rfl rfl)
theorem dX3_says_72 : decode cX3_says 72 = .ok (.bipush (-3), 2) := dk_16 253 (dk_at dksX3_says_3 0 rfl rfl)
theorem dX3_says_74 : decode cX3_says 74 = .ok (.invokevirtual 91, 3) := dk_182 0 91 (dk_at dksX3_says_3 2 rfl rfl)
theorem dX3_says_77 : decode cX3_says 77 = .ok (.ireturn, 1) := dk_172 (dk_at dksX3_says_3 5 rfl rfl)
theorem dX3_says_78 : decode cX3_says 78 = .ok (.aload_n 0, 1) := dk_42 (dk_at dksX3_says_3 6 rfl rfl)
theorem dX3_says_79 : decode cX3_says 79 = .ok (.getfield 7, 3) := dk_180 0 7 (dk_at dksX3_says_3 7 rfl rfl)
theorem dX3_says_82 : decode cX3_says 82 = .ok (.iload_n 1, 1) := dk_27 (dk_at dksX3_says_3 10 rfl rfl)
theorem dX3_says_83 : decode cX3_says 83 = .ok (.iaload, 1) := dk_46 (dk_at dksX3_says_3 11 rfl rfl)
theorem dX3_says_84 : decode cX3_says 84 = .ok (.ifCond .ne 10, 3) := dk_154 0 10 (dk_at dksX3_says_3 12 rfl rfl)
theorem dX3_says_87 : decode cX3_says 87 = .ok (.aload_n 0, 1) := dk_42 (dk_at dksX3_says_3 15 rfl rfl)
theorem dX3_says_88 : decode cX3_says 88 = .ok (.bipush (-4), 2) := dk_16 252 (dk_at dksX3_says_3 16 rfl rfl)
theorem dX3_says_90 : decode cX3_says 90 = .ok (.invokevirtual 91, 3) := dk_182 0 91 (dk_at dksX3_says_3 18 rfl rfl)
theorem dX3_says_93 : decode cX3_says 93 = .ok (.ireturn, 1) := dk_172 (dk_at dksX3_says_3 21 rfl rfl)
theorem dX3_says_94 : decode cX3_says 94 = .ok (.iload_n 2, 1) := dk_28 (dk_at dksX3_says_3 22 rfl rfl)
theorem dX3_says_95 : decode cX3_says 95 = .ok (.ifCond .ne 19, 3) := dk_154 0 19 (dk_at dksX3_says_4 0 rfl rfl)
theorem dX3_says_98 : decode cX3_says 98 = .ok (.aload_n 0, 1) := dk_42 (dk_at dksX3_says_4 3 rfl rfl)
theorem dX3_says_99 : decode cX3_says 99 = .ok (.getfield 42, 3) := dk_180 0 42 (dk_at dksX3_says_4 4 rfl rfl)
theorem dX3_says_102 : decode cX3_says 102 = .ok (.aload_n 0, 1) := dk_42 (dk_at dksX3_says_4 7 rfl rfl)
theorem dX3_says_103 : decode cX3_says 103 = .ok (.getfield 28, 3) := dk_180 0 28 (dk_at dksX3_says_4 8 rfl rfl)
theorem dX3_says_106 : decode cX3_says 106 = .ok (.iload_n 1, 1) := dk_27 (dk_at dksX3_says_4 11 rfl rfl)
theorem dX3_says_107 : decode cX3_says 107 = .ok (.iaload, 1) := dk_46 (dk_at dksX3_says_4 12 rfl rfl)
theorem dX3_says_108 : decode cX3_says 108 = .ok (.aaload, 1) := dk_50 (dk_at dksX3_says_4 13 rfl rfl)
theorem dX3_says_109 : decode cX3_says 109 = .ok (.iconst 1, 1) := dk_4 (dk_at dksX3_says_4 14 rfl rfl)
theorem dX3_says_110 : decode cX3_says 110 = .ok (.iaload, 1) := dk_46 (dk_at dksX3_says_4 15 rfl rfl)
theorem dX3_says_111 : decode cX3_says 111 = .ok (.goto 13, 3) := dk_167 0 13 (dk_at dksX3_says_4 16 rfl rfl)
theorem dX3_says_114 : decode cX3_says 114 = .ok (.aload_n 0, 1) := dk_42 (dk_at dksX3_says_4 19 rfl rfl)
theorem dX3_says_115 : decode cX3_says 115 = .ok (.aload_n 0, 1) := dk_42 (dk_at dksX3_says_4 20 rfl rfl)
theorem dX3_says_116 : decode cX3_says 116 = .ok (.getfield 28, 3) := dk_180 0 28 (dk_at dksX3_says_4 21 rfl rfl)
theorem dX3_says_119 : decode cX3_says 119 = .ok (.iload_n 1, 1) := dk_27 (dk_at dksX3_says_5 0 rfl rfl)
theorem dX3_says_120 : decode cX3_says 120 = .ok (.iaload, 1) := dk_46 (dk_at dksX3_says_5 1 rfl rfl)
theorem dX3_says_121 : decode cX3_says 121 = .ok (.invokevirtual 112, 3) := dk_182 0 112 (dk_at dksX3_says_5 2 rfl rfl)
theorem dX3_says_124 : decode cX3_says 124 = .ok (.ireturn, 1) := dk_172 (dk_at dksX3_says_5 5 rfl rfl)
abbrev cX3_isUnder : ByteArray := prog_16_method_16_code
def yX3_isUnder : MethodName := ⟨RX3, "isUnder", "(II)Z"⟩
def dkwX3_isUnder_1 : List UInt8 := [167, 0, 4, 3, 172]
abbrev dktX3_isUnder_1 : List UInt8 := dkwX3_isUnder_1 ++ []
def dkwX3_isUnder_0 : List UInt8 := [27, 153, 0, 22, 26, 27, 159, 0, 17, 27, 4, 160, 0, 16, 26, 153, 0, 12, 26, 6, 159, 0, 7, 4]
abbrev dktX3_isUnder_0 : List UInt8 := dkwX3_isUnder_0 ++ dktX3_isUnder_1
theorem dksX3_isUnder_0 : cX3_isUnder.data.toList.drop 0 = dktX3_isUnder_0 := by decide +kernel
theorem dksX3_isUnder_1 : cX3_isUnder.data.toList.drop 24 = dktX3_isUnder_1 := dk_seg dksX3_isUnder_0 24 rfl rfl
theorem dX3_isUnder_0 : decode cX3_isUnder 0 = .ok (.iload_n 1, 1) := dk_27 (dk_at dksX3_isUnder_0 0 rfl rfl)
theorem dX3_isUnder_1 : decode cX3_isUnder 1 = .ok (.ifCond .eq 22, 3) := dk_153 0 22 (dk_at dksX3_isUnder_0 1 rfl rfl)
theorem dX3_isUnder_4 : decode cX3_isUnder 4 = .ok (.iload_n 0, 1) := dk_26 (dk_at dksX3_isUnder_0 4 rfl rfl)
theorem dX3_isUnder_5 : decode cX3_isUnder 5 = .ok (.iload_n 1, 1) := dk_27 (dk_at dksX3_isUnder_0 5 rfl rfl)
theorem dX3_isUnder_6 : decode cX3_isUnder 6 = .ok (.if_icmp .eq 17, 3) := dk_159 0 17 (dk_at dksX3_isUnder_0 6 rfl rfl)
theorem dX3_isUnder_9 : decode cX3_isUnder 9 = .ok (.iload_n 1, 1) := dk_27 (dk_at dksX3_isUnder_0 9 rfl rfl)
theorem dX3_isUnder_10 : decode cX3_isUnder 10 = .ok (.iconst 1, 1) := dk_4 (dk_at dksX3_isUnder_0 10 rfl rfl)
theorem dX3_isUnder_11 : decode cX3_isUnder 11 = .ok (.if_icmp .ne 16, 3) := dk_160 0 16 (dk_at dksX3_isUnder_0 11 rfl rfl)
theorem dX3_isUnder_14 : decode cX3_isUnder 14 = .ok (.iload_n 0, 1) := dk_26 (dk_at dksX3_isUnder_0 14 rfl rfl)
theorem dX3_isUnder_15 : decode cX3_isUnder 15 = .ok (.ifCond .eq 12, 3) := dk_153 0 12 (dk_at dksX3_isUnder_0 15 rfl rfl)
theorem dX3_isUnder_18 : decode cX3_isUnder 18 = .ok (.iload_n 0, 1) := dk_26 (dk_at dksX3_isUnder_0 18 rfl rfl)
theorem dX3_isUnder_19 : decode cX3_isUnder 19 = .ok (.iconst 3, 1) := dk_6 (dk_at dksX3_isUnder_0 19 rfl rfl)
theorem dX3_isUnder_20 : decode cX3_isUnder 20 = .ok (.if_icmp .eq 7, 3) := dk_159 0 7 (dk_at dksX3_isUnder_0 20 rfl rfl)
theorem dX3_isUnder_23 : decode cX3_isUnder 23 = .ok (.iconst 1, 1) := dk_4 (dk_at dksX3_isUnder_0 23 rfl rfl)
theorem dX3_isUnder_24 : decode cX3_isUnder 24 = .ok (.goto 4, 3) := dk_167 0 4 (dk_at dksX3_isUnder_1 0 rfl rfl)
theorem dX3_isUnder_27 : decode cX3_isUnder 27 = .ok (.iconst 0, 1) := dk_3 (dk_at dksX3_isUnder_1 3 rfl rfl)
theorem dX3_isUnder_28 : decode cX3_isUnder 28 = .ok (.ireturn, 1) := dk_172 (dk_at dksX3_isUnder_1 4 rfl rfl)
abbrev cX3_choiceOf : ByteArray := prog_16_method_51_code
def yX3_choiceOf : MethodName := ⟨RX3, "choiceOf", "(I)I"⟩
def dkwX3_choiceOf_1 : List UInt8 := [27, 28, 182, 0, 248, 164, 0, 7, 29, 167, 0, 4, 28, 61, 132, 3, 1, 167, 255, 219, 28, 172]
abbrev dktX3_choiceOf_1 : List UInt8 := dkwX3_choiceOf_1 ++ []
def dkwX3_choiceOf_0 : List UInt8 := [2, 61, 3, 62, 29, 42, 180, 0, 73, 162, 0, 35, 28, 2, 159, 0, 18, 42, 27, 29, 182, 0, 248, 42]
abbrev dktX3_choiceOf_0 : List UInt8 := dkwX3_choiceOf_0 ++ dktX3_choiceOf_1
theorem dksX3_choiceOf_0 : cX3_choiceOf.data.toList.drop 0 = dktX3_choiceOf_0 := by decide +kernel
theorem dksX3_choiceOf_1 : cX3_choiceOf.data.toList.drop 24 = dktX3_choiceOf_1 := dk_seg dksX3_choiceOf_0 24 rfl rfl
theorem dX3_choiceOf_0 : decode cX3_choiceOf 0 = .ok (.iconst (-1), 1) := dk_2 (dk_at dksX3_choiceOf_0 0 rfl rfl)
theorem dX3_choiceOf_1 : decode cX3_choiceOf 1 = .ok (.istore_n 2, 1) := dk_61 (dk_at dksX3_choiceOf_0 1 rfl rfl)
theorem dX3_choiceOf_2 : decode cX3_choiceOf 2 = .ok (.iconst 0, 1) := dk_3 (dk_at dksX3_choiceOf_0 2 rfl rfl)
theorem dX3_choiceOf_3 : decode cX3_choiceOf 3 = .ok (.istore_n 3, 1) := dk_62 (dk_at dksX3_choiceOf_0 3 rfl rfl)
theorem dX3_choiceOf_4 : decode cX3_choiceOf 4 = .ok (.iload_n 3, 1) := dk_29 (dk_at dksX3_choiceOf_0 4 rfl rfl)
theorem dX3_choiceOf_5 : decode cX3_choiceOf 5 = .ok (.aload_n 0, 1) := dk_42 (dk_at dksX3_choiceOf_0 5 rfl rfl)
theorem dX3_choiceOf_6 : decode cX3_choiceOf 6 = .ok (.getfield 73, 3) := dk_180 0 73 (dk_at dksX3_choiceOf_0 6 rfl rfl)
theorem dX3_choiceOf_9 : decode cX3_choiceOf 9 = .ok (.if_icmp .ge 35, 3) := dk_162 0 35 (dk_at dksX3_choiceOf_0 9 rfl rfl)
theorem dX3_choiceOf_12 : decode cX3_choiceOf 12 = .ok (.iload_n 2, 1) := dk_28 (dk_at dksX3_choiceOf_0 12 rfl rfl)
theorem dX3_choiceOf_13 : decode cX3_choiceOf 13 = .ok (.iconst (-1), 1) := dk_2 (dk_at dksX3_choiceOf_0 13 rfl rfl)
theorem dX3_choiceOf_14 : decode cX3_choiceOf 14 = .ok (.if_icmp .eq 18, 3) := dk_159 0 18 (dk_at dksX3_choiceOf_0 14 rfl rfl)
theorem dX3_choiceOf_17 : decode cX3_choiceOf 17 = .ok (.aload_n 0, 1) := dk_42 (dk_at dksX3_choiceOf_0 17 rfl rfl)
theorem dX3_choiceOf_18 : decode cX3_choiceOf 18 = .ok (.iload_n 1, 1) := dk_27 (dk_at dksX3_choiceOf_0 18 rfl rfl)
theorem dX3_choiceOf_19 : decode cX3_choiceOf 19 = .ok (.iload_n 3, 1) := dk_29 (dk_at dksX3_choiceOf_0 19 rfl rfl)
theorem dX3_choiceOf_20 : decode cX3_choiceOf 20 = .ok (.invokevirtual 248, 3) := dk_182 0 248 (dk_at dksX3_choiceOf_0 20 rfl rfl)
theorem dX3_choiceOf_23 : decode cX3_choiceOf 23 = .ok (.aload_n 0, 1) := dk_42 (dk_at dksX3_choiceOf_0 23 rfl rfl)
theorem dX3_choiceOf_24 : decode cX3_choiceOf 24 = .ok (.iload_n 1, 1) := dk_27 (dk_at dksX3_choiceOf_1 0 rfl rfl)
theorem dX3_choiceOf_25 : decode cX3_choiceOf 25 = .ok (.iload_n 2, 1) := dk_28 (dk_at dksX3_choiceOf_1 1 rfl rfl)
theorem dX3_choiceOf_26 : decode cX3_choiceOf 26 = .ok (.invokevirtual 248, 3) := dk_182 0 248 (dk_at dksX3_choiceOf_1 2 rfl rfl)
theorem dX3_choiceOf_29 : decode cX3_choiceOf 29 = .ok (.if_icmp .le 7, 3) := dk_164 0 7 (dk_at dksX3_choiceOf_1 5 rfl rfl)
theorem dX3_choiceOf_32 : decode cX3_choiceOf 32 = .ok (.iload_n 3, 1) := dk_29 (dk_at dksX3_choiceOf_1 8 rfl rfl)
theorem dX3_choiceOf_33 : decode cX3_choiceOf 33 = .ok (.goto 4, 3) := dk_167 0 4 (dk_at dksX3_choiceOf_1 9 rfl rfl)
theorem dX3_choiceOf_36 : decode cX3_choiceOf 36 = .ok (.iload_n 2, 1) := dk_28 (dk_at dksX3_choiceOf_1 12 rfl rfl)
theorem dX3_choiceOf_37 : decode cX3_choiceOf 37 = .ok (.istore_n 2, 1) := dk_61 (dk_at dksX3_choiceOf_1 13 rfl rfl)
theorem dX3_choiceOf_38 : decode cX3_choiceOf 38 = .ok (.iinc 3 1, 3) := dk_132 3 1 (dk_at dksX3_choiceOf_1 14 rfl rfl)
theorem dX3_choiceOf_41 : decode cX3_choiceOf 41 = .ok (.goto (-37), 3) := dk_167 255 219 (dk_at dksX3_choiceOf_1 17 rfl rfl)
theorem dX3_choiceOf_44 : decode cX3_choiceOf 44 = .ok (.iload_n 2, 1) := dk_28 (dk_at dksX3_choiceOf_1 20 rfl rfl)
theorem dX3_choiceOf_45 : decode cX3_choiceOf 45 = .ok (.ireturn, 1) := dk_172 (dk_at dksX3_choiceOf_1 21 rfl rfl)
abbrev cX3_scoreOf : ByteArray := prog_16_method_49_code
def yX3_scoreOf : MethodName := ⟨RX3, "scoreOf", "(II)I"⟩
def dkwX3_scoreOf_0 : List UInt8 := [42, 27, 28, 42, 180, 0, 39, 28, 50, 7, 46, 182, 0, 245, 172]
abbrev dktX3_scoreOf_0 : List UInt8 := dkwX3_scoreOf_0 ++ []
theorem dksX3_scoreOf_0 : cX3_scoreOf.data.toList.drop 0 = dktX3_scoreOf_0 := by decide +kernel
theorem dX3_scoreOf_0 : decode cX3_scoreOf 0 = .ok (.aload_n 0, 1) := dk_42 (dk_at dksX3_scoreOf_0 0 rfl rfl)
theorem dX3_scoreOf_1 : decode cX3_scoreOf 1 = .ok (.iload_n 1, 1) := dk_27 (dk_at dksX3_scoreOf_0 1 rfl rfl)
theorem dX3_scoreOf_2 : decode cX3_scoreOf 2 = .ok (.iload_n 2, 1) := dk_28 (dk_at dksX3_scoreOf_0 2 rfl rfl)
theorem dX3_scoreOf_3 : decode cX3_scoreOf 3 = .ok (.aload_n 0, 1) := dk_42 (dk_at dksX3_scoreOf_0 3 rfl rfl)
theorem dX3_scoreOf_4 : decode cX3_scoreOf 4 = .ok (.getfield 39, 3) := dk_180 0 39 (dk_at dksX3_scoreOf_0 4 rfl rfl)
theorem dX3_scoreOf_7 : decode cX3_scoreOf 7 = .ok (.iload_n 2, 1) := dk_28 (dk_at dksX3_scoreOf_0 7 rfl rfl)
theorem dX3_scoreOf_8 : decode cX3_scoreOf 8 = .ok (.aaload, 1) := dk_50 (dk_at dksX3_scoreOf_0 8 rfl rfl)
theorem dX3_scoreOf_9 : decode cX3_scoreOf 9 = .ok (.iconst 4, 1) := dk_7 (dk_at dksX3_scoreOf_0 9 rfl rfl)
theorem dX3_scoreOf_10 : decode cX3_scoreOf 10 = .ok (.iaload, 1) := dk_46 (dk_at dksX3_scoreOf_0 10 rfl rfl)
theorem dX3_scoreOf_11 : decode cX3_scoreOf 11 = .ok (.invokevirtual 245, 3) := dk_182 0 245 (dk_at dksX3_scoreOf_0 11 rfl rfl)
theorem dX3_scoreOf_14 : decode cX3_scoreOf 14 = .ok (.ireturn, 1) := dk_172 (dk_at dksX3_scoreOf_0 14 rfl rfl)
abbrev cX3_scoreBy : ByteArray := prog_16_method_48_code
def yX3_scoreBy : MethodName := ⟨RX3, "scoreBy", "(III)I"⟩
def dkwX3_scoreBy_6 : List UInt8 := [167, 0, 8, 42, 29, 182, 0, 242, 172, 42, 29, 182, 0, 242, 172]
abbrev dktX3_scoreBy_6 : List UInt8 := dkwX3_scoreBy_6 ++ []
def dkwX3_scoreBy_5 : List UInt8 := [21, 5, 161, 0, 23, 25, 4, 8, 46, 158, 0, 16, 25, 4, 16, 6, 46, 25, 4, 8, 46, 108]
abbrev dktX3_scoreBy_5 : List UInt8 := dkwX3_scoreBy_5 ++ dktX3_scoreBy_6
def dkwX3_scoreBy_4 : List UInt8 := [29, 182, 0, 242, 21, 5, 100, 172, 25, 4, 3, 46, 25, 4, 6, 46, 5, 108, 100, 172, 25, 4, 8, 46]
abbrev dktX3_scoreBy_4 : List UInt8 := dkwX3_scoreBy_4 ++ dktX3_scoreBy_5
def dkwX3_scoreBy_3 : List UInt8 := [16, 100, 25, 4, 6, 46, 100, 172, 29, 2, 160, 0, 13, 16, 100, 25, 4, 6, 46, 100, 167, 0, 11, 42]
abbrev dktX3_scoreBy_3 : List UInt8 := dkwX3_scoreBy_3 ++ dktX3_scoreBy_4
def dkwX3_scoreBy_2 : List UInt8 := [170, 0, 0, 0, 0, 113, 0, 0, 0, 0, 0, 0, 0, 4, 0, 0, 0, 34, 0, 0, 0, 113, 0, 0, 0, 42, 0, 0, 0, 66, 0, 0, 0, 78]
abbrev dktX3_scoreBy_2 : List UInt8 := dkwX3_scoreBy_2 ++ dktX3_scoreBy_3
def dkwX3_scoreBy_1 : List UInt8 := [3, 46]
abbrev dktX3_scoreBy_1 : List UInt8 := dkwX3_scoreBy_1 ++ dktX3_scoreBy_2
def dkwX3_scoreBy_0 : List UInt8 := [42, 180, 0, 39, 28, 50, 58, 4, 42, 180, 0, 42, 27, 50, 5, 46, 54, 5, 42, 180, 0, 42, 27, 50]
abbrev dktX3_scoreBy_0 : List UInt8 := dkwX3_scoreBy_0 ++ dktX3_scoreBy_1
theorem dksX3_scoreBy_0 : cX3_scoreBy.data.toList.drop 0 = dktX3_scoreBy_0 := by decide +kernel
theorem dksX3_scoreBy_1 : cX3_scoreBy.data.toList.drop 24 = dktX3_scoreBy_1 := dk_seg dksX3_scoreBy_0 24 rfl rfl
theorem dksX3_scoreBy_2 : cX3_scoreBy.data.toList.drop 26 = dktX3_scoreBy_2 := dk_seg dksX3_scoreBy_1 2 rfl rfl
theorem dksX3_scoreBy_3 : cX3_scoreBy.data.toList.drop 60 = dktX3_scoreBy_3 := dk_seg dksX3_scoreBy_2 34 rfl rfl
theorem dksX3_scoreBy_4 : cX3_scoreBy.data.toList.drop 84 = dktX3_scoreBy_4 := dk_seg dksX3_scoreBy_3 24 rfl rfl
theorem dksX3_scoreBy_5 : cX3_scoreBy.data.toList.drop 108 = dktX3_scoreBy_5 := dk_seg dksX3_scoreBy_4 24 rfl rfl
theorem dksX3_scoreBy_6 : cX3_scoreBy.data.toList.drop 130 = dktX3_scoreBy_6 := dk_seg dksX3_scoreBy_5 22 rfl rfl
theorem dX3_scoreBy_0 : decode cX3_scoreBy 0 = .ok (.aload_n 0, 1) := dk_42 (dk_at dksX3_scoreBy_0 0 rfl rfl)
theorem dX3_scoreBy_1 : decode cX3_scoreBy 1 = .ok (.getfield 39, 3) := dk_180 0 39 (dk_at dksX3_scoreBy_0 1 rfl rfl)
theorem dX3_scoreBy_4 : decode cX3_scoreBy 4 = .ok (.iload_n 2, 1) := dk_28 (dk_at dksX3_scoreBy_0 4 rfl rfl)
theorem dX3_scoreBy_5 : decode cX3_scoreBy 5 = .ok (.aaload, 1) := dk_50 (dk_at dksX3_scoreBy_0 5 rfl rfl)
theorem dX3_scoreBy_6 : decode cX3_scoreBy 6 = .ok (.astore 4, 2) := dk_58 4 (dk_at dksX3_scoreBy_0 6 rfl rfl)
theorem dX3_scoreBy_8 : decode cX3_scoreBy 8 = .ok (.aload_n 0, 1) := dk_42 (dk_at dksX3_scoreBy_0 8 rfl rfl)
theorem dX3_scoreBy_9 : decode cX3_scoreBy 9 = .ok (.getfield 42, 3) := dk_180 0 42 (dk_at dksX3_scoreBy_0 9 rfl rfl)
theorem dX3_scoreBy_12 : decode cX3_scoreBy 12 = .ok (.iload_n 1, 1) := dk_27 (dk_at dksX3_scoreBy_0 12 rfl rfl)
theorem dX3_scoreBy_13 : decode cX3_scoreBy 13 = .ok (.aaload, 1) := dk_50 (dk_at dksX3_scoreBy_0 13 rfl rfl)
theorem dX3_scoreBy_14 : decode cX3_scoreBy 14 = .ok (.iconst 2, 1) := dk_5 (dk_at dksX3_scoreBy_0 14 rfl rfl)
theorem dX3_scoreBy_15 : decode cX3_scoreBy 15 = .ok (.iaload, 1) := dk_46 (dk_at dksX3_scoreBy_0 15 rfl rfl)
theorem dX3_scoreBy_16 : decode cX3_scoreBy 16 = .ok (.istore 5, 2) := dk_54 5 (dk_at dksX3_scoreBy_0 16 rfl rfl)
theorem dX3_scoreBy_18 : decode cX3_scoreBy 18 = .ok (.aload_n 0, 1) := dk_42 (dk_at dksX3_scoreBy_0 18 rfl rfl)
theorem dX3_scoreBy_19 : decode cX3_scoreBy 19 = .ok (.getfield 42, 3) := dk_180 0 42 (dk_at dksX3_scoreBy_0 19 rfl rfl)
theorem dX3_scoreBy_22 : decode cX3_scoreBy 22 = .ok (.iload_n 1, 1) := dk_27 (dk_at dksX3_scoreBy_0 22 rfl rfl)
theorem dX3_scoreBy_23 : decode cX3_scoreBy 23 = .ok (.aaload, 1) := dk_50 (dk_at dksX3_scoreBy_0 23 rfl rfl)
theorem dX3_scoreBy_24 : decode cX3_scoreBy 24 = .ok (.iconst 0, 1) := dk_3 (dk_at dksX3_scoreBy_1 0 rfl rfl)
theorem dX3_scoreBy_25 : decode cX3_scoreBy 25 = .ok (.iaload, 1) := dk_46 (dk_at dksX3_scoreBy_1 1 rfl rfl)
theorem dX3_scoreBy_26 : decode cX3_scoreBy 26 = .ok (.tableswitch 113 0 4 #[34, 113, 42, 66, 78], 34) := by decide +kernel
theorem dX3_scoreBy_60 : decode cX3_scoreBy 60 = .ok (.bipush 100, 2) := dk_16 100 (dk_at dksX3_scoreBy_3 0 rfl rfl)
theorem dX3_scoreBy_62 : decode cX3_scoreBy 62 = .ok (.aload 4, 2) := dk_25 4 (dk_at dksX3_scoreBy_3 2 rfl rfl)
theorem dX3_scoreBy_64 : decode cX3_scoreBy 64 = .ok (.iconst 3, 1) := dk_6 (dk_at dksX3_scoreBy_3 4 rfl rfl)
theorem dX3_scoreBy_65 : decode cX3_scoreBy 65 = .ok (.iaload, 1) := dk_46 (dk_at dksX3_scoreBy_3 5 rfl rfl)
theorem dX3_scoreBy_66 : decode cX3_scoreBy 66 = .ok (.isub, 1) := dk_100 (dk_at dksX3_scoreBy_3 6 rfl rfl)
theorem dX3_scoreBy_67 : decode cX3_scoreBy 67 = .ok (.ireturn, 1) := dk_172 (dk_at dksX3_scoreBy_3 7 rfl rfl)
theorem dX3_scoreBy_68 : decode cX3_scoreBy 68 = .ok (.iload_n 3, 1) := dk_29 (dk_at dksX3_scoreBy_3 8 rfl rfl)
theorem dX3_scoreBy_69 : decode cX3_scoreBy 69 = .ok (.iconst (-1), 1) := dk_2 (dk_at dksX3_scoreBy_3 9 rfl rfl)
theorem dX3_scoreBy_70 : decode cX3_scoreBy 70 = .ok (.if_icmp .ne 13, 3) := dk_160 0 13 (dk_at dksX3_scoreBy_3 10 rfl rfl)
theorem dX3_scoreBy_73 : decode cX3_scoreBy 73 = .ok (.bipush 100, 2) := dk_16 100 (dk_at dksX3_scoreBy_3 13 rfl rfl)
theorem dX3_scoreBy_75 : decode cX3_scoreBy 75 = .ok (.aload 4, 2) := dk_25 4 (dk_at dksX3_scoreBy_3 15 rfl rfl)
theorem dX3_scoreBy_77 : decode cX3_scoreBy 77 = .ok (.iconst 3, 1) := dk_6 (dk_at dksX3_scoreBy_3 17 rfl rfl)
theorem dX3_scoreBy_78 : decode cX3_scoreBy 78 = .ok (.iaload, 1) := dk_46 (dk_at dksX3_scoreBy_3 18 rfl rfl)
theorem dX3_scoreBy_79 : decode cX3_scoreBy 79 = .ok (.isub, 1) := dk_100 (dk_at dksX3_scoreBy_3 19 rfl rfl)
theorem dX3_scoreBy_80 : decode cX3_scoreBy 80 = .ok (.goto 11, 3) := dk_167 0 11 (dk_at dksX3_scoreBy_3 20 rfl rfl)
theorem dX3_scoreBy_83 : decode cX3_scoreBy 83 = .ok (.aload_n 0, 1) := dk_42 (dk_at dksX3_scoreBy_3 23 rfl rfl)
theorem dX3_scoreBy_84 : decode cX3_scoreBy 84 = .ok (.iload_n 3, 1) := dk_29 (dk_at dksX3_scoreBy_4 0 rfl rfl)
theorem dX3_scoreBy_85 : decode cX3_scoreBy 85 = .ok (.invokevirtual 242, 3) := dk_182 0 242 (dk_at dksX3_scoreBy_4 1 rfl rfl)
theorem dX3_scoreBy_88 : decode cX3_scoreBy 88 = .ok (.iload 5, 2) := dk_21 5 (dk_at dksX3_scoreBy_4 4 rfl rfl)
theorem dX3_scoreBy_90 : decode cX3_scoreBy 90 = .ok (.isub, 1) := dk_100 (dk_at dksX3_scoreBy_4 6 rfl rfl)
theorem dX3_scoreBy_91 : decode cX3_scoreBy 91 = .ok (.ireturn, 1) := dk_172 (dk_at dksX3_scoreBy_4 7 rfl rfl)
theorem dX3_scoreBy_92 : decode cX3_scoreBy 92 = .ok (.aload 4, 2) := dk_25 4 (dk_at dksX3_scoreBy_4 8 rfl rfl)
theorem dX3_scoreBy_94 : decode cX3_scoreBy 94 = .ok (.iconst 0, 1) := dk_3 (dk_at dksX3_scoreBy_4 10 rfl rfl)
theorem dX3_scoreBy_95 : decode cX3_scoreBy 95 = .ok (.iaload, 1) := dk_46 (dk_at dksX3_scoreBy_4 11 rfl rfl)
theorem dX3_scoreBy_96 : decode cX3_scoreBy 96 = .ok (.aload 4, 2) := dk_25 4 (dk_at dksX3_scoreBy_4 12 rfl rfl)
theorem dX3_scoreBy_98 : decode cX3_scoreBy 98 = .ok (.iconst 3, 1) := dk_6 (dk_at dksX3_scoreBy_4 14 rfl rfl)
theorem dX3_scoreBy_99 : decode cX3_scoreBy 99 = .ok (.iaload, 1) := dk_46 (dk_at dksX3_scoreBy_4 15 rfl rfl)
theorem dX3_scoreBy_100 : decode cX3_scoreBy 100 = .ok (.iconst 2, 1) := dk_5 (dk_at dksX3_scoreBy_4 16 rfl rfl)
theorem dX3_scoreBy_101 : decode cX3_scoreBy 101 = .ok (.idiv, 1) := dk_108 (dk_at dksX3_scoreBy_4 17 rfl rfl)
theorem dX3_scoreBy_102 : decode cX3_scoreBy 102 = .ok (.isub, 1) := dk_100 (dk_at dksX3_scoreBy_4 18 rfl rfl)
theorem dX3_scoreBy_103 : decode cX3_scoreBy 103 = .ok (.ireturn, 1) := dk_172 (dk_at dksX3_scoreBy_4 19 rfl rfl)
theorem dX3_scoreBy_104 : decode cX3_scoreBy 104 = .ok (.aload 4, 2) := dk_25 4 (dk_at dksX3_scoreBy_4 20 rfl rfl)
theorem dX3_scoreBy_106 : decode cX3_scoreBy 106 = .ok (.iconst 5, 1) := dk_8 (dk_at dksX3_scoreBy_4 22 rfl rfl)
theorem dX3_scoreBy_107 : decode cX3_scoreBy 107 = .ok (.iaload, 1) := dk_46 (dk_at dksX3_scoreBy_4 23 rfl rfl)
theorem dX3_scoreBy_108 : decode cX3_scoreBy 108 = .ok (.iload 5, 2) := dk_21 5 (dk_at dksX3_scoreBy_5 0 rfl rfl)
theorem dX3_scoreBy_110 : decode cX3_scoreBy 110 = .ok (.if_icmp .lt 23, 3) := dk_161 0 23 (dk_at dksX3_scoreBy_5 2 rfl rfl)
theorem dX3_scoreBy_113 : decode cX3_scoreBy 113 = .ok (.aload 4, 2) := dk_25 4 (dk_at dksX3_scoreBy_5 5 rfl rfl)
theorem dX3_scoreBy_115 : decode cX3_scoreBy 115 = .ok (.iconst 5, 1) := dk_8 (dk_at dksX3_scoreBy_5 7 rfl rfl)
theorem dX3_scoreBy_116 : decode cX3_scoreBy 116 = .ok (.iaload, 1) := dk_46 (dk_at dksX3_scoreBy_5 8 rfl rfl)
theorem dX3_scoreBy_117 : decode cX3_scoreBy 117 = .ok (.ifCond .le 16, 3) := dk_158 0 16 (dk_at dksX3_scoreBy_5 9 rfl rfl)
theorem dX3_scoreBy_120 : decode cX3_scoreBy 120 = .ok (.aload 4, 2) := dk_25 4 (dk_at dksX3_scoreBy_5 12 rfl rfl)
theorem dX3_scoreBy_122 : decode cX3_scoreBy 122 = .ok (.bipush 6, 2) := dk_16 6 (dk_at dksX3_scoreBy_5 14 rfl rfl)
theorem dX3_scoreBy_124 : decode cX3_scoreBy 124 = .ok (.iaload, 1) := dk_46 (dk_at dksX3_scoreBy_5 16 rfl rfl)
theorem dX3_scoreBy_125 : decode cX3_scoreBy 125 = .ok (.aload 4, 2) := dk_25 4 (dk_at dksX3_scoreBy_5 17 rfl rfl)
theorem dX3_scoreBy_127 : decode cX3_scoreBy 127 = .ok (.iconst 5, 1) := dk_8 (dk_at dksX3_scoreBy_5 19 rfl rfl)
theorem dX3_scoreBy_128 : decode cX3_scoreBy 128 = .ok (.iaload, 1) := dk_46 (dk_at dksX3_scoreBy_5 20 rfl rfl)
theorem dX3_scoreBy_129 : decode cX3_scoreBy 129 = .ok (.idiv, 1) := dk_108 (dk_at dksX3_scoreBy_5 21 rfl rfl)
theorem dX3_scoreBy_130 : decode cX3_scoreBy 130 = .ok (.goto 8, 3) := dk_167 0 8 (dk_at dksX3_scoreBy_6 0 rfl rfl)
theorem dX3_scoreBy_133 : decode cX3_scoreBy 133 = .ok (.aload_n 0, 1) := dk_42 (dk_at dksX3_scoreBy_6 3 rfl rfl)
theorem dX3_scoreBy_134 : decode cX3_scoreBy 134 = .ok (.iload_n 3, 1) := dk_29 (dk_at dksX3_scoreBy_6 4 rfl rfl)
theorem dX3_scoreBy_135 : decode cX3_scoreBy 135 = .ok (.invokevirtual 242, 3) := dk_182 0 242 (dk_at dksX3_scoreBy_6 5 rfl rfl)
theorem dX3_scoreBy_138 : decode cX3_scoreBy 138 = .ok (.ireturn, 1) := dk_172 (dk_at dksX3_scoreBy_6 8 rfl rfl)
theorem dX3_scoreBy_139 : decode cX3_scoreBy 139 = .ok (.aload_n 0, 1) := dk_42 (dk_at dksX3_scoreBy_6 9 rfl rfl)
theorem dX3_scoreBy_140 : decode cX3_scoreBy 140 = .ok (.iload_n 3, 1) := dk_29 (dk_at dksX3_scoreBy_6 10 rfl rfl)
theorem dX3_scoreBy_141 : decode cX3_scoreBy 141 = .ok (.invokevirtual 242, 3) := dk_182 0 242 (dk_at dksX3_scoreBy_6 11 rfl rfl)
theorem dX3_scoreBy_144 : decode cX3_scoreBy 144 = .ok (.ireturn, 1) := dk_172 (dk_at dksX3_scoreBy_6 14 rfl rfl)
abbrev cX3_booked : ByteArray := prog_16_method_47_code
def yX3_booked : MethodName := ⟨RX3, "booked", "(I)I"⟩
def dkwX3_booked_0 : List UInt8 := [27, 5, 42, 180, 0, 132, 104, 100, 61, 27, 2, 159, 0, 7, 28, 156, 0, 7, 3, 167, 0, 4, 28, 172]
abbrev dktX3_booked_0 : List UInt8 := dkwX3_booked_0 ++ []
theorem dksX3_booked_0 : cX3_booked.data.toList.drop 0 = dktX3_booked_0 := by decide +kernel
theorem dX3_booked_0 : decode cX3_booked 0 = .ok (.iload_n 1, 1) := dk_27 (dk_at dksX3_booked_0 0 rfl rfl)
theorem dX3_booked_1 : decode cX3_booked 1 = .ok (.iconst 2, 1) := dk_5 (dk_at dksX3_booked_0 1 rfl rfl)
theorem dX3_booked_2 : decode cX3_booked 2 = .ok (.aload_n 0, 1) := dk_42 (dk_at dksX3_booked_0 2 rfl rfl)
theorem dX3_booked_3 : decode cX3_booked 3 = .ok (.getfield 132, 3) := dk_180 0 132 (dk_at dksX3_booked_0 3 rfl rfl)
theorem dX3_booked_6 : decode cX3_booked 6 = .ok (.imul, 1) := dk_104 (dk_at dksX3_booked_0 6 rfl rfl)
theorem dX3_booked_7 : decode cX3_booked 7 = .ok (.isub, 1) := dk_100 (dk_at dksX3_booked_0 7 rfl rfl)
theorem dX3_booked_8 : decode cX3_booked 8 = .ok (.istore_n 2, 1) := dk_61 (dk_at dksX3_booked_0 8 rfl rfl)
theorem dX3_booked_9 : decode cX3_booked 9 = .ok (.iload_n 1, 1) := dk_27 (dk_at dksX3_booked_0 9 rfl rfl)
theorem dX3_booked_10 : decode cX3_booked 10 = .ok (.iconst (-1), 1) := dk_2 (dk_at dksX3_booked_0 10 rfl rfl)
theorem dX3_booked_11 : decode cX3_booked 11 = .ok (.if_icmp .eq 7, 3) := dk_159 0 7 (dk_at dksX3_booked_0 11 rfl rfl)
theorem dX3_booked_14 : decode cX3_booked 14 = .ok (.iload_n 2, 1) := dk_28 (dk_at dksX3_booked_0 14 rfl rfl)
theorem dX3_booked_15 : decode cX3_booked 15 = .ok (.ifCond .ge 7, 3) := dk_156 0 7 (dk_at dksX3_booked_0 15 rfl rfl)
theorem dX3_booked_18 : decode cX3_booked 18 = .ok (.iconst 0, 1) := dk_3 (dk_at dksX3_booked_0 18 rfl rfl)
theorem dX3_booked_19 : decode cX3_booked 19 = .ok (.goto 4, 3) := dk_167 0 4 (dk_at dksX3_booked_0 19 rfl rfl)
theorem dX3_booked_22 : decode cX3_booked 22 = .ok (.iload_n 2, 1) := dk_28 (dk_at dksX3_booked_0 22 rfl rfl)
theorem dX3_booked_23 : decode cX3_booked 23 = .ok (.ireturn, 1) := dk_172 (dk_at dksX3_booked_0 23 rfl rfl)
abbrev cX3_inn : ByteArray := prog_16_method_19_code
def yX3_inn : MethodName := ⟨RX3, "inn", "(III)I"⟩
def dkwX3_inn_3 : List UInt8 := [4, 100, 172]
abbrev dktX3_inn_3 : List UInt8 := dkwX3_inn_3 ++ []
def dkwX3_inn_2 : List UInt8 := [16, 6, 160, 0, 10, 42, 16, 250, 182, 0, 91, 172, 42, 27, 28, 29, 2, 182, 0, 121, 42, 180, 0, 73]
abbrev dktX3_inn_2 : List UInt8 := dkwX3_inn_2 ++ dktX3_inn_3
def dkwX3_inn_1 : List UInt8 := [29, 133, 9, 20, 0, 119, 184, 0, 76, 154, 0, 10, 42, 16, 254, 182, 0, 91, 172, 42, 180, 0, 73]
abbrev dktX3_inn_1 : List UInt8 := dkwX3_inn_1 ++ dktX3_inn_2
def dkwX3_inn_0 : List UInt8 := [27, 133, 9, 20, 0, 115, 184, 0, 76, 153, 0, 27, 28, 133, 10, 20, 0, 117, 184, 0, 76, 153, 0, 15]
abbrev dktX3_inn_0 : List UInt8 := dkwX3_inn_0 ++ dktX3_inn_1
theorem dksX3_inn_0 : cX3_inn.data.toList.drop 0 = dktX3_inn_0 := by decide +kernel
theorem dksX3_inn_1 : cX3_inn.data.toList.drop 24 = dktX3_inn_1 := dk_seg dksX3_inn_0 24 rfl rfl
theorem dksX3_inn_2 : cX3_inn.data.toList.drop 47 = dktX3_inn_2 := dk_seg dksX3_inn_1 23 rfl rfl
theorem dksX3_inn_3 : cX3_inn.data.toList.drop 71 = dktX3_inn_3 := dk_seg dksX3_inn_2 24 rfl rfl
theorem dX3_inn_0 : decode cX3_inn 0 = .ok (.iload_n 1, 1) := dk_27 (dk_at dksX3_inn_0 0 rfl rfl)
theorem dX3_inn_1 : decode cX3_inn 1 = .ok (.i2l, 1) := dk_133 (dk_at dksX3_inn_0 1 rfl rfl)
theorem dX3_inn_2 : decode cX3_inn 2 = .ok (.lconst 0, 1) := dk_9 (dk_at dksX3_inn_0 2 rfl rfl)
theorem dX3_inn_3 : decode cX3_inn 3 = .ok (.ldc2_w 115, 3) := dk_20 0 115 (dk_at dksX3_inn_0 3 rfl rfl)
theorem dX3_inn_6 : decode cX3_inn 6 = .ok (.invokestatic 76, 3) := dk_184 0 76 (dk_at dksX3_inn_0 6 rfl rfl)
theorem dX3_inn_9 : decode cX3_inn 9 = .ok (.ifCond .eq 27, 3) := dk_153 0 27 (dk_at dksX3_inn_0 9 rfl rfl)
theorem dX3_inn_12 : decode cX3_inn 12 = .ok (.iload_n 2, 1) := dk_28 (dk_at dksX3_inn_0 12 rfl rfl)
theorem dX3_inn_13 : decode cX3_inn 13 = .ok (.i2l, 1) := dk_133 (dk_at dksX3_inn_0 13 rfl rfl)
theorem dX3_inn_14 : decode cX3_inn 14 = .ok (.lconst 1, 1) := dk_10 (dk_at dksX3_inn_0 14 rfl rfl)
theorem dX3_inn_15 : decode cX3_inn 15 = .ok (.ldc2_w 117, 3) := dk_20 0 117 (dk_at dksX3_inn_0 15 rfl rfl)
theorem dX3_inn_18 : decode cX3_inn 18 = .ok (.invokestatic 76, 3) := dk_184 0 76 (dk_at dksX3_inn_0 18 rfl rfl)
theorem dX3_inn_21 : decode cX3_inn 21 = .ok (.ifCond .eq 15, 3) := dk_153 0 15 (dk_at dksX3_inn_0 21 rfl rfl)
theorem dX3_inn_24 : decode cX3_inn 24 = .ok (.iload_n 3, 1) := dk_29 (dk_at dksX3_inn_1 0 rfl rfl)
theorem dX3_inn_25 : decode cX3_inn 25 = .ok (.i2l, 1) := dk_133 (dk_at dksX3_inn_1 1 rfl rfl)
theorem dX3_inn_26 : decode cX3_inn 26 = .ok (.lconst 0, 1) := dk_9 (dk_at dksX3_inn_1 2 rfl rfl)
theorem dX3_inn_27 : decode cX3_inn 27 = .ok (.ldc2_w 119, 3) := dk_20 0 119 (dk_at dksX3_inn_1 3 rfl rfl)
theorem dX3_inn_30 : decode cX3_inn 30 = .ok (.invokestatic 76, 3) := dk_184 0 76 (dk_at dksX3_inn_1 6 rfl rfl)
theorem dX3_inn_33 : decode cX3_inn 33 = .ok (.ifCond .ne 10, 3) := dk_154 0 10 (dk_at dksX3_inn_1 9 rfl rfl)
theorem dX3_inn_36 : decode cX3_inn 36 = .ok (.aload_n 0, 1) := dk_42 (dk_at dksX3_inn_1 12 rfl rfl)
theorem dX3_inn_37 : decode cX3_inn 37 = .ok (.bipush (-2), 2) := dk_16 254 (dk_at dksX3_inn_1 13 rfl rfl)
theorem dX3_inn_39 : decode cX3_inn 39 = .ok (.invokevirtual 91, 3) := dk_182 0 91 (dk_at dksX3_inn_1 15 rfl rfl)
theorem dX3_inn_42 : decode cX3_inn 42 = .ok (.ireturn, 1) := dk_172 (dk_at dksX3_inn_1 18 rfl rfl)
theorem dX3_inn_43 : decode cX3_inn 43 = .ok (.aload_n 0, 1) := dk_42 (dk_at dksX3_inn_1 19 rfl rfl)
theorem dX3_inn_44 : decode cX3_inn 44 = .ok (.getfield 73, 3) := dk_180 0 73 (dk_at dksX3_inn_1 20 rfl rfl)
theorem dX3_inn_47 : decode cX3_inn 47 = .ok (.bipush 6, 2) := dk_16 6 (dk_at dksX3_inn_2 0 rfl rfl)
theorem dX3_inn_49 : decode cX3_inn 49 = .ok (.if_icmp .ne 10, 3) := dk_160 0 10 (dk_at dksX3_inn_2 2 rfl rfl)
theorem dX3_inn_52 : decode cX3_inn 52 = .ok (.aload_n 0, 1) := dk_42 (dk_at dksX3_inn_2 5 rfl rfl)
theorem dX3_inn_53 : decode cX3_inn 53 = .ok (.bipush (-6), 2) := dk_16 250 (dk_at dksX3_inn_2 6 rfl rfl)
theorem dX3_inn_55 : decode cX3_inn 55 = .ok (.invokevirtual 91, 3) := dk_182 0 91 (dk_at dksX3_inn_2 8 rfl rfl)
theorem dX3_inn_58 : decode cX3_inn 58 = .ok (.ireturn, 1) := dk_172 (dk_at dksX3_inn_2 11 rfl rfl)
theorem dX3_inn_59 : decode cX3_inn 59 = .ok (.aload_n 0, 1) := dk_42 (dk_at dksX3_inn_2 12 rfl rfl)
theorem dX3_inn_60 : decode cX3_inn 60 = .ok (.iload_n 1, 1) := dk_27 (dk_at dksX3_inn_2 13 rfl rfl)
theorem dX3_inn_61 : decode cX3_inn 61 = .ok (.iload_n 2, 1) := dk_28 (dk_at dksX3_inn_2 14 rfl rfl)
theorem dX3_inn_62 : decode cX3_inn 62 = .ok (.iload_n 3, 1) := dk_29 (dk_at dksX3_inn_2 15 rfl rfl)
theorem dX3_inn_63 : decode cX3_inn 63 = .ok (.iconst (-1), 1) := dk_2 (dk_at dksX3_inn_2 16 rfl rfl)
theorem dX3_inn_64 : decode cX3_inn 64 = .ok (.invokevirtual 121, 3) := dk_182 0 121 (dk_at dksX3_inn_2 17 rfl rfl)
theorem dX3_inn_67 : decode cX3_inn 67 = .ok (.aload_n 0, 1) := dk_42 (dk_at dksX3_inn_2 20 rfl rfl)
theorem dX3_inn_68 : decode cX3_inn 68 = .ok (.getfield 73, 3) := dk_180 0 73 (dk_at dksX3_inn_2 21 rfl rfl)
theorem dX3_inn_71 : decode cX3_inn 71 = .ok (.iconst 1, 1) := dk_4 (dk_at dksX3_inn_3 0 rfl rfl)
theorem dX3_inn_72 : decode cX3_inn 72 = .ok (.isub, 1) := dk_100 (dk_at dksX3_inn_3 1 rfl rfl)
theorem dX3_inn_73 : decode cX3_inn 73 = .ok (.ireturn, 1) := dk_172 (dk_at dksX3_inn_3 2 rfl rfl)
abbrev cX3_addInn : ByteArray := prog_16_method_18_code
def yX3_addInn : MethodName := ⟨RX3, "addInn", "(IIII)V"⟩
def dkwX3_addInn_2 : List UInt8 := [3, 79, 25, 5, 16, 6, 3, 79, 177]
abbrev dktX3_addInn_2 : List UInt8 := dkwX3_addInn_2 ++ []
def dkwX3_addInn_1 : List UInt8 := [25, 5, 4, 27, 79, 25, 5, 5, 28, 79, 25, 5, 6, 29, 79, 25, 5, 7, 21, 4, 79, 25, 5, 8]
abbrev dktX3_addInn_1 : List UInt8 := dkwX3_addInn_1 ++ dktX3_addInn_2
def dkwX3_addInn_0 : List UInt8 := [42, 180, 0, 39, 42, 89, 180, 0, 73, 90, 4, 96, 181, 0, 73, 50, 58, 5, 25, 5, 3, 27, 79]
abbrev dktX3_addInn_0 : List UInt8 := dkwX3_addInn_0 ++ dktX3_addInn_1
theorem dksX3_addInn_0 : cX3_addInn.data.toList.drop 0 = dktX3_addInn_0 := by decide +kernel
theorem dksX3_addInn_1 : cX3_addInn.data.toList.drop 23 = dktX3_addInn_1 := dk_seg dksX3_addInn_0 23 rfl rfl
theorem dksX3_addInn_2 : cX3_addInn.data.toList.drop 47 = dktX3_addInn_2 := dk_seg dksX3_addInn_1 24 rfl rfl
theorem dX3_addInn_0 : decode cX3_addInn 0 = .ok (.aload_n 0, 1) := dk_42 (dk_at dksX3_addInn_0 0 rfl rfl)
theorem dX3_addInn_1 : decode cX3_addInn 1 = .ok (.getfield 39, 3) := dk_180 0 39 (dk_at dksX3_addInn_0 1 rfl rfl)
theorem dX3_addInn_4 : decode cX3_addInn 4 = .ok (.aload_n 0, 1) := dk_42 (dk_at dksX3_addInn_0 4 rfl rfl)
theorem dX3_addInn_5 : decode cX3_addInn 5 = .ok (.dup, 1) := dk_89 (dk_at dksX3_addInn_0 5 rfl rfl)
theorem dX3_addInn_6 : decode cX3_addInn 6 = .ok (.getfield 73, 3) := dk_180 0 73 (dk_at dksX3_addInn_0 6 rfl rfl)
theorem dX3_addInn_9 : decode cX3_addInn 9 = .ok (.dup_x1, 1) := dk_90 (dk_at dksX3_addInn_0 9 rfl rfl)
theorem dX3_addInn_10 : decode cX3_addInn 10 = .ok (.iconst 1, 1) := dk_4 (dk_at dksX3_addInn_0 10 rfl rfl)
theorem dX3_addInn_11 : decode cX3_addInn 11 = .ok (.iadd, 1) := dk_96 (dk_at dksX3_addInn_0 11 rfl rfl)
theorem dX3_addInn_12 : decode cX3_addInn 12 = .ok (.putfield 73, 3) := dk_181 0 73 (dk_at dksX3_addInn_0 12 rfl rfl)
theorem dX3_addInn_15 : decode cX3_addInn 15 = .ok (.aaload, 1) := dk_50 (dk_at dksX3_addInn_0 15 rfl rfl)
theorem dX3_addInn_16 : decode cX3_addInn 16 = .ok (.astore 5, 2) := dk_58 5 (dk_at dksX3_addInn_0 16 rfl rfl)
theorem dX3_addInn_18 : decode cX3_addInn 18 = .ok (.aload 5, 2) := dk_25 5 (dk_at dksX3_addInn_0 18 rfl rfl)
theorem dX3_addInn_20 : decode cX3_addInn 20 = .ok (.iconst 0, 1) := dk_3 (dk_at dksX3_addInn_0 20 rfl rfl)
theorem dX3_addInn_21 : decode cX3_addInn 21 = .ok (.iload_n 1, 1) := dk_27 (dk_at dksX3_addInn_0 21 rfl rfl)
theorem dX3_addInn_22 : decode cX3_addInn 22 = .ok (.iastore, 1) := dk_79 (dk_at dksX3_addInn_0 22 rfl rfl)
theorem dX3_addInn_23 : decode cX3_addInn 23 = .ok (.aload 5, 2) := dk_25 5 (dk_at dksX3_addInn_1 0 rfl rfl)
theorem dX3_addInn_25 : decode cX3_addInn 25 = .ok (.iconst 1, 1) := dk_4 (dk_at dksX3_addInn_1 2 rfl rfl)
theorem dX3_addInn_26 : decode cX3_addInn 26 = .ok (.iload_n 1, 1) := dk_27 (dk_at dksX3_addInn_1 3 rfl rfl)
theorem dX3_addInn_27 : decode cX3_addInn 27 = .ok (.iastore, 1) := dk_79 (dk_at dksX3_addInn_1 4 rfl rfl)
theorem dX3_addInn_28 : decode cX3_addInn 28 = .ok (.aload 5, 2) := dk_25 5 (dk_at dksX3_addInn_1 5 rfl rfl)
theorem dX3_addInn_30 : decode cX3_addInn 30 = .ok (.iconst 2, 1) := dk_5 (dk_at dksX3_addInn_1 7 rfl rfl)
theorem dX3_addInn_31 : decode cX3_addInn 31 = .ok (.iload_n 2, 1) := dk_28 (dk_at dksX3_addInn_1 8 rfl rfl)
theorem dX3_addInn_32 : decode cX3_addInn 32 = .ok (.iastore, 1) := dk_79 (dk_at dksX3_addInn_1 9 rfl rfl)
theorem dX3_addInn_33 : decode cX3_addInn 33 = .ok (.aload 5, 2) := dk_25 5 (dk_at dksX3_addInn_1 10 rfl rfl)
theorem dX3_addInn_35 : decode cX3_addInn 35 = .ok (.iconst 3, 1) := dk_6 (dk_at dksX3_addInn_1 12 rfl rfl)
theorem dX3_addInn_36 : decode cX3_addInn 36 = .ok (.iload_n 3, 1) := dk_29 (dk_at dksX3_addInn_1 13 rfl rfl)
theorem dX3_addInn_37 : decode cX3_addInn 37 = .ok (.iastore, 1) := dk_79 (dk_at dksX3_addInn_1 14 rfl rfl)
theorem dX3_addInn_38 : decode cX3_addInn 38 = .ok (.aload 5, 2) := dk_25 5 (dk_at dksX3_addInn_1 15 rfl rfl)
theorem dX3_addInn_40 : decode cX3_addInn 40 = .ok (.iconst 4, 1) := dk_7 (dk_at dksX3_addInn_1 17 rfl rfl)
theorem dX3_addInn_41 : decode cX3_addInn 41 = .ok (.iload 4, 2) := dk_21 4 (dk_at dksX3_addInn_1 18 rfl rfl)
theorem dX3_addInn_43 : decode cX3_addInn 43 = .ok (.iastore, 1) := dk_79 (dk_at dksX3_addInn_1 20 rfl rfl)
theorem dX3_addInn_44 : decode cX3_addInn 44 = .ok (.aload 5, 2) := dk_25 5 (dk_at dksX3_addInn_1 21 rfl rfl)
theorem dX3_addInn_46 : decode cX3_addInn 46 = .ok (.iconst 5, 1) := dk_8 (dk_at dksX3_addInn_1 23 rfl rfl)
theorem dX3_addInn_47 : decode cX3_addInn 47 = .ok (.iconst 0, 1) := dk_3 (dk_at dksX3_addInn_2 0 rfl rfl)
theorem dX3_addInn_48 : decode cX3_addInn 48 = .ok (.iastore, 1) := dk_79 (dk_at dksX3_addInn_2 1 rfl rfl)
theorem dX3_addInn_49 : decode cX3_addInn 49 = .ok (.aload 5, 2) := dk_25 5 (dk_at dksX3_addInn_2 2 rfl rfl)
theorem dX3_addInn_51 : decode cX3_addInn 51 = .ok (.bipush 6, 2) := dk_16 6 (dk_at dksX3_addInn_2 4 rfl rfl)
theorem dX3_addInn_53 : decode cX3_addInn 53 = .ok (.iconst 0, 1) := dk_3 (dk_at dksX3_addInn_2 6 rfl rfl)
theorem dX3_addInn_54 : decode cX3_addInn 54 = .ok (.iastore, 1) := dk_79 (dk_at dksX3_addInn_2 7 rfl rfl)
theorem dX3_addInn_55 : decode cX3_addInn 55 = .ok (.return_, 1) := dk_177 (dk_at dksX3_addInn_2 8 rfl rfl)
abbrev cX3_goer : ByteArray := prog_16_method_20_code
def yX3_goer : MethodName := ⟨RX3, "goer", "(III)I"⟩
def dkwX3_goer_4 : List UInt8 := [42, 89, 180, 0, 80, 90, 4, 96, 181, 0, 80, 172]
abbrev dktX3_goer_4 : List UInt8 := dkwX3_goer_4 ++ []
def dkwX3_goer_3 : List UInt8 := [42, 180, 0, 42, 42, 180, 0, 80, 50, 4, 28, 79, 42, 180, 0, 42, 42, 180, 0, 80, 50, 5, 29, 79]
abbrev dktX3_goer_3 : List UInt8 := dkwX3_goer_3 ++ dktX3_goer_4
def dkwX3_goer_2 : List UInt8 := [16, 6, 160, 0, 10, 42, 16, 250, 182, 0, 91, 172, 42, 180, 0, 42, 42, 180, 0, 80, 50, 3, 27, 79]
abbrev dktX3_goer_2 : List UInt8 := dkwX3_goer_2 ++ dktX3_goer_3
def dkwX3_goer_1 : List UInt8 := [29, 133, 9, 20, 0, 119, 184, 0, 76, 154, 0, 10, 42, 16, 254, 182, 0, 91, 172, 42, 180, 0, 80]
abbrev dktX3_goer_1 : List UInt8 := dkwX3_goer_1 ++ dktX3_goer_2
def dkwX3_goer_0 : List UInt8 := [27, 133, 9, 20, 0, 106, 184, 0, 76, 153, 0, 27, 28, 133, 10, 20, 0, 125, 184, 0, 76, 153, 0, 15]
abbrev dktX3_goer_0 : List UInt8 := dkwX3_goer_0 ++ dktX3_goer_1
theorem dksX3_goer_0 : cX3_goer.data.toList.drop 0 = dktX3_goer_0 := by decide +kernel
theorem dksX3_goer_1 : cX3_goer.data.toList.drop 24 = dktX3_goer_1 := dk_seg dksX3_goer_0 24 rfl rfl
theorem dksX3_goer_2 : cX3_goer.data.toList.drop 47 = dktX3_goer_2 := dk_seg dksX3_goer_1 23 rfl rfl
theorem dksX3_goer_3 : cX3_goer.data.toList.drop 71 = dktX3_goer_3 := dk_seg dksX3_goer_2 24 rfl rfl
theorem dksX3_goer_4 : cX3_goer.data.toList.drop 95 = dktX3_goer_4 := dk_seg dksX3_goer_3 24 rfl rfl
theorem dX3_goer_0 : decode cX3_goer 0 = .ok (.iload_n 1, 1) := dk_27 (dk_at dksX3_goer_0 0 rfl rfl)
theorem dX3_goer_1 : decode cX3_goer 1 = .ok (.i2l, 1) := dk_133 (dk_at dksX3_goer_0 1 rfl rfl)
theorem dX3_goer_2 : decode cX3_goer 2 = .ok (.lconst 0, 1) := dk_9 (dk_at dksX3_goer_0 2 rfl rfl)
theorem dX3_goer_3 : decode cX3_goer 3 = .ok (.ldc2_w 106, 3) := dk_20 0 106 (dk_at dksX3_goer_0 3 rfl rfl)
theorem dX3_goer_6 : decode cX3_goer 6 = .ok (.invokestatic 76, 3) := dk_184 0 76 (dk_at dksX3_goer_0 6 rfl rfl)
theorem dX3_goer_9 : decode cX3_goer 9 = .ok (.ifCond .eq 27, 3) := dk_153 0 27 (dk_at dksX3_goer_0 9 rfl rfl)
theorem dX3_goer_12 : decode cX3_goer 12 = .ok (.iload_n 2, 1) := dk_28 (dk_at dksX3_goer_0 12 rfl rfl)
theorem dX3_goer_13 : decode cX3_goer 13 = .ok (.i2l, 1) := dk_133 (dk_at dksX3_goer_0 13 rfl rfl)
theorem dX3_goer_14 : decode cX3_goer 14 = .ok (.lconst 1, 1) := dk_10 (dk_at dksX3_goer_0 14 rfl rfl)
theorem dX3_goer_15 : decode cX3_goer 15 = .ok (.ldc2_w 125, 3) := dk_20 0 125 (dk_at dksX3_goer_0 15 rfl rfl)
theorem dX3_goer_18 : decode cX3_goer 18 = .ok (.invokestatic 76, 3) := dk_184 0 76 (dk_at dksX3_goer_0 18 rfl rfl)
theorem dX3_goer_21 : decode cX3_goer 21 = .ok (.ifCond .eq 15, 3) := dk_153 0 15 (dk_at dksX3_goer_0 21 rfl rfl)
theorem dX3_goer_24 : decode cX3_goer 24 = .ok (.iload_n 3, 1) := dk_29 (dk_at dksX3_goer_1 0 rfl rfl)
theorem dX3_goer_25 : decode cX3_goer 25 = .ok (.i2l, 1) := dk_133 (dk_at dksX3_goer_1 1 rfl rfl)
theorem dX3_goer_26 : decode cX3_goer 26 = .ok (.lconst 0, 1) := dk_9 (dk_at dksX3_goer_1 2 rfl rfl)
theorem dX3_goer_27 : decode cX3_goer 27 = .ok (.ldc2_w 119, 3) := dk_20 0 119 (dk_at dksX3_goer_1 3 rfl rfl)
theorem dX3_goer_30 : decode cX3_goer 30 = .ok (.invokestatic 76, 3) := dk_184 0 76 (dk_at dksX3_goer_1 6 rfl rfl)
theorem dX3_goer_33 : decode cX3_goer 33 = .ok (.ifCond .ne 10, 3) := dk_154 0 10 (dk_at dksX3_goer_1 9 rfl rfl)
theorem dX3_goer_36 : decode cX3_goer 36 = .ok (.aload_n 0, 1) := dk_42 (dk_at dksX3_goer_1 12 rfl rfl)
theorem dX3_goer_37 : decode cX3_goer 37 = .ok (.bipush (-2), 2) := dk_16 254 (dk_at dksX3_goer_1 13 rfl rfl)
theorem dX3_goer_39 : decode cX3_goer 39 = .ok (.invokevirtual 91, 3) := dk_182 0 91 (dk_at dksX3_goer_1 15 rfl rfl)
theorem dX3_goer_42 : decode cX3_goer 42 = .ok (.ireturn, 1) := dk_172 (dk_at dksX3_goer_1 18 rfl rfl)
theorem dX3_goer_43 : decode cX3_goer 43 = .ok (.aload_n 0, 1) := dk_42 (dk_at dksX3_goer_1 19 rfl rfl)
theorem dX3_goer_44 : decode cX3_goer 44 = .ok (.getfield 80, 3) := dk_180 0 80 (dk_at dksX3_goer_1 20 rfl rfl)
theorem dX3_goer_47 : decode cX3_goer 47 = .ok (.bipush 6, 2) := dk_16 6 (dk_at dksX3_goer_2 0 rfl rfl)
theorem dX3_goer_49 : decode cX3_goer 49 = .ok (.if_icmp .ne 10, 3) := dk_160 0 10 (dk_at dksX3_goer_2 2 rfl rfl)
theorem dX3_goer_52 : decode cX3_goer 52 = .ok (.aload_n 0, 1) := dk_42 (dk_at dksX3_goer_2 5 rfl rfl)
theorem dX3_goer_53 : decode cX3_goer 53 = .ok (.bipush (-6), 2) := dk_16 250 (dk_at dksX3_goer_2 6 rfl rfl)
theorem dX3_goer_55 : decode cX3_goer 55 = .ok (.invokevirtual 91, 3) := dk_182 0 91 (dk_at dksX3_goer_2 8 rfl rfl)
theorem dX3_goer_58 : decode cX3_goer 58 = .ok (.ireturn, 1) := dk_172 (dk_at dksX3_goer_2 11 rfl rfl)
theorem dX3_goer_59 : decode cX3_goer 59 = .ok (.aload_n 0, 1) := dk_42 (dk_at dksX3_goer_2 12 rfl rfl)
theorem dX3_goer_60 : decode cX3_goer 60 = .ok (.getfield 42, 3) := dk_180 0 42 (dk_at dksX3_goer_2 13 rfl rfl)
theorem dX3_goer_63 : decode cX3_goer 63 = .ok (.aload_n 0, 1) := dk_42 (dk_at dksX3_goer_2 16 rfl rfl)
theorem dX3_goer_64 : decode cX3_goer 64 = .ok (.getfield 80, 3) := dk_180 0 80 (dk_at dksX3_goer_2 17 rfl rfl)
theorem dX3_goer_67 : decode cX3_goer 67 = .ok (.aaload, 1) := dk_50 (dk_at dksX3_goer_2 20 rfl rfl)
theorem dX3_goer_68 : decode cX3_goer 68 = .ok (.iconst 0, 1) := dk_3 (dk_at dksX3_goer_2 21 rfl rfl)
theorem dX3_goer_69 : decode cX3_goer 69 = .ok (.iload_n 1, 1) := dk_27 (dk_at dksX3_goer_2 22 rfl rfl)
theorem dX3_goer_70 : decode cX3_goer 70 = .ok (.iastore, 1) := dk_79 (dk_at dksX3_goer_2 23 rfl rfl)
theorem dX3_goer_71 : decode cX3_goer 71 = .ok (.aload_n 0, 1) := dk_42 (dk_at dksX3_goer_3 0 rfl rfl)
theorem dX3_goer_72 : decode cX3_goer 72 = .ok (.getfield 42, 3) := dk_180 0 42 (dk_at dksX3_goer_3 1 rfl rfl)
theorem dX3_goer_75 : decode cX3_goer 75 = .ok (.aload_n 0, 1) := dk_42 (dk_at dksX3_goer_3 4 rfl rfl)
theorem dX3_goer_76 : decode cX3_goer 76 = .ok (.getfield 80, 3) := dk_180 0 80 (dk_at dksX3_goer_3 5 rfl rfl)
theorem dX3_goer_79 : decode cX3_goer 79 = .ok (.aaload, 1) := dk_50 (dk_at dksX3_goer_3 8 rfl rfl)
theorem dX3_goer_80 : decode cX3_goer 80 = .ok (.iconst 1, 1) := dk_4 (dk_at dksX3_goer_3 9 rfl rfl)
theorem dX3_goer_81 : decode cX3_goer 81 = .ok (.iload_n 2, 1) := dk_28 (dk_at dksX3_goer_3 10 rfl rfl)
theorem dX3_goer_82 : decode cX3_goer 82 = .ok (.iastore, 1) := dk_79 (dk_at dksX3_goer_3 11 rfl rfl)
theorem dX3_goer_83 : decode cX3_goer 83 = .ok (.aload_n 0, 1) := dk_42 (dk_at dksX3_goer_3 12 rfl rfl)
theorem dX3_goer_84 : decode cX3_goer 84 = .ok (.getfield 42, 3) := dk_180 0 42 (dk_at dksX3_goer_3 13 rfl rfl)
theorem dX3_goer_87 : decode cX3_goer 87 = .ok (.aload_n 0, 1) := dk_42 (dk_at dksX3_goer_3 16 rfl rfl)
theorem dX3_goer_88 : decode cX3_goer 88 = .ok (.getfield 80, 3) := dk_180 0 80 (dk_at dksX3_goer_3 17 rfl rfl)
theorem dX3_goer_91 : decode cX3_goer 91 = .ok (.aaload, 1) := dk_50 (dk_at dksX3_goer_3 20 rfl rfl)
theorem dX3_goer_92 : decode cX3_goer 92 = .ok (.iconst 2, 1) := dk_5 (dk_at dksX3_goer_3 21 rfl rfl)
theorem dX3_goer_93 : decode cX3_goer 93 = .ok (.iload_n 3, 1) := dk_29 (dk_at dksX3_goer_3 22 rfl rfl)
theorem dX3_goer_94 : decode cX3_goer 94 = .ok (.iastore, 1) := dk_79 (dk_at dksX3_goer_3 23 rfl rfl)
theorem dX3_goer_95 : decode cX3_goer 95 = .ok (.aload_n 0, 1) := dk_42 (dk_at dksX3_goer_4 0 rfl rfl)
theorem dX3_goer_96 : decode cX3_goer 96 = .ok (.dup, 1) := dk_89 (dk_at dksX3_goer_4 1 rfl rfl)
theorem dX3_goer_97 : decode cX3_goer 97 = .ok (.getfield 80, 3) := dk_180 0 80 (dk_at dksX3_goer_4 2 rfl rfl)
theorem dX3_goer_100 : decode cX3_goer 100 = .ok (.dup_x1, 1) := dk_90 (dk_at dksX3_goer_4 5 rfl rfl)
theorem dX3_goer_101 : decode cX3_goer 101 = .ok (.iconst 1, 1) := dk_4 (dk_at dksX3_goer_4 6 rfl rfl)
theorem dX3_goer_102 : decode cX3_goer 102 = .ok (.iadd, 1) := dk_96 (dk_at dksX3_goer_4 7 rfl rfl)
theorem dX3_goer_103 : decode cX3_goer 103 = .ok (.putfield 80, 3) := dk_181 0 80 (dk_at dksX3_goer_4 8 rfl rfl)
theorem dX3_goer_106 : decode cX3_goer 106 = .ok (.ireturn, 1) := dk_172 (dk_at dksX3_goer_4 11 rfl rfl)
abbrev cX3_change : ByteArray := prog_16_method_21_code
def yX3_change : MethodName := ⟨RX3, "change", "(III)I"⟩
def dkwX3_change_3 : List UInt8 := [180, 0, 39, 27, 50, 21, 4, 29, 79, 21, 5, 172]
abbrev dktX3_change_3 : List UInt8 := dkwX3_change_3 ++ []
def dkwX3_change_2 : List UInt8 := [172, 28, 154, 0, 7, 3, 167, 0, 4, 6, 54, 4, 42, 180, 0, 39, 27, 50, 21, 4, 46, 54, 5, 42]
abbrev dktX3_change_2 : List UInt8 := dkwX3_change_2 ++ dktX3_change_3
def dkwX3_change_1 : List UInt8 := [154, 0, 9, 20, 0, 115, 167, 0, 6, 20, 0, 119, 184, 0, 76, 154, 0, 10, 42, 16, 254, 182, 0, 91]
abbrev dktX3_change_1 : List UInt8 := dkwX3_change_1 ++ dktX3_change_2
def dkwX3_change_0 : List UInt8 := [42, 27, 182, 0, 127, 153, 0, 35, 28, 133, 9, 10, 184, 0, 76, 153, 0, 25, 29, 133, 9, 28]
abbrev dktX3_change_0 : List UInt8 := dkwX3_change_0 ++ dktX3_change_1
theorem dksX3_change_0 : cX3_change.data.toList.drop 0 = dktX3_change_0 := by decide +kernel
theorem dksX3_change_1 : cX3_change.data.toList.drop 22 = dktX3_change_1 := dk_seg dksX3_change_0 22 rfl rfl
theorem dksX3_change_2 : cX3_change.data.toList.drop 46 = dktX3_change_2 := dk_seg dksX3_change_1 24 rfl rfl
theorem dksX3_change_3 : cX3_change.data.toList.drop 70 = dktX3_change_3 := dk_seg dksX3_change_2 24 rfl rfl
theorem dX3_change_0 : decode cX3_change 0 = .ok (.aload_n 0, 1) := dk_42 (dk_at dksX3_change_0 0 rfl rfl)
theorem dX3_change_1 : decode cX3_change 1 = .ok (.iload_n 1, 1) := dk_27 (dk_at dksX3_change_0 1 rfl rfl)
theorem dX3_change_2 : decode cX3_change 2 = .ok (.invokevirtual 127, 3) := dk_182 0 127 (dk_at dksX3_change_0 2 rfl rfl)
theorem dX3_change_5 : decode cX3_change 5 = .ok (.ifCond .eq 35, 3) := dk_153 0 35 (dk_at dksX3_change_0 5 rfl rfl)
theorem dX3_change_8 : decode cX3_change 8 = .ok (.iload_n 2, 1) := dk_28 (dk_at dksX3_change_0 8 rfl rfl)
theorem dX3_change_9 : decode cX3_change 9 = .ok (.i2l, 1) := dk_133 (dk_at dksX3_change_0 9 rfl rfl)
theorem dX3_change_10 : decode cX3_change 10 = .ok (.lconst 0, 1) := dk_9 (dk_at dksX3_change_0 10 rfl rfl)
theorem dX3_change_11 : decode cX3_change 11 = .ok (.lconst 1, 1) := dk_10 (dk_at dksX3_change_0 11 rfl rfl)
theorem dX3_change_12 : decode cX3_change 12 = .ok (.invokestatic 76, 3) := dk_184 0 76 (dk_at dksX3_change_0 12 rfl rfl)
theorem dX3_change_15 : decode cX3_change 15 = .ok (.ifCond .eq 25, 3) := dk_153 0 25 (dk_at dksX3_change_0 15 rfl rfl)
theorem dX3_change_18 : decode cX3_change 18 = .ok (.iload_n 3, 1) := dk_29 (dk_at dksX3_change_0 18 rfl rfl)
theorem dX3_change_19 : decode cX3_change 19 = .ok (.i2l, 1) := dk_133 (dk_at dksX3_change_0 19 rfl rfl)
theorem dX3_change_20 : decode cX3_change 20 = .ok (.lconst 0, 1) := dk_9 (dk_at dksX3_change_0 20 rfl rfl)
theorem dX3_change_21 : decode cX3_change 21 = .ok (.iload_n 2, 1) := dk_28 (dk_at dksX3_change_0 21 rfl rfl)
theorem dX3_change_22 : decode cX3_change 22 = .ok (.ifCond .ne 9, 3) := dk_154 0 9 (dk_at dksX3_change_1 0 rfl rfl)
theorem dX3_change_25 : decode cX3_change 25 = .ok (.ldc2_w 115, 3) := dk_20 0 115 (dk_at dksX3_change_1 3 rfl rfl)
theorem dX3_change_28 : decode cX3_change 28 = .ok (.goto 6, 3) := dk_167 0 6 (dk_at dksX3_change_1 6 rfl rfl)
theorem dX3_change_31 : decode cX3_change 31 = .ok (.ldc2_w 119, 3) := dk_20 0 119 (dk_at dksX3_change_1 9 rfl rfl)
theorem dX3_change_34 : decode cX3_change 34 = .ok (.invokestatic 76, 3) := dk_184 0 76 (dk_at dksX3_change_1 12 rfl rfl)
theorem dX3_change_37 : decode cX3_change 37 = .ok (.ifCond .ne 10, 3) := dk_154 0 10 (dk_at dksX3_change_1 15 rfl rfl)
theorem dX3_change_40 : decode cX3_change 40 = .ok (.aload_n 0, 1) := dk_42 (dk_at dksX3_change_1 18 rfl rfl)
theorem dX3_change_41 : decode cX3_change 41 = .ok (.bipush (-2), 2) := dk_16 254 (dk_at dksX3_change_1 19 rfl rfl)
theorem dX3_change_43 : decode cX3_change 43 = .ok (.invokevirtual 91, 3) := dk_182 0 91 (dk_at dksX3_change_1 21 rfl rfl)
theorem dX3_change_46 : decode cX3_change 46 = .ok (.ireturn, 1) := dk_172 (dk_at dksX3_change_2 0 rfl rfl)
theorem dX3_change_47 : decode cX3_change 47 = .ok (.iload_n 2, 1) := dk_28 (dk_at dksX3_change_2 1 rfl rfl)
theorem dX3_change_48 : decode cX3_change 48 = .ok (.ifCond .ne 7, 3) := dk_154 0 7 (dk_at dksX3_change_2 2 rfl rfl)
theorem dX3_change_51 : decode cX3_change 51 = .ok (.iconst 0, 1) := dk_3 (dk_at dksX3_change_2 5 rfl rfl)
theorem dX3_change_52 : decode cX3_change 52 = .ok (.goto 4, 3) := dk_167 0 4 (dk_at dksX3_change_2 6 rfl rfl)
theorem dX3_change_55 : decode cX3_change 55 = .ok (.iconst 3, 1) := dk_6 (dk_at dksX3_change_2 9 rfl rfl)
theorem dX3_change_56 : decode cX3_change 56 = .ok (.istore 4, 2) := dk_54 4 (dk_at dksX3_change_2 10 rfl rfl)
theorem dX3_change_58 : decode cX3_change 58 = .ok (.aload_n 0, 1) := dk_42 (dk_at dksX3_change_2 12 rfl rfl)
theorem dX3_change_59 : decode cX3_change 59 = .ok (.getfield 39, 3) := dk_180 0 39 (dk_at dksX3_change_2 13 rfl rfl)
theorem dX3_change_62 : decode cX3_change 62 = .ok (.iload_n 1, 1) := dk_27 (dk_at dksX3_change_2 16 rfl rfl)
theorem dX3_change_63 : decode cX3_change 63 = .ok (.aaload, 1) := dk_50 (dk_at dksX3_change_2 17 rfl rfl)
theorem dX3_change_64 : decode cX3_change 64 = .ok (.iload 4, 2) := dk_21 4 (dk_at dksX3_change_2 18 rfl rfl)
theorem dX3_change_66 : decode cX3_change 66 = .ok (.iaload, 1) := dk_46 (dk_at dksX3_change_2 20 rfl rfl)
theorem dX3_change_67 : decode cX3_change 67 = .ok (.istore 5, 2) := dk_54 5 (dk_at dksX3_change_2 21 rfl rfl)
theorem dX3_change_69 : decode cX3_change 69 = .ok (.aload_n 0, 1) := dk_42 (dk_at dksX3_change_2 23 rfl rfl)
theorem dX3_change_70 : decode cX3_change 70 = .ok (.getfield 39, 3) := dk_180 0 39 (dk_at dksX3_change_3 0 rfl rfl)
theorem dX3_change_73 : decode cX3_change 73 = .ok (.iload_n 1, 1) := dk_27 (dk_at dksX3_change_3 3 rfl rfl)
theorem dX3_change_74 : decode cX3_change 74 = .ok (.aaload, 1) := dk_50 (dk_at dksX3_change_3 4 rfl rfl)
theorem dX3_change_75 : decode cX3_change 75 = .ok (.iload 4, 2) := dk_21 4 (dk_at dksX3_change_3 5 rfl rfl)
theorem dX3_change_77 : decode cX3_change 77 = .ok (.iload_n 3, 1) := dk_29 (dk_at dksX3_change_3 7 rfl rfl)
theorem dX3_change_78 : decode cX3_change 78 = .ok (.iastore, 1) := dk_79 (dk_at dksX3_change_3 8 rfl rfl)
theorem dX3_change_79 : decode cX3_change 79 = .ok (.iload 5, 2) := dk_21 5 (dk_at dksX3_change_3 9 rfl rfl)
theorem dX3_change_81 : decode cX3_change 81 = .ok (.ireturn, 1) := dk_172 (dk_at dksX3_change_3 11 rfl rfl)
abbrev cX3_isInn : ByteArray := prog_16_method_5_code
def yX3_isInn : MethodName := ⟨RX3, "isInn", "(I)Z"⟩
def dkwX3_isInn_0 : List UInt8 := [27, 133, 9, 42, 180, 0, 73, 4, 100, 133, 184, 0, 76, 172]
abbrev dktX3_isInn_0 : List UInt8 := dkwX3_isInn_0 ++ []
theorem dksX3_isInn_0 : cX3_isInn.data.toList.drop 0 = dktX3_isInn_0 := by decide +kernel
theorem dX3_isInn_0 : decode cX3_isInn 0 = .ok (.iload_n 1, 1) := dk_27 (dk_at dksX3_isInn_0 0 rfl rfl)
theorem dX3_isInn_1 : decode cX3_isInn 1 = .ok (.i2l, 1) := dk_133 (dk_at dksX3_isInn_0 1 rfl rfl)
theorem dX3_isInn_2 : decode cX3_isInn 2 = .ok (.lconst 0, 1) := dk_9 (dk_at dksX3_isInn_0 2 rfl rfl)
theorem dX3_isInn_3 : decode cX3_isInn 3 = .ok (.aload_n 0, 1) := dk_42 (dk_at dksX3_isInn_0 3 rfl rfl)
theorem dX3_isInn_4 : decode cX3_isInn 4 = .ok (.getfield 73, 3) := dk_180 0 73 (dk_at dksX3_isInn_0 4 rfl rfl)
theorem dX3_isInn_7 : decode cX3_isInn 7 = .ok (.iconst 1, 1) := dk_4 (dk_at dksX3_isInn_0 7 rfl rfl)
theorem dX3_isInn_8 : decode cX3_isInn 8 = .ok (.isub, 1) := dk_100 (dk_at dksX3_isInn_0 8 rfl rfl)
theorem dX3_isInn_9 : decode cX3_isInn 9 = .ok (.i2l, 1) := dk_133 (dk_at dksX3_isInn_0 9 rfl rfl)
theorem dX3_isInn_10 : decode cX3_isInn 10 = .ok (.invokestatic 76, 3) := dk_184 0 76 (dk_at dksX3_isInn_0 10 rfl rfl)
theorem dX3_isInn_13 : decode cX3_isInn 13 = .ok (.ireturn, 1) := dk_172 (dk_at dksX3_isInn_0 13 rfl rfl)
abbrev cX3_say : ByteArray := prog_16_method_22_code
def yX3_say : MethodName := ⟨RX3, "say", "(II)I"⟩
def dkwX3_say_2 : List UInt8 := [29, 172]
abbrev dktX3_say_2 : List UInt8 := dkwX3_say_2 ++ []
def dkwX3_say_1 : List UInt8 := [16, 254, 182, 0, 91, 172, 42, 180, 0, 39, 27, 50, 7, 46, 62, 42, 180, 0, 39, 27, 50, 7, 28, 79]
abbrev dktX3_say_1 : List UInt8 := dkwX3_say_1 ++ dktX3_say_2
def dkwX3_say_0 : List UInt8 := [42, 27, 182, 0, 127, 153, 0, 17, 28, 133, 20, 0, 130, 20, 0, 115, 184, 0, 76, 154, 0, 10, 42]
abbrev dktX3_say_0 : List UInt8 := dkwX3_say_0 ++ dktX3_say_1
theorem dksX3_say_0 : cX3_say.data.toList.drop 0 = dktX3_say_0 := by decide +kernel
theorem dksX3_say_1 : cX3_say.data.toList.drop 23 = dktX3_say_1 := dk_seg dksX3_say_0 23 rfl rfl
theorem dksX3_say_2 : cX3_say.data.toList.drop 47 = dktX3_say_2 := dk_seg dksX3_say_1 24 rfl rfl
theorem dX3_say_0 : decode cX3_say 0 = .ok (.aload_n 0, 1) := dk_42 (dk_at dksX3_say_0 0 rfl rfl)
theorem dX3_say_1 : decode cX3_say 1 = .ok (.iload_n 1, 1) := dk_27 (dk_at dksX3_say_0 1 rfl rfl)
theorem dX3_say_2 : decode cX3_say 2 = .ok (.invokevirtual 127, 3) := dk_182 0 127 (dk_at dksX3_say_0 2 rfl rfl)
theorem dX3_say_5 : decode cX3_say 5 = .ok (.ifCond .eq 17, 3) := dk_153 0 17 (dk_at dksX3_say_0 5 rfl rfl)
theorem dX3_say_8 : decode cX3_say 8 = .ok (.iload_n 2, 1) := dk_28 (dk_at dksX3_say_0 8 rfl rfl)
theorem dX3_say_9 : decode cX3_say 9 = .ok (.i2l, 1) := dk_133 (dk_at dksX3_say_0 9 rfl rfl)
theorem dX3_say_10 : decode cX3_say 10 = .ok (.ldc2_w 130, 3) := dk_20 0 130 (dk_at dksX3_say_0 10 rfl rfl)
theorem dX3_say_13 : decode cX3_say 13 = .ok (.ldc2_w 115, 3) := dk_20 0 115 (dk_at dksX3_say_0 13 rfl rfl)
theorem dX3_say_16 : decode cX3_say 16 = .ok (.invokestatic 76, 3) := dk_184 0 76 (dk_at dksX3_say_0 16 rfl rfl)
theorem dX3_say_19 : decode cX3_say 19 = .ok (.ifCond .ne 10, 3) := dk_154 0 10 (dk_at dksX3_say_0 19 rfl rfl)
theorem dX3_say_22 : decode cX3_say 22 = .ok (.aload_n 0, 1) := dk_42 (dk_at dksX3_say_0 22 rfl rfl)
theorem dX3_say_23 : decode cX3_say 23 = .ok (.bipush (-2), 2) := dk_16 254 (dk_at dksX3_say_1 0 rfl rfl)
theorem dX3_say_25 : decode cX3_say 25 = .ok (.invokevirtual 91, 3) := dk_182 0 91 (dk_at dksX3_say_1 2 rfl rfl)
theorem dX3_say_28 : decode cX3_say 28 = .ok (.ireturn, 1) := dk_172 (dk_at dksX3_say_1 5 rfl rfl)
theorem dX3_say_29 : decode cX3_say 29 = .ok (.aload_n 0, 1) := dk_42 (dk_at dksX3_say_1 6 rfl rfl)
theorem dX3_say_30 : decode cX3_say 30 = .ok (.getfield 39, 3) := dk_180 0 39 (dk_at dksX3_say_1 7 rfl rfl)
theorem dX3_say_33 : decode cX3_say 33 = .ok (.iload_n 1, 1) := dk_27 (dk_at dksX3_say_1 10 rfl rfl)
theorem dX3_say_34 : decode cX3_say 34 = .ok (.aaload, 1) := dk_50 (dk_at dksX3_say_1 11 rfl rfl)
theorem dX3_say_35 : decode cX3_say 35 = .ok (.iconst 4, 1) := dk_7 (dk_at dksX3_say_1 12 rfl rfl)
theorem dX3_say_36 : decode cX3_say 36 = .ok (.iaload, 1) := dk_46 (dk_at dksX3_say_1 13 rfl rfl)
theorem dX3_say_37 : decode cX3_say 37 = .ok (.istore_n 3, 1) := dk_62 (dk_at dksX3_say_1 14 rfl rfl)
theorem dX3_say_38 : decode cX3_say 38 = .ok (.aload_n 0, 1) := dk_42 (dk_at dksX3_say_1 15 rfl rfl)
theorem dX3_say_39 : decode cX3_say 39 = .ok (.getfield 39, 3) := dk_180 0 39 (dk_at dksX3_say_1 16 rfl rfl)
theorem dX3_say_42 : decode cX3_say 42 = .ok (.iload_n 1, 1) := dk_27 (dk_at dksX3_say_1 19 rfl rfl)
theorem dX3_say_43 : decode cX3_say 43 = .ok (.aaload, 1) := dk_50 (dk_at dksX3_say_1 20 rfl rfl)
theorem dX3_say_44 : decode cX3_say 44 = .ok (.iconst 4, 1) := dk_7 (dk_at dksX3_say_1 21 rfl rfl)
theorem dX3_say_45 : decode cX3_say 45 = .ok (.iload_n 2, 1) := dk_28 (dk_at dksX3_say_1 22 rfl rfl)
theorem dX3_say_46 : decode cX3_say 46 = .ok (.iastore, 1) := dk_79 (dk_at dksX3_say_1 23 rfl rfl)
theorem dX3_say_47 : decode cX3_say 47 = .ok (.iload_n 3, 1) := dk_29 (dk_at dksX3_say_2 0 rfl rfl)
theorem dX3_say_48 : decode cX3_say 48 = .ok (.ireturn, 1) := dk_172 (dk_at dksX3_say_2 1 rfl rfl)
abbrev cX3_write : ByteArray := prog_16_method_25_code
def yX3_write : MethodName := ⟨RX3, "write", "(I)I"⟩
def dkwX3_write_0 : List UInt8 := [42, 27, 182, 0, 135, 153, 0, 11, 42, 27, 182, 0, 138, 167, 0, 9, 42, 16, 254, 182, 0, 91, 172]
abbrev dktX3_write_0 : List UInt8 := dkwX3_write_0 ++ []
theorem dksX3_write_0 : cX3_write.data.toList.drop 0 = dktX3_write_0 := by decide +kernel
theorem dX3_write_0 : decode cX3_write 0 = .ok (.aload_n 0, 1) := dk_42 (dk_at dksX3_write_0 0 rfl rfl)
theorem dX3_write_1 : decode cX3_write 1 = .ok (.iload_n 1, 1) := dk_27 (dk_at dksX3_write_0 1 rfl rfl)
theorem dX3_write_2 : decode cX3_write 2 = .ok (.invokevirtual 135, 3) := dk_182 0 135 (dk_at dksX3_write_0 2 rfl rfl)
theorem dX3_write_5 : decode cX3_write 5 = .ok (.ifCond .eq 11, 3) := dk_153 0 11 (dk_at dksX3_write_0 5 rfl rfl)
theorem dX3_write_8 : decode cX3_write 8 = .ok (.aload_n 0, 1) := dk_42 (dk_at dksX3_write_0 8 rfl rfl)
theorem dX3_write_9 : decode cX3_write 9 = .ok (.iload_n 1, 1) := dk_27 (dk_at dksX3_write_0 9 rfl rfl)
theorem dX3_write_10 : decode cX3_write 10 = .ok (.invokevirtual 138, 3) := dk_182 0 138 (dk_at dksX3_write_0 10 rfl rfl)
theorem dX3_write_13 : decode cX3_write 13 = .ok (.goto 9, 3) := dk_167 0 9 (dk_at dksX3_write_0 13 rfl rfl)
theorem dX3_write_16 : decode cX3_write 16 = .ok (.aload_n 0, 1) := dk_42 (dk_at dksX3_write_0 16 rfl rfl)
theorem dX3_write_17 : decode cX3_write 17 = .ok (.bipush (-2), 2) := dk_16 254 (dk_at dksX3_write_0 17 rfl rfl)
theorem dX3_write_19 : decode cX3_write 19 = .ok (.invokevirtual 91, 3) := dk_182 0 91 (dk_at dksX3_write_0 19 rfl rfl)
theorem dX3_write_22 : decode cX3_write 22 = .ok (.ireturn, 1) := dk_172 (dk_at dksX3_write_0 22 rfl rfl)
abbrev cX3_isSet : ByteArray := prog_16_method_24_code
def yX3_isSet : MethodName := ⟨RX3, "isSet", "(I)Z"⟩
def dkwX3_isSet_0 : List UInt8 := [27, 133, 9, 4, 42, 180, 0, 73, 120, 4, 100, 133, 184, 0, 76, 172]
abbrev dktX3_isSet_0 : List UInt8 := dkwX3_isSet_0 ++ []
theorem dksX3_isSet_0 : cX3_isSet.data.toList.drop 0 = dktX3_isSet_0 := by decide +kernel
theorem dX3_isSet_0 : decode cX3_isSet 0 = .ok (.iload_n 1, 1) := dk_27 (dk_at dksX3_isSet_0 0 rfl rfl)
theorem dX3_isSet_1 : decode cX3_isSet 1 = .ok (.i2l, 1) := dk_133 (dk_at dksX3_isSet_0 1 rfl rfl)
theorem dX3_isSet_2 : decode cX3_isSet 2 = .ok (.lconst 0, 1) := dk_9 (dk_at dksX3_isSet_0 2 rfl rfl)
theorem dX3_isSet_3 : decode cX3_isSet 3 = .ok (.iconst 1, 1) := dk_4 (dk_at dksX3_isSet_0 3 rfl rfl)
theorem dX3_isSet_4 : decode cX3_isSet 4 = .ok (.aload_n 0, 1) := dk_42 (dk_at dksX3_isSet_0 4 rfl rfl)
theorem dX3_isSet_5 : decode cX3_isSet 5 = .ok (.getfield 73, 3) := dk_180 0 73 (dk_at dksX3_isSet_0 5 rfl rfl)
theorem dX3_isSet_8 : decode cX3_isSet 8 = .ok (.ishl, 1) := dk_120 (dk_at dksX3_isSet_0 8 rfl rfl)
theorem dX3_isSet_9 : decode cX3_isSet 9 = .ok (.iconst 1, 1) := dk_4 (dk_at dksX3_isSet_0 9 rfl rfl)
theorem dX3_isSet_10 : decode cX3_isSet 10 = .ok (.isub, 1) := dk_100 (dk_at dksX3_isSet_0 10 rfl rfl)
theorem dX3_isSet_11 : decode cX3_isSet 11 = .ok (.i2l, 1) := dk_133 (dk_at dksX3_isSet_0 11 rfl rfl)
theorem dX3_isSet_12 : decode cX3_isSet 12 = .ok (.invokestatic 76, 3) := dk_184 0 76 (dk_at dksX3_isSet_0 12 rfl rfl)
theorem dX3_isSet_15 : decode cX3_isSet 15 = .ok (.ireturn, 1) := dk_172 (dk_at dksX3_isSet_0 15 rfl rfl)
abbrev cX3_writes : ByteArray := prog_16_method_23_code
def yX3_writes : MethodName := ⟨RX3, "writes", "(I)I"⟩
def dkwX3_writes_3 : List UInt8 := [42, 3, 181, 0, 132, 28, 172]
abbrev dktX3_writes_3 : List UInt8 := dkwX3_writes_3 ++ []
def dkwX3_writes_2 : List UInt8 := [167, 0, 4, 2, 79, 28, 21, 4, 153, 0, 7, 4, 167, 0, 4, 3, 96, 61, 132, 3, 1, 167, 255, 192]
abbrev dktX3_writes_2 : List UInt8 := dkwX3_writes_2 ++ dktX3_writes_3
def dkwX3_writes_1 : List UInt8 := [3, 54, 4, 42, 180, 0, 39, 29, 50, 7, 21, 4, 153, 0, 14, 42, 180, 0, 39, 29, 50, 3, 46]
abbrev dktX3_writes_1 : List UInt8 := dkwX3_writes_1 ++ dktX3_writes_2
def dkwX3_writes_0 : List UInt8 := [3, 61, 3, 62, 29, 42, 180, 0, 73, 162, 0, 62, 27, 29, 122, 4, 126, 153, 0, 7, 4, 167, 0, 4]
abbrev dktX3_writes_0 : List UInt8 := dkwX3_writes_0 ++ dktX3_writes_1
theorem dksX3_writes_0 : cX3_writes.data.toList.drop 0 = dktX3_writes_0 := by decide +kernel
theorem dksX3_writes_1 : cX3_writes.data.toList.drop 24 = dktX3_writes_1 := dk_seg dksX3_writes_0 24 rfl rfl
theorem dksX3_writes_2 : cX3_writes.data.toList.drop 47 = dktX3_writes_2 := dk_seg dksX3_writes_1 23 rfl rfl
theorem dksX3_writes_3 : cX3_writes.data.toList.drop 71 = dktX3_writes_3 := dk_seg dksX3_writes_2 24 rfl rfl
theorem dX3_writes_0 : decode cX3_writes 0 = .ok (.iconst 0, 1) := dk_3 (dk_at dksX3_writes_0 0 rfl rfl)
theorem dX3_writes_1 : decode cX3_writes 1 = .ok (.istore_n 2, 1) := dk_61 (dk_at dksX3_writes_0 1 rfl rfl)
theorem dX3_writes_2 : decode cX3_writes 2 = .ok (.iconst 0, 1) := dk_3 (dk_at dksX3_writes_0 2 rfl rfl)
theorem dX3_writes_3 : decode cX3_writes 3 = .ok (.istore_n 3, 1) := dk_62 (dk_at dksX3_writes_0 3 rfl rfl)
theorem dX3_writes_4 : decode cX3_writes 4 = .ok (.iload_n 3, 1) := dk_29 (dk_at dksX3_writes_0 4 rfl rfl)
theorem dX3_writes_5 : decode cX3_writes 5 = .ok (.aload_n 0, 1) := dk_42 (dk_at dksX3_writes_0 5 rfl rfl)
theorem dX3_writes_6 : decode cX3_writes 6 = .ok (.getfield 73, 3) := dk_180 0 73 (dk_at dksX3_writes_0 6 rfl rfl)
theorem dX3_writes_9 : decode cX3_writes 9 = .ok (.if_icmp .ge 62, 3) := dk_162 0 62 (dk_at dksX3_writes_0 9 rfl rfl)
theorem dX3_writes_12 : decode cX3_writes 12 = .ok (.iload_n 1, 1) := dk_27 (dk_at dksX3_writes_0 12 rfl rfl)
theorem dX3_writes_13 : decode cX3_writes 13 = .ok (.iload_n 3, 1) := dk_29 (dk_at dksX3_writes_0 13 rfl rfl)
theorem dX3_writes_14 : decode cX3_writes 14 = .ok (.ishr, 1) := dk_122 (dk_at dksX3_writes_0 14 rfl rfl)
theorem dX3_writes_15 : decode cX3_writes 15 = .ok (.iconst 1, 1) := dk_4 (dk_at dksX3_writes_0 15 rfl rfl)
theorem dX3_writes_16 : decode cX3_writes 16 = .ok (.iand, 1) := dk_126 (dk_at dksX3_writes_0 16 rfl rfl)
theorem dX3_writes_17 : decode cX3_writes 17 = .ok (.ifCond .eq 7, 3) := dk_153 0 7 (dk_at dksX3_writes_0 17 rfl rfl)
theorem dX3_writes_20 : decode cX3_writes 20 = .ok (.iconst 1, 1) := dk_4 (dk_at dksX3_writes_0 20 rfl rfl)
theorem dX3_writes_21 : decode cX3_writes 21 = .ok (.goto 4, 3) := dk_167 0 4 (dk_at dksX3_writes_0 21 rfl rfl)
theorem dX3_writes_24 : decode cX3_writes 24 = .ok (.iconst 0, 1) := dk_3 (dk_at dksX3_writes_1 0 rfl rfl)
theorem dX3_writes_25 : decode cX3_writes 25 = .ok (.istore 4, 2) := dk_54 4 (dk_at dksX3_writes_1 1 rfl rfl)
theorem dX3_writes_27 : decode cX3_writes 27 = .ok (.aload_n 0, 1) := dk_42 (dk_at dksX3_writes_1 3 rfl rfl)
theorem dX3_writes_28 : decode cX3_writes 28 = .ok (.getfield 39, 3) := dk_180 0 39 (dk_at dksX3_writes_1 4 rfl rfl)
theorem dX3_writes_31 : decode cX3_writes 31 = .ok (.iload_n 3, 1) := dk_29 (dk_at dksX3_writes_1 7 rfl rfl)
theorem dX3_writes_32 : decode cX3_writes 32 = .ok (.aaload, 1) := dk_50 (dk_at dksX3_writes_1 8 rfl rfl)
theorem dX3_writes_33 : decode cX3_writes 33 = .ok (.iconst 4, 1) := dk_7 (dk_at dksX3_writes_1 9 rfl rfl)
theorem dX3_writes_34 : decode cX3_writes 34 = .ok (.iload 4, 2) := dk_21 4 (dk_at dksX3_writes_1 10 rfl rfl)
theorem dX3_writes_36 : decode cX3_writes 36 = .ok (.ifCond .eq 14, 3) := dk_153 0 14 (dk_at dksX3_writes_1 12 rfl rfl)
theorem dX3_writes_39 : decode cX3_writes 39 = .ok (.aload_n 0, 1) := dk_42 (dk_at dksX3_writes_1 15 rfl rfl)
theorem dX3_writes_40 : decode cX3_writes 40 = .ok (.getfield 39, 3) := dk_180 0 39 (dk_at dksX3_writes_1 16 rfl rfl)
theorem dX3_writes_43 : decode cX3_writes 43 = .ok (.iload_n 3, 1) := dk_29 (dk_at dksX3_writes_1 19 rfl rfl)
theorem dX3_writes_44 : decode cX3_writes 44 = .ok (.aaload, 1) := dk_50 (dk_at dksX3_writes_1 20 rfl rfl)
theorem dX3_writes_45 : decode cX3_writes 45 = .ok (.iconst 0, 1) := dk_3 (dk_at dksX3_writes_1 21 rfl rfl)
theorem dX3_writes_46 : decode cX3_writes 46 = .ok (.iaload, 1) := dk_46 (dk_at dksX3_writes_1 22 rfl rfl)
theorem dX3_writes_47 : decode cX3_writes 47 = .ok (.goto 4, 3) := dk_167 0 4 (dk_at dksX3_writes_2 0 rfl rfl)
theorem dX3_writes_50 : decode cX3_writes 50 = .ok (.iconst (-1), 1) := dk_2 (dk_at dksX3_writes_2 3 rfl rfl)
theorem dX3_writes_51 : decode cX3_writes 51 = .ok (.iastore, 1) := dk_79 (dk_at dksX3_writes_2 4 rfl rfl)
theorem dX3_writes_52 : decode cX3_writes 52 = .ok (.iload_n 2, 1) := dk_28 (dk_at dksX3_writes_2 5 rfl rfl)
theorem dX3_writes_53 : decode cX3_writes 53 = .ok (.iload 4, 2) := dk_21 4 (dk_at dksX3_writes_2 6 rfl rfl)
theorem dX3_writes_55 : decode cX3_writes 55 = .ok (.ifCond .eq 7, 3) := dk_153 0 7 (dk_at dksX3_writes_2 8 rfl rfl)
theorem dX3_writes_58 : decode cX3_writes 58 = .ok (.iconst 1, 1) := dk_4 (dk_at dksX3_writes_2 11 rfl rfl)
theorem dX3_writes_59 : decode cX3_writes 59 = .ok (.goto 4, 3) := dk_167 0 4 (dk_at dksX3_writes_2 12 rfl rfl)
theorem dX3_writes_62 : decode cX3_writes 62 = .ok (.iconst 0, 1) := dk_3 (dk_at dksX3_writes_2 15 rfl rfl)
theorem dX3_writes_63 : decode cX3_writes 63 = .ok (.iadd, 1) := dk_96 (dk_at dksX3_writes_2 16 rfl rfl)
theorem dX3_writes_64 : decode cX3_writes 64 = .ok (.istore_n 2, 1) := dk_61 (dk_at dksX3_writes_2 17 rfl rfl)
theorem dX3_writes_65 : decode cX3_writes 65 = .ok (.iinc 3 1, 3) := dk_132 3 1 (dk_at dksX3_writes_2 18 rfl rfl)
theorem dX3_writes_68 : decode cX3_writes 68 = .ok (.goto (-64), 3) := dk_167 255 192 (dk_at dksX3_writes_2 21 rfl rfl)
theorem dX3_writes_71 : decode cX3_writes 71 = .ok (.aload_n 0, 1) := dk_42 (dk_at dksX3_writes_3 0 rfl rfl)
theorem dX3_writes_72 : decode cX3_writes 72 = .ok (.iconst 0, 1) := dk_3 (dk_at dksX3_writes_3 1 rfl rfl)
theorem dX3_writes_73 : decode cX3_writes 73 = .ok (.putfield 132, 3) := dk_181 0 132 (dk_at dksX3_writes_3 2 rfl rfl)
theorem dX3_writes_76 : decode cX3_writes 76 = .ok (.iload_n 2, 1) := dk_28 (dk_at dksX3_writes_3 5 rfl rfl)
theorem dX3_writes_77 : decode cX3_writes 77 = .ok (.ireturn, 1) := dk_172 (dk_at dksX3_writes_3 6 rfl rfl)
abbrev cX3_letter : ByteArray := prog_16_method_27_code
def yX3_letter : MethodName := ⟨RX3, "letter", "(II)I"⟩
def dkwX3_letter_2 : List UInt8 := [42, 27, 28, 182, 0, 141, 42, 180, 0, 39, 27, 50, 8, 46, 172]
abbrev dktX3_letter_2 : List UInt8 := dkwX3_letter_2 ++ []
def dkwX3_letter_1 : List UInt8 := [182, 0, 91, 172, 42, 180, 0, 39, 27, 50, 8, 46, 16, 99, 160, 0, 10, 42, 16, 250, 182, 0, 91, 172]
abbrev dktX3_letter_1 : List UInt8 := dkwX3_letter_1 ++ dktX3_letter_2
def dkwX3_letter_0 : List UInt8 := [42, 27, 182, 0, 127, 153, 0, 15, 28, 133, 9, 20, 0, 115, 184, 0, 76, 154, 0, 10, 42, 16, 254]
abbrev dktX3_letter_0 : List UInt8 := dkwX3_letter_0 ++ dktX3_letter_1
theorem dksX3_letter_0 : cX3_letter.data.toList.drop 0 = dktX3_letter_0 := by decide +kernel
theorem dksX3_letter_1 : cX3_letter.data.toList.drop 23 = dktX3_letter_1 := dk_seg dksX3_letter_0 23 rfl rfl
theorem dksX3_letter_2 : cX3_letter.data.toList.drop 47 = dktX3_letter_2 := dk_seg dksX3_letter_1 24 rfl rfl
theorem dX3_letter_0 : decode cX3_letter 0 = .ok (.aload_n 0, 1) := dk_42 (dk_at dksX3_letter_0 0 rfl rfl)
theorem dX3_letter_1 : decode cX3_letter 1 = .ok (.iload_n 1, 1) := dk_27 (dk_at dksX3_letter_0 1 rfl rfl)
theorem dX3_letter_2 : decode cX3_letter 2 = .ok (.invokevirtual 127, 3) := dk_182 0 127 (dk_at dksX3_letter_0 2 rfl rfl)
theorem dX3_letter_5 : decode cX3_letter 5 = .ok (.ifCond .eq 15, 3) := dk_153 0 15 (dk_at dksX3_letter_0 5 rfl rfl)
theorem dX3_letter_8 : decode cX3_letter 8 = .ok (.iload_n 2, 1) := dk_28 (dk_at dksX3_letter_0 8 rfl rfl)
theorem dX3_letter_9 : decode cX3_letter 9 = .ok (.i2l, 1) := dk_133 (dk_at dksX3_letter_0 9 rfl rfl)
theorem dX3_letter_10 : decode cX3_letter 10 = .ok (.lconst 0, 1) := dk_9 (dk_at dksX3_letter_0 10 rfl rfl)
theorem dX3_letter_11 : decode cX3_letter 11 = .ok (.ldc2_w 115, 3) := dk_20 0 115 (dk_at dksX3_letter_0 11 rfl rfl)
theorem dX3_letter_14 : decode cX3_letter 14 = .ok (.invokestatic 76, 3) := dk_184 0 76 (dk_at dksX3_letter_0 14 rfl rfl)
theorem dX3_letter_17 : decode cX3_letter 17 = .ok (.ifCond .ne 10, 3) := dk_154 0 10 (dk_at dksX3_letter_0 17 rfl rfl)
theorem dX3_letter_20 : decode cX3_letter 20 = .ok (.aload_n 0, 1) := dk_42 (dk_at dksX3_letter_0 20 rfl rfl)
theorem dX3_letter_21 : decode cX3_letter 21 = .ok (.bipush (-2), 2) := dk_16 254 (dk_at dksX3_letter_0 21 rfl rfl)
theorem dX3_letter_23 : decode cX3_letter 23 = .ok (.invokevirtual 91, 3) := dk_182 0 91 (dk_at dksX3_letter_1 0 rfl rfl)
theorem dX3_letter_26 : decode cX3_letter 26 = .ok (.ireturn, 1) := dk_172 (dk_at dksX3_letter_1 3 rfl rfl)
theorem dX3_letter_27 : decode cX3_letter 27 = .ok (.aload_n 0, 1) := dk_42 (dk_at dksX3_letter_1 4 rfl rfl)
theorem dX3_letter_28 : decode cX3_letter 28 = .ok (.getfield 39, 3) := dk_180 0 39 (dk_at dksX3_letter_1 5 rfl rfl)
theorem dX3_letter_31 : decode cX3_letter 31 = .ok (.iload_n 1, 1) := dk_27 (dk_at dksX3_letter_1 8 rfl rfl)
theorem dX3_letter_32 : decode cX3_letter 32 = .ok (.aaload, 1) := dk_50 (dk_at dksX3_letter_1 9 rfl rfl)
theorem dX3_letter_33 : decode cX3_letter 33 = .ok (.iconst 5, 1) := dk_8 (dk_at dksX3_letter_1 10 rfl rfl)
theorem dX3_letter_34 : decode cX3_letter 34 = .ok (.iaload, 1) := dk_46 (dk_at dksX3_letter_1 11 rfl rfl)
theorem dX3_letter_35 : decode cX3_letter 35 = .ok (.bipush 99, 2) := dk_16 99 (dk_at dksX3_letter_1 12 rfl rfl)
theorem dX3_letter_37 : decode cX3_letter 37 = .ok (.if_icmp .ne 10, 3) := dk_160 0 10 (dk_at dksX3_letter_1 14 rfl rfl)
theorem dX3_letter_40 : decode cX3_letter 40 = .ok (.aload_n 0, 1) := dk_42 (dk_at dksX3_letter_1 17 rfl rfl)
theorem dX3_letter_41 : decode cX3_letter 41 = .ok (.bipush (-6), 2) := dk_16 250 (dk_at dksX3_letter_1 18 rfl rfl)
theorem dX3_letter_43 : decode cX3_letter 43 = .ok (.invokevirtual 91, 3) := dk_182 0 91 (dk_at dksX3_letter_1 20 rfl rfl)
theorem dX3_letter_46 : decode cX3_letter 46 = .ok (.ireturn, 1) := dk_172 (dk_at dksX3_letter_1 23 rfl rfl)
theorem dX3_letter_47 : decode cX3_letter 47 = .ok (.aload_n 0, 1) := dk_42 (dk_at dksX3_letter_2 0 rfl rfl)
theorem dX3_letter_48 : decode cX3_letter 48 = .ok (.iload_n 1, 1) := dk_27 (dk_at dksX3_letter_2 1 rfl rfl)
theorem dX3_letter_49 : decode cX3_letter 49 = .ok (.iload_n 2, 1) := dk_28 (dk_at dksX3_letter_2 2 rfl rfl)
theorem dX3_letter_50 : decode cX3_letter 50 = .ok (.invokevirtual 141, 3) := dk_182 0 141 (dk_at dksX3_letter_2 3 rfl rfl)
theorem dX3_letter_53 : decode cX3_letter 53 = .ok (.aload_n 0, 1) := dk_42 (dk_at dksX3_letter_2 6 rfl rfl)
theorem dX3_letter_54 : decode cX3_letter 54 = .ok (.getfield 39, 3) := dk_180 0 39 (dk_at dksX3_letter_2 7 rfl rfl)
theorem dX3_letter_57 : decode cX3_letter 57 = .ok (.iload_n 1, 1) := dk_27 (dk_at dksX3_letter_2 10 rfl rfl)
theorem dX3_letter_58 : decode cX3_letter 58 = .ok (.aaload, 1) := dk_50 (dk_at dksX3_letter_2 11 rfl rfl)
theorem dX3_letter_59 : decode cX3_letter 59 = .ok (.iconst 5, 1) := dk_8 (dk_at dksX3_letter_2 12 rfl rfl)
theorem dX3_letter_60 : decode cX3_letter 60 = .ok (.iaload, 1) := dk_46 (dk_at dksX3_letter_2 13 rfl rfl)
theorem dX3_letter_61 : decode cX3_letter 61 = .ok (.ireturn, 1) := dk_172 (dk_at dksX3_letter_2 14 rfl rfl)
abbrev cX3_getsLetter : ByteArray := prog_16_method_26_code
def yX3_getsLetter : MethodName := ⟨RX3, "getsLetter", "(II)V"⟩
def dkwX3_getsLetter_1 : List UInt8 := [79, 42, 180, 0, 39, 27, 50, 16, 6, 92, 46, 28, 96, 79, 177]
abbrev dktX3_getsLetter_1 : List UInt8 := dkwX3_getsLetter_1 ++ []
def dkwX3_getsLetter_0 : List UInt8 := [42, 180, 0, 39, 27, 50, 8, 46, 16, 99, 162, 0, 28, 42, 180, 0, 39, 27, 50, 8, 92, 46, 4, 96]
abbrev dktX3_getsLetter_0 : List UInt8 := dkwX3_getsLetter_0 ++ dktX3_getsLetter_1
theorem dksX3_getsLetter_0 : cX3_getsLetter.data.toList.drop 0 = dktX3_getsLetter_0 := by decide +kernel
theorem dksX3_getsLetter_1 : cX3_getsLetter.data.toList.drop 24 = dktX3_getsLetter_1 := dk_seg dksX3_getsLetter_0 24 rfl rfl
theorem dX3_getsLetter_0 : decode cX3_getsLetter 0 = .ok (.aload_n 0, 1) := dk_42 (dk_at dksX3_getsLetter_0 0 rfl rfl)
theorem dX3_getsLetter_1 : decode cX3_getsLetter 1 = .ok (.getfield 39, 3) := dk_180 0 39 (dk_at dksX3_getsLetter_0 1 rfl rfl)
theorem dX3_getsLetter_4 : decode cX3_getsLetter 4 = .ok (.iload_n 1, 1) := dk_27 (dk_at dksX3_getsLetter_0 4 rfl rfl)
theorem dX3_getsLetter_5 : decode cX3_getsLetter 5 = .ok (.aaload, 1) := dk_50 (dk_at dksX3_getsLetter_0 5 rfl rfl)
theorem dX3_getsLetter_6 : decode cX3_getsLetter 6 = .ok (.iconst 5, 1) := dk_8 (dk_at dksX3_getsLetter_0 6 rfl rfl)
theorem dX3_getsLetter_7 : decode cX3_getsLetter 7 = .ok (.iaload, 1) := dk_46 (dk_at dksX3_getsLetter_0 7 rfl rfl)
theorem dX3_getsLetter_8 : decode cX3_getsLetter 8 = .ok (.bipush 99, 2) := dk_16 99 (dk_at dksX3_getsLetter_0 8 rfl rfl)
theorem dX3_getsLetter_10 : decode cX3_getsLetter 10 = .ok (.if_icmp .ge 28, 3) := dk_162 0 28 (dk_at dksX3_getsLetter_0 10 rfl rfl)
theorem dX3_getsLetter_13 : decode cX3_getsLetter 13 = .ok (.aload_n 0, 1) := dk_42 (dk_at dksX3_getsLetter_0 13 rfl rfl)
theorem dX3_getsLetter_14 : decode cX3_getsLetter 14 = .ok (.getfield 39, 3) := dk_180 0 39 (dk_at dksX3_getsLetter_0 14 rfl rfl)
theorem dX3_getsLetter_17 : decode cX3_getsLetter 17 = .ok (.iload_n 1, 1) := dk_27 (dk_at dksX3_getsLetter_0 17 rfl rfl)
theorem dX3_getsLetter_18 : decode cX3_getsLetter 18 = .ok (.aaload, 1) := dk_50 (dk_at dksX3_getsLetter_0 18 rfl rfl)
theorem dX3_getsLetter_19 : decode cX3_getsLetter 19 = .ok (.iconst 5, 1) := dk_8 (dk_at dksX3_getsLetter_0 19 rfl rfl)
theorem dX3_getsLetter_20 : decode cX3_getsLetter 20 = .ok (.dup2, 1) := dk_92 (dk_at dksX3_getsLetter_0 20 rfl rfl)
theorem dX3_getsLetter_21 : decode cX3_getsLetter 21 = .ok (.iaload, 1) := dk_46 (dk_at dksX3_getsLetter_0 21 rfl rfl)
theorem dX3_getsLetter_22 : decode cX3_getsLetter 22 = .ok (.iconst 1, 1) := dk_4 (dk_at dksX3_getsLetter_0 22 rfl rfl)
theorem dX3_getsLetter_23 : decode cX3_getsLetter 23 = .ok (.iadd, 1) := dk_96 (dk_at dksX3_getsLetter_0 23 rfl rfl)
theorem dX3_getsLetter_24 : decode cX3_getsLetter 24 = .ok (.iastore, 1) := dk_79 (dk_at dksX3_getsLetter_1 0 rfl rfl)
theorem dX3_getsLetter_25 : decode cX3_getsLetter 25 = .ok (.aload_n 0, 1) := dk_42 (dk_at dksX3_getsLetter_1 1 rfl rfl)
theorem dX3_getsLetter_26 : decode cX3_getsLetter 26 = .ok (.getfield 39, 3) := dk_180 0 39 (dk_at dksX3_getsLetter_1 2 rfl rfl)
theorem dX3_getsLetter_29 : decode cX3_getsLetter 29 = .ok (.iload_n 1, 1) := dk_27 (dk_at dksX3_getsLetter_1 5 rfl rfl)
theorem dX3_getsLetter_30 : decode cX3_getsLetter 30 = .ok (.aaload, 1) := dk_50 (dk_at dksX3_getsLetter_1 6 rfl rfl)
theorem dX3_getsLetter_31 : decode cX3_getsLetter 31 = .ok (.bipush 6, 2) := dk_16 6 (dk_at dksX3_getsLetter_1 7 rfl rfl)
theorem dX3_getsLetter_33 : decode cX3_getsLetter 33 = .ok (.dup2, 1) := dk_92 (dk_at dksX3_getsLetter_1 9 rfl rfl)
theorem dX3_getsLetter_34 : decode cX3_getsLetter 34 = .ok (.iaload, 1) := dk_46 (dk_at dksX3_getsLetter_1 10 rfl rfl)
theorem dX3_getsLetter_35 : decode cX3_getsLetter 35 = .ok (.iload_n 2, 1) := dk_28 (dk_at dksX3_getsLetter_1 11 rfl rfl)
theorem dX3_getsLetter_36 : decode cX3_getsLetter 36 = .ok (.iadd, 1) := dk_96 (dk_at dksX3_getsLetter_1 12 rfl rfl)
theorem dX3_getsLetter_37 : decode cX3_getsLetter 37 = .ok (.iastore, 1) := dk_79 (dk_at dksX3_getsLetter_1 13 rfl rfl)
theorem dX3_getsLetter_38 : decode cX3_getsLetter 38 = .ok (.return_, 1) := dk_177 (dk_at dksX3_getsLetter_1 14 rfl rfl)
abbrev cX3_age : ByteArray := prog_16_method_28_code
def yX3_age : MethodName := ⟨RX3, "age", "(I)I"⟩
def dkwX3_age_1 : List UInt8 := [42, 27, 181, 0, 132, 28, 172]
abbrev dktX3_age_1 : List UInt8 := dkwX3_age_1 ++ []
def dkwX3_age_0 : List UInt8 := [27, 133, 9, 20, 0, 119, 184, 0, 76, 154, 0, 10, 42, 16, 254, 182, 0, 91, 172, 42, 180, 0, 132, 61]
abbrev dktX3_age_0 : List UInt8 := dkwX3_age_0 ++ dktX3_age_1
theorem dksX3_age_0 : cX3_age.data.toList.drop 0 = dktX3_age_0 := by decide +kernel
theorem dksX3_age_1 : cX3_age.data.toList.drop 24 = dktX3_age_1 := dk_seg dksX3_age_0 24 rfl rfl
theorem dX3_age_0 : decode cX3_age 0 = .ok (.iload_n 1, 1) := dk_27 (dk_at dksX3_age_0 0 rfl rfl)
theorem dX3_age_1 : decode cX3_age 1 = .ok (.i2l, 1) := dk_133 (dk_at dksX3_age_0 1 rfl rfl)
theorem dX3_age_2 : decode cX3_age 2 = .ok (.lconst 0, 1) := dk_9 (dk_at dksX3_age_0 2 rfl rfl)
theorem dX3_age_3 : decode cX3_age 3 = .ok (.ldc2_w 119, 3) := dk_20 0 119 (dk_at dksX3_age_0 3 rfl rfl)
theorem dX3_age_6 : decode cX3_age 6 = .ok (.invokestatic 76, 3) := dk_184 0 76 (dk_at dksX3_age_0 6 rfl rfl)
theorem dX3_age_9 : decode cX3_age 9 = .ok (.ifCond .ne 10, 3) := dk_154 0 10 (dk_at dksX3_age_0 9 rfl rfl)
theorem dX3_age_12 : decode cX3_age 12 = .ok (.aload_n 0, 1) := dk_42 (dk_at dksX3_age_0 12 rfl rfl)
theorem dX3_age_13 : decode cX3_age 13 = .ok (.bipush (-2), 2) := dk_16 254 (dk_at dksX3_age_0 13 rfl rfl)
theorem dX3_age_15 : decode cX3_age 15 = .ok (.invokevirtual 91, 3) := dk_182 0 91 (dk_at dksX3_age_0 15 rfl rfl)
theorem dX3_age_18 : decode cX3_age 18 = .ok (.ireturn, 1) := dk_172 (dk_at dksX3_age_0 18 rfl rfl)
theorem dX3_age_19 : decode cX3_age 19 = .ok (.aload_n 0, 1) := dk_42 (dk_at dksX3_age_0 19 rfl rfl)
theorem dX3_age_20 : decode cX3_age 20 = .ok (.getfield 132, 3) := dk_180 0 132 (dk_at dksX3_age_0 20 rfl rfl)
theorem dX3_age_23 : decode cX3_age 23 = .ok (.istore_n 2, 1) := dk_61 (dk_at dksX3_age_0 23 rfl rfl)
theorem dX3_age_24 : decode cX3_age 24 = .ok (.aload_n 0, 1) := dk_42 (dk_at dksX3_age_1 0 rfl rfl)
theorem dX3_age_25 : decode cX3_age 25 = .ok (.iload_n 1, 1) := dk_27 (dk_at dksX3_age_1 1 rfl rfl)
theorem dX3_age_26 : decode cX3_age 26 = .ok (.putfield 132, 3) := dk_181 0 132 (dk_at dksX3_age_1 2 rfl rfl)
theorem dX3_age_29 : decode cX3_age 29 = .ok (.iload_n 2, 1) := dk_28 (dk_at dksX3_age_1 5 rfl rfl)
theorem dX3_age_30 : decode cX3_age 30 = .ok (.ireturn, 1) := dk_172 (dk_at dksX3_age_1 6 rfl rfl)
abbrev cX3_heads : ByteArray := prog_16_method_29_code
def yX3_heads : MethodName := ⟨RX3, "heads", "(II)I"⟩
def dkwX3_heads_1 : List UInt8 := [182, 0, 91, 172, 42, 180, 0, 42, 27, 50, 4, 46, 62, 42, 180, 0, 42, 27, 50, 4, 28, 79, 29, 172]
abbrev dktX3_heads_1 : List UInt8 := dkwX3_heads_1 ++ []
def dkwX3_heads_0 : List UInt8 := [42, 27, 182, 0, 102, 153, 0, 15, 28, 133, 10, 20, 0, 125, 184, 0, 76, 154, 0, 10, 42, 16, 254]
abbrev dktX3_heads_0 : List UInt8 := dkwX3_heads_0 ++ dktX3_heads_1
theorem dksX3_heads_0 : cX3_heads.data.toList.drop 0 = dktX3_heads_0 := by decide +kernel
theorem dksX3_heads_1 : cX3_heads.data.toList.drop 23 = dktX3_heads_1 := dk_seg dksX3_heads_0 23 rfl rfl
theorem dX3_heads_0 : decode cX3_heads 0 = .ok (.aload_n 0, 1) := dk_42 (dk_at dksX3_heads_0 0 rfl rfl)
theorem dX3_heads_1 : decode cX3_heads 1 = .ok (.iload_n 1, 1) := dk_27 (dk_at dksX3_heads_0 1 rfl rfl)
theorem dX3_heads_2 : decode cX3_heads 2 = .ok (.invokevirtual 102, 3) := dk_182 0 102 (dk_at dksX3_heads_0 2 rfl rfl)
theorem dX3_heads_5 : decode cX3_heads 5 = .ok (.ifCond .eq 15, 3) := dk_153 0 15 (dk_at dksX3_heads_0 5 rfl rfl)
theorem dX3_heads_8 : decode cX3_heads 8 = .ok (.iload_n 2, 1) := dk_28 (dk_at dksX3_heads_0 8 rfl rfl)
theorem dX3_heads_9 : decode cX3_heads 9 = .ok (.i2l, 1) := dk_133 (dk_at dksX3_heads_0 9 rfl rfl)
theorem dX3_heads_10 : decode cX3_heads 10 = .ok (.lconst 1, 1) := dk_10 (dk_at dksX3_heads_0 10 rfl rfl)
theorem dX3_heads_11 : decode cX3_heads 11 = .ok (.ldc2_w 125, 3) := dk_20 0 125 (dk_at dksX3_heads_0 11 rfl rfl)
theorem dX3_heads_14 : decode cX3_heads 14 = .ok (.invokestatic 76, 3) := dk_184 0 76 (dk_at dksX3_heads_0 14 rfl rfl)
theorem dX3_heads_17 : decode cX3_heads 17 = .ok (.ifCond .ne 10, 3) := dk_154 0 10 (dk_at dksX3_heads_0 17 rfl rfl)
theorem dX3_heads_20 : decode cX3_heads 20 = .ok (.aload_n 0, 1) := dk_42 (dk_at dksX3_heads_0 20 rfl rfl)
theorem dX3_heads_21 : decode cX3_heads 21 = .ok (.bipush (-2), 2) := dk_16 254 (dk_at dksX3_heads_0 21 rfl rfl)
theorem dX3_heads_23 : decode cX3_heads 23 = .ok (.invokevirtual 91, 3) := dk_182 0 91 (dk_at dksX3_heads_1 0 rfl rfl)
theorem dX3_heads_26 : decode cX3_heads 26 = .ok (.ireturn, 1) := dk_172 (dk_at dksX3_heads_1 3 rfl rfl)
theorem dX3_heads_27 : decode cX3_heads 27 = .ok (.aload_n 0, 1) := dk_42 (dk_at dksX3_heads_1 4 rfl rfl)
theorem dX3_heads_28 : decode cX3_heads 28 = .ok (.getfield 42, 3) := dk_180 0 42 (dk_at dksX3_heads_1 5 rfl rfl)
theorem dX3_heads_31 : decode cX3_heads 31 = .ok (.iload_n 1, 1) := dk_27 (dk_at dksX3_heads_1 8 rfl rfl)
theorem dX3_heads_32 : decode cX3_heads 32 = .ok (.aaload, 1) := dk_50 (dk_at dksX3_heads_1 9 rfl rfl)
theorem dX3_heads_33 : decode cX3_heads 33 = .ok (.iconst 1, 1) := dk_4 (dk_at dksX3_heads_1 10 rfl rfl)
theorem dX3_heads_34 : decode cX3_heads 34 = .ok (.iaload, 1) := dk_46 (dk_at dksX3_heads_1 11 rfl rfl)
theorem dX3_heads_35 : decode cX3_heads 35 = .ok (.istore_n 3, 1) := dk_62 (dk_at dksX3_heads_1 12 rfl rfl)
theorem dX3_heads_36 : decode cX3_heads 36 = .ok (.aload_n 0, 1) := dk_42 (dk_at dksX3_heads_1 13 rfl rfl)
theorem dX3_heads_37 : decode cX3_heads 37 = .ok (.getfield 42, 3) := dk_180 0 42 (dk_at dksX3_heads_1 14 rfl rfl)
theorem dX3_heads_40 : decode cX3_heads 40 = .ok (.iload_n 1, 1) := dk_27 (dk_at dksX3_heads_1 17 rfl rfl)
theorem dX3_heads_41 : decode cX3_heads 41 = .ok (.aaload, 1) := dk_50 (dk_at dksX3_heads_1 18 rfl rfl)
theorem dX3_heads_42 : decode cX3_heads 42 = .ok (.iconst 1, 1) := dk_4 (dk_at dksX3_heads_1 19 rfl rfl)
theorem dX3_heads_43 : decode cX3_heads 43 = .ok (.iload_n 2, 1) := dk_28 (dk_at dksX3_heads_1 20 rfl rfl)
theorem dX3_heads_44 : decode cX3_heads 44 = .ok (.iastore, 1) := dk_79 (dk_at dksX3_heads_1 21 rfl rfl)
theorem dX3_heads_45 : decode cX3_heads 45 = .ok (.iload_n 3, 1) := dk_29 (dk_at dksX3_heads_1 22 rfl rfl)
theorem dX3_heads_46 : decode cX3_heads 46 = .ok (.ireturn, 1) := dk_172 (dk_at dksX3_heads_1 23 rfl rfl)
abbrev cX3_feed : ByteArray := prog_16_method_30_code
def yX3_feed : MethodName := ⟨RX3, "feed", "(I)I"⟩
def dkwX3_feed_2 : List UInt8 := [96, 181, 0, 147, 27, 79, 42, 180, 0, 147, 172]
abbrev dktX3_feed_2 : List UInt8 := dkwX3_feed_2 ++ []
def dkwX3_feed_1 : List UInt8 := [17, 0, 250, 160, 0, 10, 42, 16, 250, 182, 0, 91, 172, 42, 180, 0, 31, 42, 89, 180, 0, 147, 90, 4]
abbrev dktX3_feed_1 : List UInt8 := dkwX3_feed_1 ++ dktX3_feed_2
def dkwX3_feed_0 : List UInt8 := [27, 133, 9, 20, 0, 145, 184, 0, 76, 154, 0, 10, 42, 16, 254, 182, 0, 91, 172, 42, 180, 0, 147]
abbrev dktX3_feed_0 : List UInt8 := dkwX3_feed_0 ++ dktX3_feed_1
theorem dksX3_feed_0 : cX3_feed.data.toList.drop 0 = dktX3_feed_0 := by decide +kernel
theorem dksX3_feed_1 : cX3_feed.data.toList.drop 23 = dktX3_feed_1 := dk_seg dksX3_feed_0 23 rfl rfl
theorem dksX3_feed_2 : cX3_feed.data.toList.drop 47 = dktX3_feed_2 := dk_seg dksX3_feed_1 24 rfl rfl
theorem dX3_feed_0 : decode cX3_feed 0 = .ok (.iload_n 1, 1) := dk_27 (dk_at dksX3_feed_0 0 rfl rfl)
theorem dX3_feed_1 : decode cX3_feed 1 = .ok (.i2l, 1) := dk_133 (dk_at dksX3_feed_0 1 rfl rfl)
theorem dX3_feed_2 : decode cX3_feed 2 = .ok (.lconst 0, 1) := dk_9 (dk_at dksX3_feed_0 2 rfl rfl)
theorem dX3_feed_3 : decode cX3_feed 3 = .ok (.ldc2_w 145, 3) := dk_20 0 145 (dk_at dksX3_feed_0 3 rfl rfl)
theorem dX3_feed_6 : decode cX3_feed 6 = .ok (.invokestatic 76, 3) := dk_184 0 76 (dk_at dksX3_feed_0 6 rfl rfl)
theorem dX3_feed_9 : decode cX3_feed 9 = .ok (.ifCond .ne 10, 3) := dk_154 0 10 (dk_at dksX3_feed_0 9 rfl rfl)
theorem dX3_feed_12 : decode cX3_feed 12 = .ok (.aload_n 0, 1) := dk_42 (dk_at dksX3_feed_0 12 rfl rfl)
theorem dX3_feed_13 : decode cX3_feed 13 = .ok (.bipush (-2), 2) := dk_16 254 (dk_at dksX3_feed_0 13 rfl rfl)
theorem dX3_feed_15 : decode cX3_feed 15 = .ok (.invokevirtual 91, 3) := dk_182 0 91 (dk_at dksX3_feed_0 15 rfl rfl)
theorem dX3_feed_18 : decode cX3_feed 18 = .ok (.ireturn, 1) := dk_172 (dk_at dksX3_feed_0 18 rfl rfl)
theorem dX3_feed_19 : decode cX3_feed 19 = .ok (.aload_n 0, 1) := dk_42 (dk_at dksX3_feed_0 19 rfl rfl)
theorem dX3_feed_20 : decode cX3_feed 20 = .ok (.getfield 147, 3) := dk_180 0 147 (dk_at dksX3_feed_0 20 rfl rfl)
theorem dX3_feed_23 : decode cX3_feed 23 = .ok (.sipush 250, 3) := dk_17 0 250 (dk_at dksX3_feed_1 0 rfl rfl)
theorem dX3_feed_26 : decode cX3_feed 26 = .ok (.if_icmp .ne 10, 3) := dk_160 0 10 (dk_at dksX3_feed_1 3 rfl rfl)
theorem dX3_feed_29 : decode cX3_feed 29 = .ok (.aload_n 0, 1) := dk_42 (dk_at dksX3_feed_1 6 rfl rfl)
theorem dX3_feed_30 : decode cX3_feed 30 = .ok (.bipush (-6), 2) := dk_16 250 (dk_at dksX3_feed_1 7 rfl rfl)
theorem dX3_feed_32 : decode cX3_feed 32 = .ok (.invokevirtual 91, 3) := dk_182 0 91 (dk_at dksX3_feed_1 9 rfl rfl)
theorem dX3_feed_35 : decode cX3_feed 35 = .ok (.ireturn, 1) := dk_172 (dk_at dksX3_feed_1 12 rfl rfl)
theorem dX3_feed_36 : decode cX3_feed 36 = .ok (.aload_n 0, 1) := dk_42 (dk_at dksX3_feed_1 13 rfl rfl)
theorem dX3_feed_37 : decode cX3_feed 37 = .ok (.getfield 31, 3) := dk_180 0 31 (dk_at dksX3_feed_1 14 rfl rfl)
theorem dX3_feed_40 : decode cX3_feed 40 = .ok (.aload_n 0, 1) := dk_42 (dk_at dksX3_feed_1 17 rfl rfl)
theorem dX3_feed_41 : decode cX3_feed 41 = .ok (.dup, 1) := dk_89 (dk_at dksX3_feed_1 18 rfl rfl)
theorem dX3_feed_42 : decode cX3_feed 42 = .ok (.getfield 147, 3) := dk_180 0 147 (dk_at dksX3_feed_1 19 rfl rfl)
theorem dX3_feed_45 : decode cX3_feed 45 = .ok (.dup_x1, 1) := dk_90 (dk_at dksX3_feed_1 22 rfl rfl)
theorem dX3_feed_46 : decode cX3_feed 46 = .ok (.iconst 1, 1) := dk_4 (dk_at dksX3_feed_1 23 rfl rfl)
theorem dX3_feed_47 : decode cX3_feed 47 = .ok (.iadd, 1) := dk_96 (dk_at dksX3_feed_2 0 rfl rfl)
theorem dX3_feed_48 : decode cX3_feed 48 = .ok (.putfield 147, 3) := dk_181 0 147 (dk_at dksX3_feed_2 1 rfl rfl)
theorem dX3_feed_51 : decode cX3_feed 51 = .ok (.iload_n 1, 1) := dk_27 (dk_at dksX3_feed_2 4 rfl rfl)
theorem dX3_feed_52 : decode cX3_feed 52 = .ok (.iastore, 1) := dk_79 (dk_at dksX3_feed_2 5 rfl rfl)
theorem dX3_feed_53 : decode cX3_feed 53 = .ok (.aload_n 0, 1) := dk_42 (dk_at dksX3_feed_2 6 rfl rfl)
theorem dX3_feed_54 : decode cX3_feed 54 = .ok (.getfield 147, 3) := dk_180 0 147 (dk_at dksX3_feed_2 7 rfl rfl)
theorem dX3_feed_57 : decode cX3_feed 57 = .ok (.ireturn, 1) := dk_172 (dk_at dksX3_feed_2 10 rfl rfl)
abbrev cX3_wipe : ByteArray := prog_16_method_31_code
def yX3_wipe : MethodName := ⟨RX3, "wipe", "()I"⟩
def dkwX3_wipe_0 : List UInt8 := [42, 180, 0, 147, 60, 42, 3, 181, 0, 147, 27, 172]
abbrev dktX3_wipe_0 : List UInt8 := dkwX3_wipe_0 ++ []
theorem dksX3_wipe_0 : cX3_wipe.data.toList.drop 0 = dktX3_wipe_0 := by decide +kernel
theorem dX3_wipe_0 : decode cX3_wipe 0 = .ok (.aload_n 0, 1) := dk_42 (dk_at dksX3_wipe_0 0 rfl rfl)
theorem dX3_wipe_1 : decode cX3_wipe 1 = .ok (.getfield 147, 3) := dk_180 0 147 (dk_at dksX3_wipe_0 1 rfl rfl)
theorem dX3_wipe_4 : decode cX3_wipe 4 = .ok (.istore_n 1, 1) := dk_60 (dk_at dksX3_wipe_0 4 rfl rfl)
theorem dX3_wipe_5 : decode cX3_wipe 5 = .ok (.aload_n 0, 1) := dk_42 (dk_at dksX3_wipe_0 5 rfl rfl)
theorem dX3_wipe_6 : decode cX3_wipe 6 = .ok (.iconst 0, 1) := dk_3 (dk_at dksX3_wipe_0 6 rfl rfl)
theorem dX3_wipe_7 : decode cX3_wipe 7 = .ok (.putfield 147, 3) := dk_181 0 147 (dk_at dksX3_wipe_0 7 rfl rfl)
theorem dX3_wipe_10 : decode cX3_wipe 10 = .ok (.iload_n 1, 1) := dk_27 (dk_at dksX3_wipe_0 10 rfl rfl)
theorem dX3_wipe_11 : decode cX3_wipe 11 = .ok (.ireturn, 1) := dk_172 (dk_at dksX3_wipe_0 11 rfl rfl)
abbrev cX3_valley : ByteArray := prog_16_method_44_code
def yX3_valley : MethodName := ⟨RX3, "valley", "()I"⟩
def dkwX3_valley_1 : List UInt8 := [42, 16, 254, 182, 0, 91, 87, 16, 236, 42, 180, 0, 169, 100, 172, 42, 180, 0, 221, 172]
abbrev dktX3_valley_1 : List UInt8 := dkwX3_valley_1 ++ []
def dkwX3_valley_0 : List UInt8 := [42, 182, 0, 227, 76, 42, 182, 0, 231, 61, 42, 3, 181, 0, 147, 28, 154, 0, 23, 42, 43, 182, 0, 234]
abbrev dktX3_valley_0 : List UInt8 := dkwX3_valley_0 ++ dktX3_valley_1
theorem dksX3_valley_0 : cX3_valley.data.toList.drop 0 = dktX3_valley_0 := by decide +kernel
theorem dksX3_valley_1 : cX3_valley.data.toList.drop 24 = dktX3_valley_1 := dk_seg dksX3_valley_0 24 rfl rfl
theorem dX3_valley_0 : decode cX3_valley 0 = .ok (.aload_n 0, 1) := dk_42 (dk_at dksX3_valley_0 0 rfl rfl)
theorem dX3_valley_1 : decode cX3_valley 1 = .ok (.invokevirtual 227, 3) := dk_182 0 227 (dk_at dksX3_valley_0 1 rfl rfl)
theorem dX3_valley_4 : decode cX3_valley 4 = .ok (.astore_n 1, 1) := dk_76 (dk_at dksX3_valley_0 4 rfl rfl)
theorem dX3_valley_5 : decode cX3_valley 5 = .ok (.aload_n 0, 1) := dk_42 (dk_at dksX3_valley_0 5 rfl rfl)
theorem dX3_valley_6 : decode cX3_valley 6 = .ok (.invokevirtual 231, 3) := dk_182 0 231 (dk_at dksX3_valley_0 6 rfl rfl)
theorem dX3_valley_9 : decode cX3_valley 9 = .ok (.istore_n 2, 1) := dk_61 (dk_at dksX3_valley_0 9 rfl rfl)
theorem dX3_valley_10 : decode cX3_valley 10 = .ok (.aload_n 0, 1) := dk_42 (dk_at dksX3_valley_0 10 rfl rfl)
theorem dX3_valley_11 : decode cX3_valley 11 = .ok (.iconst 0, 1) := dk_3 (dk_at dksX3_valley_0 11 rfl rfl)
theorem dX3_valley_12 : decode cX3_valley 12 = .ok (.putfield 147, 3) := dk_181 0 147 (dk_at dksX3_valley_0 12 rfl rfl)
theorem dX3_valley_15 : decode cX3_valley 15 = .ok (.iload_n 2, 1) := dk_28 (dk_at dksX3_valley_0 15 rfl rfl)
theorem dX3_valley_16 : decode cX3_valley 16 = .ok (.ifCond .ne 23, 3) := dk_154 0 23 (dk_at dksX3_valley_0 16 rfl rfl)
theorem dX3_valley_19 : decode cX3_valley 19 = .ok (.aload_n 0, 1) := dk_42 (dk_at dksX3_valley_0 19 rfl rfl)
theorem dX3_valley_20 : decode cX3_valley 20 = .ok (.aload_n 1, 1) := dk_43 (dk_at dksX3_valley_0 20 rfl rfl)
theorem dX3_valley_21 : decode cX3_valley 21 = .ok (.invokevirtual 234, 3) := dk_182 0 234 (dk_at dksX3_valley_0 21 rfl rfl)
theorem dX3_valley_24 : decode cX3_valley 24 = .ok (.aload_n 0, 1) := dk_42 (dk_at dksX3_valley_1 0 rfl rfl)
theorem dX3_valley_25 : decode cX3_valley 25 = .ok (.bipush (-2), 2) := dk_16 254 (dk_at dksX3_valley_1 1 rfl rfl)
theorem dX3_valley_27 : decode cX3_valley 27 = .ok (.invokevirtual 91, 3) := dk_182 0 91 (dk_at dksX3_valley_1 3 rfl rfl)
theorem dX3_valley_30 : decode cX3_valley 30 = .ok (.pop, 1) := dk_87 (dk_at dksX3_valley_1 6 rfl rfl)
theorem dX3_valley_31 : decode cX3_valley 31 = .ok (.bipush (-20), 2) := dk_16 236 (dk_at dksX3_valley_1 7 rfl rfl)
theorem dX3_valley_33 : decode cX3_valley 33 = .ok (.aload_n 0, 1) := dk_42 (dk_at dksX3_valley_1 9 rfl rfl)
theorem dX3_valley_34 : decode cX3_valley 34 = .ok (.getfield 169, 3) := dk_180 0 169 (dk_at dksX3_valley_1 10 rfl rfl)
theorem dX3_valley_37 : decode cX3_valley 37 = .ok (.isub, 1) := dk_100 (dk_at dksX3_valley_1 13 rfl rfl)
theorem dX3_valley_38 : decode cX3_valley 38 = .ok (.ireturn, 1) := dk_172 (dk_at dksX3_valley_1 14 rfl rfl)
theorem dX3_valley_39 : decode cX3_valley 39 = .ok (.aload_n 0, 1) := dk_42 (dk_at dksX3_valley_1 15 rfl rfl)
theorem dX3_valley_40 : decode cX3_valley 40 = .ok (.getfield 221, 3) := dk_180 0 221 (dk_at dksX3_valley_1 16 rfl rfl)
theorem dX3_valley_43 : decode cX3_valley 43 = .ok (.ireturn, 1) := dk_172 (dk_at dksX3_valley_1 19 rfl rfl)
abbrev cX3_fresh : ByteArray := prog_16_method_103_code
def yX3_fresh : MethodName := ⟨RX3, "fresh", "()LEverybodyHasTheBookModel;"⟩
def dkwX3_fresh_1 : List UInt8 := [182, 0, 234, 42, 180, 1, 70, 176]
abbrev dktX3_fresh_1 : List UInt8 := dkwX3_fresh_1 ++ []
def dkwX3_fresh_0 : List UInt8 := [42, 180, 1, 70, 199, 0, 14, 42, 187, 0, 8, 89, 183, 1, 74, 181, 1, 70, 42, 180, 1, 70, 42]
abbrev dktX3_fresh_0 : List UInt8 := dkwX3_fresh_0 ++ dktX3_fresh_1
theorem dksX3_fresh_0 : cX3_fresh.data.toList.drop 0 = dktX3_fresh_0 := by decide +kernel
theorem dksX3_fresh_1 : cX3_fresh.data.toList.drop 23 = dktX3_fresh_1 := dk_seg dksX3_fresh_0 23 rfl rfl
theorem dX3_fresh_0 : decode cX3_fresh 0 = .ok (.aload_n 0, 1) := dk_42 (dk_at dksX3_fresh_0 0 rfl rfl)
theorem dX3_fresh_1 : decode cX3_fresh 1 = .ok (.getfield 326, 3) := dk_180 1 70 (dk_at dksX3_fresh_0 1 rfl rfl)
theorem dX3_fresh_4 : decode cX3_fresh 4 = .ok (.ifnonnull 14, 3) := dk_199 0 14 (dk_at dksX3_fresh_0 4 rfl rfl)
theorem dX3_fresh_7 : decode cX3_fresh 7 = .ok (.aload_n 0, 1) := dk_42 (dk_at dksX3_fresh_0 7 rfl rfl)
theorem dX3_fresh_8 : decode cX3_fresh 8 = .ok (.new 8, 3) := dk_187 0 8 (dk_at dksX3_fresh_0 8 rfl rfl)
theorem dX3_fresh_11 : decode cX3_fresh 11 = .ok (.dup, 1) := dk_89 (dk_at dksX3_fresh_0 11 rfl rfl)
theorem dX3_fresh_12 : decode cX3_fresh 12 = .ok (.invokespecial 330, 3) := dk_183 1 74 (dk_at dksX3_fresh_0 12 rfl rfl)
theorem dX3_fresh_15 : decode cX3_fresh 15 = .ok (.putfield 326, 3) := dk_181 1 70 (dk_at dksX3_fresh_0 15 rfl rfl)
theorem dX3_fresh_18 : decode cX3_fresh 18 = .ok (.aload_n 0, 1) := dk_42 (dk_at dksX3_fresh_0 18 rfl rfl)
theorem dX3_fresh_19 : decode cX3_fresh 19 = .ok (.getfield 326, 3) := dk_180 1 70 (dk_at dksX3_fresh_0 19 rfl rfl)
theorem dX3_fresh_22 : decode cX3_fresh 22 = .ok (.aload_n 0, 1) := dk_42 (dk_at dksX3_fresh_0 22 rfl rfl)
theorem dX3_fresh_23 : decode cX3_fresh 23 = .ok (.invokevirtual 234, 3) := dk_182 0 234 (dk_at dksX3_fresh_1 0 rfl rfl)
theorem dX3_fresh_26 : decode cX3_fresh 26 = .ok (.aload_n 0, 1) := dk_42 (dk_at dksX3_fresh_1 3 rfl rfl)
theorem dX3_fresh_27 : decode cX3_fresh 27 = .ok (.getfield 326, 3) := dk_180 1 70 (dk_at dksX3_fresh_1 4 rfl rfl)
theorem dX3_fresh_30 : decode cX3_fresh 30 = .ok (.areturn, 1) := dk_176 (dk_at dksX3_fresh_1 7 rfl rfl)
abbrev cX3_takeFrom : ByteArray := prog_16_method_105_code
def yX3_takeFrom : MethodName := ⟨RX3, "takeFrom", "(LEverybodyHasTheBookModel;)V"⟩
def dkwX3_takeFrom_3 : List UInt8 := [180, 1, 37, 181, 1, 37, 42, 43, 180, 0, 45, 181, 0, 45, 177]
abbrev dktX3_takeFrom_3 : List UInt8 := dkwX3_takeFrom_3 ++ []
def dkwX3_takeFrom_2 : List UInt8 := [180, 0, 42, 28, 50, 184, 1, 75, 132, 2, 1, 167, 255, 217, 42, 43, 180, 0, 132, 181, 0, 132, 42, 43]
abbrev dktX3_takeFrom_2 : List UInt8 := dkwX3_takeFrom_2 ++ dktX3_takeFrom_3
def dkwX3_takeFrom_1 : List UInt8 := [43, 180, 0, 39, 28, 50, 42, 180, 0, 39, 28, 50, 184, 1, 75, 43, 180, 0, 42, 28, 50, 42]
abbrev dktX3_takeFrom_1 : List UInt8 := dkwX3_takeFrom_1 ++ dktX3_takeFrom_2
def dkwX3_takeFrom_0 : List UInt8 := [42, 43, 180, 0, 73, 181, 0, 73, 42, 43, 180, 0, 80, 181, 0, 80, 3, 61, 28, 16, 6, 162, 0, 39]
abbrev dktX3_takeFrom_0 : List UInt8 := dkwX3_takeFrom_0 ++ dktX3_takeFrom_1
theorem dksX3_takeFrom_0 : cX3_takeFrom.data.toList.drop 0 = dktX3_takeFrom_0 := by decide +kernel
theorem dksX3_takeFrom_1 : cX3_takeFrom.data.toList.drop 24 = dktX3_takeFrom_1 := dk_seg dksX3_takeFrom_0 24 rfl rfl
theorem dksX3_takeFrom_2 : cX3_takeFrom.data.toList.drop 46 = dktX3_takeFrom_2 := dk_seg dksX3_takeFrom_1 22 rfl rfl
theorem dksX3_takeFrom_3 : cX3_takeFrom.data.toList.drop 70 = dktX3_takeFrom_3 := dk_seg dksX3_takeFrom_2 24 rfl rfl
theorem dX3_takeFrom_0 : decode cX3_takeFrom 0 = .ok (.aload_n 0, 1) := dk_42 (dk_at dksX3_takeFrom_0 0 rfl rfl)
theorem dX3_takeFrom_1 : decode cX3_takeFrom 1 = .ok (.aload_n 1, 1) := dk_43 (dk_at dksX3_takeFrom_0 1 rfl rfl)
theorem dX3_takeFrom_2 : decode cX3_takeFrom 2 = .ok (.getfield 73, 3) := dk_180 0 73 (dk_at dksX3_takeFrom_0 2 rfl rfl)
theorem dX3_takeFrom_5 : decode cX3_takeFrom 5 = .ok (.putfield 73, 3) := dk_181 0 73 (dk_at dksX3_takeFrom_0 5 rfl rfl)
theorem dX3_takeFrom_8 : decode cX3_takeFrom 8 = .ok (.aload_n 0, 1) := dk_42 (dk_at dksX3_takeFrom_0 8 rfl rfl)
theorem dX3_takeFrom_9 : decode cX3_takeFrom 9 = .ok (.aload_n 1, 1) := dk_43 (dk_at dksX3_takeFrom_0 9 rfl rfl)
theorem dX3_takeFrom_10 : decode cX3_takeFrom 10 = .ok (.getfield 80, 3) := dk_180 0 80 (dk_at dksX3_takeFrom_0 10 rfl rfl)
theorem dX3_takeFrom_13 : decode cX3_takeFrom 13 = .ok (.putfield 80, 3) := dk_181 0 80 (dk_at dksX3_takeFrom_0 13 rfl rfl)
theorem dX3_takeFrom_16 : decode cX3_takeFrom 16 = .ok (.iconst 0, 1) := dk_3 (dk_at dksX3_takeFrom_0 16 rfl rfl)
theorem dX3_takeFrom_17 : decode cX3_takeFrom 17 = .ok (.istore_n 2, 1) := dk_61 (dk_at dksX3_takeFrom_0 17 rfl rfl)
theorem dX3_takeFrom_18 : decode cX3_takeFrom 18 = .ok (.iload_n 2, 1) := dk_28 (dk_at dksX3_takeFrom_0 18 rfl rfl)
theorem dX3_takeFrom_19 : decode cX3_takeFrom 19 = .ok (.bipush 6, 2) := dk_16 6 (dk_at dksX3_takeFrom_0 19 rfl rfl)
theorem dX3_takeFrom_21 : decode cX3_takeFrom 21 = .ok (.if_icmp .ge 39, 3) := dk_162 0 39 (dk_at dksX3_takeFrom_0 21 rfl rfl)
theorem dX3_takeFrom_24 : decode cX3_takeFrom 24 = .ok (.aload_n 1, 1) := dk_43 (dk_at dksX3_takeFrom_1 0 rfl rfl)
theorem dX3_takeFrom_25 : decode cX3_takeFrom 25 = .ok (.getfield 39, 3) := dk_180 0 39 (dk_at dksX3_takeFrom_1 1 rfl rfl)
theorem dX3_takeFrom_28 : decode cX3_takeFrom 28 = .ok (.iload_n 2, 1) := dk_28 (dk_at dksX3_takeFrom_1 4 rfl rfl)
theorem dX3_takeFrom_29 : decode cX3_takeFrom 29 = .ok (.aaload, 1) := dk_50 (dk_at dksX3_takeFrom_1 5 rfl rfl)
theorem dX3_takeFrom_30 : decode cX3_takeFrom 30 = .ok (.aload_n 0, 1) := dk_42 (dk_at dksX3_takeFrom_1 6 rfl rfl)
theorem dX3_takeFrom_31 : decode cX3_takeFrom 31 = .ok (.getfield 39, 3) := dk_180 0 39 (dk_at dksX3_takeFrom_1 7 rfl rfl)
theorem dX3_takeFrom_34 : decode cX3_takeFrom 34 = .ok (.iload_n 2, 1) := dk_28 (dk_at dksX3_takeFrom_1 10 rfl rfl)
theorem dX3_takeFrom_35 : decode cX3_takeFrom 35 = .ok (.aaload, 1) := dk_50 (dk_at dksX3_takeFrom_1 11 rfl rfl)
theorem dX3_takeFrom_36 : decode cX3_takeFrom 36 = .ok (.invokestatic 331, 3) := dk_184 1 75 (dk_at dksX3_takeFrom_1 12 rfl rfl)
theorem dX3_takeFrom_39 : decode cX3_takeFrom 39 = .ok (.aload_n 1, 1) := dk_43 (dk_at dksX3_takeFrom_1 15 rfl rfl)
theorem dX3_takeFrom_40 : decode cX3_takeFrom 40 = .ok (.getfield 42, 3) := dk_180 0 42 (dk_at dksX3_takeFrom_1 16 rfl rfl)
theorem dX3_takeFrom_43 : decode cX3_takeFrom 43 = .ok (.iload_n 2, 1) := dk_28 (dk_at dksX3_takeFrom_1 19 rfl rfl)
theorem dX3_takeFrom_44 : decode cX3_takeFrom 44 = .ok (.aaload, 1) := dk_50 (dk_at dksX3_takeFrom_1 20 rfl rfl)
theorem dX3_takeFrom_45 : decode cX3_takeFrom 45 = .ok (.aload_n 0, 1) := dk_42 (dk_at dksX3_takeFrom_1 21 rfl rfl)
theorem dX3_takeFrom_46 : decode cX3_takeFrom 46 = .ok (.getfield 42, 3) := dk_180 0 42 (dk_at dksX3_takeFrom_2 0 rfl rfl)
theorem dX3_takeFrom_49 : decode cX3_takeFrom 49 = .ok (.iload_n 2, 1) := dk_28 (dk_at dksX3_takeFrom_2 3 rfl rfl)
theorem dX3_takeFrom_50 : decode cX3_takeFrom 50 = .ok (.aaload, 1) := dk_50 (dk_at dksX3_takeFrom_2 4 rfl rfl)
theorem dX3_takeFrom_51 : decode cX3_takeFrom 51 = .ok (.invokestatic 331, 3) := dk_184 1 75 (dk_at dksX3_takeFrom_2 5 rfl rfl)
theorem dX3_takeFrom_54 : decode cX3_takeFrom 54 = .ok (.iinc 2 1, 3) := dk_132 2 1 (dk_at dksX3_takeFrom_2 8 rfl rfl)
theorem dX3_takeFrom_57 : decode cX3_takeFrom 57 = .ok (.goto (-39), 3) := dk_167 255 217 (dk_at dksX3_takeFrom_2 11 rfl rfl)
theorem dX3_takeFrom_60 : decode cX3_takeFrom 60 = .ok (.aload_n 0, 1) := dk_42 (dk_at dksX3_takeFrom_2 14 rfl rfl)
theorem dX3_takeFrom_61 : decode cX3_takeFrom 61 = .ok (.aload_n 1, 1) := dk_43 (dk_at dksX3_takeFrom_2 15 rfl rfl)
theorem dX3_takeFrom_62 : decode cX3_takeFrom 62 = .ok (.getfield 132, 3) := dk_180 0 132 (dk_at dksX3_takeFrom_2 16 rfl rfl)
theorem dX3_takeFrom_65 : decode cX3_takeFrom 65 = .ok (.putfield 132, 3) := dk_181 0 132 (dk_at dksX3_takeFrom_2 19 rfl rfl)
theorem dX3_takeFrom_68 : decode cX3_takeFrom 68 = .ok (.aload_n 0, 1) := dk_42 (dk_at dksX3_takeFrom_2 22 rfl rfl)
theorem dX3_takeFrom_69 : decode cX3_takeFrom 69 = .ok (.aload_n 1, 1) := dk_43 (dk_at dksX3_takeFrom_2 23 rfl rfl)
theorem dX3_takeFrom_70 : decode cX3_takeFrom 70 = .ok (.getfield 293, 3) := dk_180 1 37 (dk_at dksX3_takeFrom_3 0 rfl rfl)
theorem dX3_takeFrom_73 : decode cX3_takeFrom 73 = .ok (.putfield 293, 3) := dk_181 1 37 (dk_at dksX3_takeFrom_3 3 rfl rfl)
theorem dX3_takeFrom_76 : decode cX3_takeFrom 76 = .ok (.aload_n 0, 1) := dk_42 (dk_at dksX3_takeFrom_3 6 rfl rfl)
theorem dX3_takeFrom_77 : decode cX3_takeFrom 77 = .ok (.aload_n 1, 1) := dk_43 (dk_at dksX3_takeFrom_3 7 rfl rfl)
theorem dX3_takeFrom_78 : decode cX3_takeFrom 78 = .ok (.getfield 45, 3) := dk_180 0 45 (dk_at dksX3_takeFrom_3 8 rfl rfl)
theorem dX3_takeFrom_81 : decode cX3_takeFrom 81 = .ok (.putfield 45, 3) := dk_181 0 45 (dk_at dksX3_takeFrom_3 11 rfl rfl)
theorem dX3_takeFrom_84 : decode cX3_takeFrom 84 = .ok (.return_, 1) := dk_177 (dk_at dksX3_takeFrom_3 14 rfl rfl)
abbrev cX3_over : ByteArray := prog_16_method_104_code
def yX3_over : MethodName := ⟨RX3, "over", "([I[I)V"⟩
def dkwX3_over_0 : List UInt8 := [3, 61, 28, 42, 190, 162, 0, 15, 43, 28, 42, 28, 46, 79, 132, 2, 1, 167, 255, 241, 177]
abbrev dktX3_over_0 : List UInt8 := dkwX3_over_0 ++ []
theorem dksX3_over_0 : cX3_over.data.toList.drop 0 = dktX3_over_0 := by decide +kernel
theorem dX3_over_0 : decode cX3_over 0 = .ok (.iconst 0, 1) := dk_3 (dk_at dksX3_over_0 0 rfl rfl)
theorem dX3_over_1 : decode cX3_over 1 = .ok (.istore_n 2, 1) := dk_61 (dk_at dksX3_over_0 1 rfl rfl)
theorem dX3_over_2 : decode cX3_over 2 = .ok (.iload_n 2, 1) := dk_28 (dk_at dksX3_over_0 2 rfl rfl)
theorem dX3_over_3 : decode cX3_over 3 = .ok (.aload_n 0, 1) := dk_42 (dk_at dksX3_over_0 3 rfl rfl)
theorem dX3_over_4 : decode cX3_over 4 = .ok (.arraylength, 1) := dk_190 (dk_at dksX3_over_0 4 rfl rfl)
theorem dX3_over_5 : decode cX3_over 5 = .ok (.if_icmp .ge 15, 3) := dk_162 0 15 (dk_at dksX3_over_0 5 rfl rfl)
theorem dX3_over_8 : decode cX3_over 8 = .ok (.aload_n 1, 1) := dk_43 (dk_at dksX3_over_0 8 rfl rfl)
theorem dX3_over_9 : decode cX3_over 9 = .ok (.iload_n 2, 1) := dk_28 (dk_at dksX3_over_0 9 rfl rfl)
theorem dX3_over_10 : decode cX3_over 10 = .ok (.aload_n 0, 1) := dk_42 (dk_at dksX3_over_0 10 rfl rfl)
theorem dX3_over_11 : decode cX3_over 11 = .ok (.iload_n 2, 1) := dk_28 (dk_at dksX3_over_0 11 rfl rfl)
theorem dX3_over_12 : decode cX3_over 12 = .ok (.iaload, 1) := dk_46 (dk_at dksX3_over_0 12 rfl rfl)
theorem dX3_over_13 : decode cX3_over 13 = .ok (.iastore, 1) := dk_79 (dk_at dksX3_over_0 13 rfl rfl)
theorem dX3_over_14 : decode cX3_over 14 = .ok (.iinc 2 1, 3) := dk_132 2 1 (dk_at dksX3_over_0 14 rfl rfl)
theorem dX3_over_17 : decode cX3_over 17 = .ok (.goto (-15), 3) := dk_167 255 241 (dk_at dksX3_over_0 17 rfl rfl)
theorem dX3_over_20 : decode cX3_over 20 = .ok (.return_, 1) := dk_177 (dk_at dksX3_over_0 20 rfl rfl)
abbrev cX3_readAll : ByteArray := prog_16_method_43_code
def yX3_readAll : MethodName := ⟨RX3, "readAll", "()Z"⟩
def dkwX3_readAll_2 : List UInt8 := [182, 0, 224, 154, 0, 5, 3, 172, 42, 89, 180, 0, 221, 4, 96, 181, 0, 221, 167, 255, 213, 4, 172]
abbrev dktX3_readAll_2 : List UInt8 := dkwX3_readAll_2 ++ []
def dkwX3_readAll_1 : List UInt8 := [180, 0, 159, 153, 0, 42, 42, 180, 0, 159, 6, 159, 0, 8, 42, 182, 0, 182, 172, 42, 182, 0, 186, 42]
abbrev dktX3_readAll_1 : List UInt8 := dkwX3_readAll_1 ++ dktX3_readAll_2
def dkwX3_readAll_0 : List UInt8 := [42, 4, 181, 0, 221, 42, 3, 181, 0, 150, 42, 182, 0, 186, 42, 182, 0, 224, 154, 0, 5, 3, 172, 42]
abbrev dktX3_readAll_0 : List UInt8 := dkwX3_readAll_0 ++ dktX3_readAll_1
theorem dksX3_readAll_0 : cX3_readAll.data.toList.drop 0 = dktX3_readAll_0 := by decide +kernel
theorem dksX3_readAll_1 : cX3_readAll.data.toList.drop 24 = dktX3_readAll_1 := dk_seg dksX3_readAll_0 24 rfl rfl
theorem dksX3_readAll_2 : cX3_readAll.data.toList.drop 48 = dktX3_readAll_2 := dk_seg dksX3_readAll_1 24 rfl rfl
theorem dX3_readAll_0 : decode cX3_readAll 0 = .ok (.aload_n 0, 1) := dk_42 (dk_at dksX3_readAll_0 0 rfl rfl)
theorem dX3_readAll_1 : decode cX3_readAll 1 = .ok (.iconst 1, 1) := dk_4 (dk_at dksX3_readAll_0 1 rfl rfl)
theorem dX3_readAll_2 : decode cX3_readAll 2 = .ok (.putfield 221, 3) := dk_181 0 221 (dk_at dksX3_readAll_0 2 rfl rfl)
theorem dX3_readAll_5 : decode cX3_readAll 5 = .ok (.aload_n 0, 1) := dk_42 (dk_at dksX3_readAll_0 5 rfl rfl)
theorem dX3_readAll_6 : decode cX3_readAll 6 = .ok (.iconst 0, 1) := dk_3 (dk_at dksX3_readAll_0 6 rfl rfl)
theorem dX3_readAll_7 : decode cX3_readAll 7 = .ok (.putfield 150, 3) := dk_181 0 150 (dk_at dksX3_readAll_0 7 rfl rfl)
theorem dX3_readAll_10 : decode cX3_readAll 10 = .ok (.aload_n 0, 1) := dk_42 (dk_at dksX3_readAll_0 10 rfl rfl)
theorem dX3_readAll_11 : decode cX3_readAll 11 = .ok (.invokevirtual 186, 3) := dk_182 0 186 (dk_at dksX3_readAll_0 11 rfl rfl)
theorem dX3_readAll_14 : decode cX3_readAll 14 = .ok (.aload_n 0, 1) := dk_42 (dk_at dksX3_readAll_0 14 rfl rfl)
theorem dX3_readAll_15 : decode cX3_readAll 15 = .ok (.invokevirtual 224, 3) := dk_182 0 224 (dk_at dksX3_readAll_0 15 rfl rfl)
theorem dX3_readAll_18 : decode cX3_readAll 18 = .ok (.ifCond .ne 5, 3) := dk_154 0 5 (dk_at dksX3_readAll_0 18 rfl rfl)
theorem dX3_readAll_21 : decode cX3_readAll 21 = .ok (.iconst 0, 1) := dk_3 (dk_at dksX3_readAll_0 21 rfl rfl)
theorem dX3_readAll_22 : decode cX3_readAll 22 = .ok (.ireturn, 1) := dk_172 (dk_at dksX3_readAll_0 22 rfl rfl)
theorem dX3_readAll_23 : decode cX3_readAll 23 = .ok (.aload_n 0, 1) := dk_42 (dk_at dksX3_readAll_0 23 rfl rfl)
theorem dX3_readAll_24 : decode cX3_readAll 24 = .ok (.getfield 159, 3) := dk_180 0 159 (dk_at dksX3_readAll_1 0 rfl rfl)
theorem dX3_readAll_27 : decode cX3_readAll 27 = .ok (.ifCond .eq 42, 3) := dk_153 0 42 (dk_at dksX3_readAll_1 3 rfl rfl)
theorem dX3_readAll_30 : decode cX3_readAll 30 = .ok (.aload_n 0, 1) := dk_42 (dk_at dksX3_readAll_1 6 rfl rfl)
theorem dX3_readAll_31 : decode cX3_readAll 31 = .ok (.getfield 159, 3) := dk_180 0 159 (dk_at dksX3_readAll_1 7 rfl rfl)
theorem dX3_readAll_34 : decode cX3_readAll 34 = .ok (.iconst 3, 1) := dk_6 (dk_at dksX3_readAll_1 10 rfl rfl)
theorem dX3_readAll_35 : decode cX3_readAll 35 = .ok (.if_icmp .eq 8, 3) := dk_159 0 8 (dk_at dksX3_readAll_1 11 rfl rfl)
theorem dX3_readAll_38 : decode cX3_readAll 38 = .ok (.aload_n 0, 1) := dk_42 (dk_at dksX3_readAll_1 14 rfl rfl)
theorem dX3_readAll_39 : decode cX3_readAll 39 = .ok (.invokevirtual 182, 3) := dk_182 0 182 (dk_at dksX3_readAll_1 15 rfl rfl)
theorem dX3_readAll_42 : decode cX3_readAll 42 = .ok (.ireturn, 1) := dk_172 (dk_at dksX3_readAll_1 18 rfl rfl)
theorem dX3_readAll_43 : decode cX3_readAll 43 = .ok (.aload_n 0, 1) := dk_42 (dk_at dksX3_readAll_1 19 rfl rfl)
theorem dX3_readAll_44 : decode cX3_readAll 44 = .ok (.invokevirtual 186, 3) := dk_182 0 186 (dk_at dksX3_readAll_1 20 rfl rfl)
theorem dX3_readAll_47 : decode cX3_readAll 47 = .ok (.aload_n 0, 1) := dk_42 (dk_at dksX3_readAll_1 23 rfl rfl)
theorem dX3_readAll_48 : decode cX3_readAll 48 = .ok (.invokevirtual 224, 3) := dk_182 0 224 (dk_at dksX3_readAll_2 0 rfl rfl)
theorem dX3_readAll_51 : decode cX3_readAll 51 = .ok (.ifCond .ne 5, 3) := dk_154 0 5 (dk_at dksX3_readAll_2 3 rfl rfl)
theorem dX3_readAll_54 : decode cX3_readAll 54 = .ok (.iconst 0, 1) := dk_3 (dk_at dksX3_readAll_2 6 rfl rfl)
theorem dX3_readAll_55 : decode cX3_readAll 55 = .ok (.ireturn, 1) := dk_172 (dk_at dksX3_readAll_2 7 rfl rfl)
theorem dX3_readAll_56 : decode cX3_readAll 56 = .ok (.aload_n 0, 1) := dk_42 (dk_at dksX3_readAll_2 8 rfl rfl)
theorem dX3_readAll_57 : decode cX3_readAll 57 = .ok (.dup, 1) := dk_89 (dk_at dksX3_readAll_2 9 rfl rfl)
theorem dX3_readAll_58 : decode cX3_readAll 58 = .ok (.getfield 221, 3) := dk_180 0 221 (dk_at dksX3_readAll_2 10 rfl rfl)
theorem dX3_readAll_61 : decode cX3_readAll 61 = .ok (.iconst 1, 1) := dk_4 (dk_at dksX3_readAll_2 13 rfl rfl)
theorem dX3_readAll_62 : decode cX3_readAll 62 = .ok (.iadd, 1) := dk_96 (dk_at dksX3_readAll_2 14 rfl rfl)
theorem dX3_readAll_63 : decode cX3_readAll 63 = .ok (.putfield 221, 3) := dk_181 0 221 (dk_at dksX3_readAll_2 15 rfl rfl)
theorem dX3_readAll_66 : decode cX3_readAll 66 = .ok (.goto (-43), 3) := dk_167 255 213 (dk_at dksX3_readAll_2 18 rfl rfl)
theorem dX3_readAll_69 : decode cX3_readAll 69 = .ok (.iconst 1, 1) := dk_4 (dk_at dksX3_readAll_2 21 rfl rfl)
theorem dX3_readAll_70 : decode cX3_readAll 70 = .ok (.ireturn, 1) := dk_172 (dk_at dksX3_readAll_2 22 rfl rfl)
abbrev cX3_look : ByteArray := prog_16_method_34_code
def yX3_look : MethodName := ⟨RX3, "look", "()V"⟩
def dkwX3_look_11 : List UInt8 := [181, 0, 150, 177]
abbrev dktX3_look_11 : List UInt8 := dkwX3_look_11 ++ []
def dkwX3_look_10 : List UInt8 := [180, 0, 150, 46, 16, 59, 160, 0, 7, 6, 167, 0, 4, 7, 181, 0, 159, 42, 89, 180, 0, 150, 4, 96]
abbrev dktX3_look_10 : List UInt8 := dkwX3_look_10 ++ dktX3_look_11
def dkwX3_look_9 : List UInt8 := [18, 168, 181, 0, 156, 42, 89, 180, 0, 150, 4, 96, 181, 0, 150, 167, 255, 178, 42, 42, 180, 0, 31, 42]
abbrev dktX3_look_9 : List UInt8 := dkwX3_look_9 ++ dktX3_look_10
def dkwX3_look_8 : List UInt8 := [42, 180, 0, 156, 16, 10, 104, 42, 180, 0, 31, 42, 180, 0, 150, 46, 96, 16, 48, 100, 167, 0, 5]
abbrev dktX3_look_8 : List UInt8 := dkwX3_look_8 ++ dktX3_look_9
def dkwX3_look_7 : List UInt8 := [180, 0, 150, 46, 184, 0, 165, 153, 0, 91, 42, 42, 180, 0, 150, 42, 180, 0, 153, 100, 6, 162, 0, 26]
abbrev dktX3_look_7 : List UInt8 := dkwX3_look_7 ++ dktX3_look_8
def dkwX3_look_6 : List UInt8 := [153, 0, 89, 42, 5, 181, 0, 159, 42, 180, 0, 150, 42, 180, 0, 147, 162, 0, 106, 42, 180, 0, 31, 42]
abbrev dktX3_look_6 : List UInt8 := dkwX3_look_6 ++ dktX3_look_7
def dkwX3_look_5 : List UInt8 := [180, 0, 150, 4, 96, 181, 0, 150, 167, 255, 220, 42, 180, 0, 31, 42, 180, 0, 150, 46, 184, 0, 165]
abbrev dktX3_look_5 : List UInt8 := dkwX3_look_5 ++ dktX3_look_6
def dkwX3_look_4 : List UInt8 := [42, 180, 0, 147, 162, 0, 165, 42, 180, 0, 31, 42, 180, 0, 150, 46, 184, 0, 162, 153, 0, 150, 42, 89]
abbrev dktX3_look_4 : List UInt8 := dkwX3_look_4 ++ dktX3_look_5
def dkwX3_look_3 : List UInt8 := [42, 180, 0, 31, 42, 180, 0, 150, 46, 184, 0, 162, 153, 0, 47, 42, 4, 181, 0, 159, 42, 180, 0, 150]
abbrev dktX3_look_3 : List UInt8 := dkwX3_look_3 ++ dktX3_look_4
def dkwX3_look_2 : List UInt8 := [42, 3, 181, 0, 156, 42, 180, 0, 150, 42, 180, 0, 147, 160, 0, 11, 42, 3, 181, 0, 159, 167, 0, 196]
abbrev dktX3_look_2 : List UInt8 := dkwX3_look_2 ++ dktX3_look_3
def dkwX3_look_1 : List UInt8 := [160, 0, 16, 42, 89, 180, 0, 150, 4, 96, 181, 0, 150, 167, 255, 221, 42, 42, 180, 0, 150, 181, 0, 153]
abbrev dktX3_look_1 : List UInt8 := dkwX3_look_1 ++ dktX3_look_2
def dkwX3_look_0 : List UInt8 := [42, 180, 0, 150, 42, 180, 0, 147, 162, 0, 30, 42, 180, 0, 31, 42, 180, 0, 150, 46, 16, 32]
abbrev dktX3_look_0 : List UInt8 := dkwX3_look_0 ++ dktX3_look_1
theorem dksX3_look_0 : cX3_look.data.toList.drop 0 = dktX3_look_0 := by decide +kernel
theorem dksX3_look_1 : cX3_look.data.toList.drop 22 = dktX3_look_1 := dk_seg dksX3_look_0 22 rfl rfl
theorem dksX3_look_2 : cX3_look.data.toList.drop 46 = dktX3_look_2 := dk_seg dksX3_look_1 24 rfl rfl
theorem dksX3_look_3 : cX3_look.data.toList.drop 70 = dktX3_look_3 := dk_seg dksX3_look_2 24 rfl rfl
theorem dksX3_look_4 : cX3_look.data.toList.drop 94 = dktX3_look_4 := dk_seg dksX3_look_3 24 rfl rfl
theorem dksX3_look_5 : cX3_look.data.toList.drop 118 = dktX3_look_5 := dk_seg dksX3_look_4 24 rfl rfl
theorem dksX3_look_6 : cX3_look.data.toList.drop 141 = dktX3_look_6 := dk_seg dksX3_look_5 23 rfl rfl
theorem dksX3_look_7 : cX3_look.data.toList.drop 165 = dktX3_look_7 := dk_seg dksX3_look_6 24 rfl rfl
theorem dksX3_look_8 : cX3_look.data.toList.drop 189 = dktX3_look_8 := dk_seg dksX3_look_7 24 rfl rfl
theorem dksX3_look_9 : cX3_look.data.toList.drop 212 = dktX3_look_9 := dk_seg dksX3_look_8 23 rfl rfl
theorem dksX3_look_10 : cX3_look.data.toList.drop 236 = dktX3_look_10 := dk_seg dksX3_look_9 24 rfl rfl
theorem dksX3_look_11 : cX3_look.data.toList.drop 260 = dktX3_look_11 := dk_seg dksX3_look_10 24 rfl rfl
theorem dX3_look_0 : decode cX3_look 0 = .ok (.aload_n 0, 1) := dk_42 (dk_at dksX3_look_0 0 rfl rfl)
theorem dX3_look_1 : decode cX3_look 1 = .ok (.getfield 150, 3) := dk_180 0 150 (dk_at dksX3_look_0 1 rfl rfl)
theorem dX3_look_4 : decode cX3_look 4 = .ok (.aload_n 0, 1) := dk_42 (dk_at dksX3_look_0 4 rfl rfl)
theorem dX3_look_5 : decode cX3_look 5 = .ok (.getfield 147, 3) := dk_180 0 147 (dk_at dksX3_look_0 5 rfl rfl)
theorem dX3_look_8 : decode cX3_look 8 = .ok (.if_icmp .ge 30, 3) := dk_162 0 30 (dk_at dksX3_look_0 8 rfl rfl)
theorem dX3_look_11 : decode cX3_look 11 = .ok (.aload_n 0, 1) := dk_42 (dk_at dksX3_look_0 11 rfl rfl)
theorem dX3_look_12 : decode cX3_look 12 = .ok (.getfield 31, 3) := dk_180 0 31 (dk_at dksX3_look_0 12 rfl rfl)
theorem dX3_look_15 : decode cX3_look 15 = .ok (.aload_n 0, 1) := dk_42 (dk_at dksX3_look_0 15 rfl rfl)
theorem dX3_look_16 : decode cX3_look 16 = .ok (.getfield 150, 3) := dk_180 0 150 (dk_at dksX3_look_0 16 rfl rfl)
theorem dX3_look_19 : decode cX3_look 19 = .ok (.iaload, 1) := dk_46 (dk_at dksX3_look_0 19 rfl rfl)
theorem dX3_look_20 : decode cX3_look 20 = .ok (.bipush 32, 2) := dk_16 32 (dk_at dksX3_look_0 20 rfl rfl)
theorem dX3_look_22 : decode cX3_look 22 = .ok (.if_icmp .ne 16, 3) := dk_160 0 16 (dk_at dksX3_look_1 0 rfl rfl)
theorem dX3_look_25 : decode cX3_look 25 = .ok (.aload_n 0, 1) := dk_42 (dk_at dksX3_look_1 3 rfl rfl)
theorem dX3_look_26 : decode cX3_look 26 = .ok (.dup, 1) := dk_89 (dk_at dksX3_look_1 4 rfl rfl)
theorem dX3_look_27 : decode cX3_look 27 = .ok (.getfield 150, 3) := dk_180 0 150 (dk_at dksX3_look_1 5 rfl rfl)
theorem dX3_look_30 : decode cX3_look 30 = .ok (.iconst 1, 1) := dk_4 (dk_at dksX3_look_1 8 rfl rfl)
theorem dX3_look_31 : decode cX3_look 31 = .ok (.iadd, 1) := dk_96 (dk_at dksX3_look_1 9 rfl rfl)
theorem dX3_look_32 : decode cX3_look 32 = .ok (.putfield 150, 3) := dk_181 0 150 (dk_at dksX3_look_1 10 rfl rfl)
theorem dX3_look_35 : decode cX3_look 35 = .ok (.goto (-35), 3) := dk_167 255 221 (dk_at dksX3_look_1 13 rfl rfl)
theorem dX3_look_38 : decode cX3_look 38 = .ok (.aload_n 0, 1) := dk_42 (dk_at dksX3_look_1 16 rfl rfl)
theorem dX3_look_39 : decode cX3_look 39 = .ok (.aload_n 0, 1) := dk_42 (dk_at dksX3_look_1 17 rfl rfl)
theorem dX3_look_40 : decode cX3_look 40 = .ok (.getfield 150, 3) := dk_180 0 150 (dk_at dksX3_look_1 18 rfl rfl)
theorem dX3_look_43 : decode cX3_look 43 = .ok (.putfield 153, 3) := dk_181 0 153 (dk_at dksX3_look_1 21 rfl rfl)
theorem dX3_look_46 : decode cX3_look 46 = .ok (.aload_n 0, 1) := dk_42 (dk_at dksX3_look_2 0 rfl rfl)
theorem dX3_look_47 : decode cX3_look 47 = .ok (.iconst 0, 1) := dk_3 (dk_at dksX3_look_2 1 rfl rfl)
theorem dX3_look_48 : decode cX3_look 48 = .ok (.putfield 156, 3) := dk_181 0 156 (dk_at dksX3_look_2 2 rfl rfl)
theorem dX3_look_51 : decode cX3_look 51 = .ok (.aload_n 0, 1) := dk_42 (dk_at dksX3_look_2 5 rfl rfl)
theorem dX3_look_52 : decode cX3_look 52 = .ok (.getfield 150, 3) := dk_180 0 150 (dk_at dksX3_look_2 6 rfl rfl)
theorem dX3_look_55 : decode cX3_look 55 = .ok (.aload_n 0, 1) := dk_42 (dk_at dksX3_look_2 9 rfl rfl)
theorem dX3_look_56 : decode cX3_look 56 = .ok (.getfield 147, 3) := dk_180 0 147 (dk_at dksX3_look_2 10 rfl rfl)
theorem dX3_look_59 : decode cX3_look 59 = .ok (.if_icmp .ne 11, 3) := dk_160 0 11 (dk_at dksX3_look_2 13 rfl rfl)
theorem dX3_look_62 : decode cX3_look 62 = .ok (.aload_n 0, 1) := dk_42 (dk_at dksX3_look_2 16 rfl rfl)
theorem dX3_look_63 : decode cX3_look 63 = .ok (.iconst 0, 1) := dk_3 (dk_at dksX3_look_2 17 rfl rfl)
theorem dX3_look_64 : decode cX3_look 64 = .ok (.putfield 159, 3) := dk_181 0 159 (dk_at dksX3_look_2 18 rfl rfl)
theorem dX3_look_67 : decode cX3_look 67 = .ok (.goto 196, 3) := dk_167 0 196 (dk_at dksX3_look_2 21 rfl rfl)
theorem dX3_look_70 : decode cX3_look 70 = .ok (.aload_n 0, 1) := dk_42 (dk_at dksX3_look_3 0 rfl rfl)
theorem dX3_look_71 : decode cX3_look 71 = .ok (.getfield 31, 3) := dk_180 0 31 (dk_at dksX3_look_3 1 rfl rfl)
theorem dX3_look_74 : decode cX3_look 74 = .ok (.aload_n 0, 1) := dk_42 (dk_at dksX3_look_3 4 rfl rfl)
theorem dX3_look_75 : decode cX3_look 75 = .ok (.getfield 150, 3) := dk_180 0 150 (dk_at dksX3_look_3 5 rfl rfl)
theorem dX3_look_78 : decode cX3_look 78 = .ok (.iaload, 1) := dk_46 (dk_at dksX3_look_3 8 rfl rfl)
theorem dX3_look_79 : decode cX3_look 79 = .ok (.invokestatic 162, 3) := dk_184 0 162 (dk_at dksX3_look_3 9 rfl rfl)
theorem dX3_look_82 : decode cX3_look 82 = .ok (.ifCond .eq 47, 3) := dk_153 0 47 (dk_at dksX3_look_3 12 rfl rfl)
theorem dX3_look_85 : decode cX3_look 85 = .ok (.aload_n 0, 1) := dk_42 (dk_at dksX3_look_3 15 rfl rfl)
theorem dX3_look_86 : decode cX3_look 86 = .ok (.iconst 1, 1) := dk_4 (dk_at dksX3_look_3 16 rfl rfl)
theorem dX3_look_87 : decode cX3_look 87 = .ok (.putfield 159, 3) := dk_181 0 159 (dk_at dksX3_look_3 17 rfl rfl)
theorem dX3_look_90 : decode cX3_look 90 = .ok (.aload_n 0, 1) := dk_42 (dk_at dksX3_look_3 20 rfl rfl)
theorem dX3_look_91 : decode cX3_look 91 = .ok (.getfield 150, 3) := dk_180 0 150 (dk_at dksX3_look_3 21 rfl rfl)
theorem dX3_look_94 : decode cX3_look 94 = .ok (.aload_n 0, 1) := dk_42 (dk_at dksX3_look_4 0 rfl rfl)
theorem dX3_look_95 : decode cX3_look 95 = .ok (.getfield 147, 3) := dk_180 0 147 (dk_at dksX3_look_4 1 rfl rfl)
theorem dX3_look_98 : decode cX3_look 98 = .ok (.if_icmp .ge 165, 3) := dk_162 0 165 (dk_at dksX3_look_4 4 rfl rfl)
theorem dX3_look_101 : decode cX3_look 101 = .ok (.aload_n 0, 1) := dk_42 (dk_at dksX3_look_4 7 rfl rfl)
theorem dX3_look_102 : decode cX3_look 102 = .ok (.getfield 31, 3) := dk_180 0 31 (dk_at dksX3_look_4 8 rfl rfl)
theorem dX3_look_105 : decode cX3_look 105 = .ok (.aload_n 0, 1) := dk_42 (dk_at dksX3_look_4 11 rfl rfl)
theorem dX3_look_106 : decode cX3_look 106 = .ok (.getfield 150, 3) := dk_180 0 150 (dk_at dksX3_look_4 12 rfl rfl)
theorem dX3_look_109 : decode cX3_look 109 = .ok (.iaload, 1) := dk_46 (dk_at dksX3_look_4 15 rfl rfl)
theorem dX3_look_110 : decode cX3_look 110 = .ok (.invokestatic 162, 3) := dk_184 0 162 (dk_at dksX3_look_4 16 rfl rfl)
theorem dX3_look_113 : decode cX3_look 113 = .ok (.ifCond .eq 150, 3) := dk_153 0 150 (dk_at dksX3_look_4 19 rfl rfl)
theorem dX3_look_116 : decode cX3_look 116 = .ok (.aload_n 0, 1) := dk_42 (dk_at dksX3_look_4 22 rfl rfl)
theorem dX3_look_117 : decode cX3_look 117 = .ok (.dup, 1) := dk_89 (dk_at dksX3_look_4 23 rfl rfl)
theorem dX3_look_118 : decode cX3_look 118 = .ok (.getfield 150, 3) := dk_180 0 150 (dk_at dksX3_look_5 0 rfl rfl)
theorem dX3_look_121 : decode cX3_look 121 = .ok (.iconst 1, 1) := dk_4 (dk_at dksX3_look_5 3 rfl rfl)
theorem dX3_look_122 : decode cX3_look 122 = .ok (.iadd, 1) := dk_96 (dk_at dksX3_look_5 4 rfl rfl)
theorem dX3_look_123 : decode cX3_look 123 = .ok (.putfield 150, 3) := dk_181 0 150 (dk_at dksX3_look_5 5 rfl rfl)
theorem dX3_look_126 : decode cX3_look 126 = .ok (.goto (-36), 3) := dk_167 255 220 (dk_at dksX3_look_5 8 rfl rfl)
theorem dX3_look_129 : decode cX3_look 129 = .ok (.aload_n 0, 1) := dk_42 (dk_at dksX3_look_5 11 rfl rfl)
theorem dX3_look_130 : decode cX3_look 130 = .ok (.getfield 31, 3) := dk_180 0 31 (dk_at dksX3_look_5 12 rfl rfl)
theorem dX3_look_133 : decode cX3_look 133 = .ok (.aload_n 0, 1) := dk_42 (dk_at dksX3_look_5 15 rfl rfl)
theorem dX3_look_134 : decode cX3_look 134 = .ok (.getfield 150, 3) := dk_180 0 150 (dk_at dksX3_look_5 16 rfl rfl)
theorem dX3_look_137 : decode cX3_look 137 = .ok (.iaload, 1) := dk_46 (dk_at dksX3_look_5 19 rfl rfl)
theorem dX3_look_138 : decode cX3_look 138 = .ok (.invokestatic 165, 3) := dk_184 0 165 (dk_at dksX3_look_5 20 rfl rfl)
theorem dX3_look_141 : decode cX3_look 141 = .ok (.ifCond .eq 89, 3) := dk_153 0 89 (dk_at dksX3_look_6 0 rfl rfl)
theorem dX3_look_144 : decode cX3_look 144 = .ok (.aload_n 0, 1) := dk_42 (dk_at dksX3_look_6 3 rfl rfl)
theorem dX3_look_145 : decode cX3_look 145 = .ok (.iconst 2, 1) := dk_5 (dk_at dksX3_look_6 4 rfl rfl)
theorem dX3_look_146 : decode cX3_look 146 = .ok (.putfield 159, 3) := dk_181 0 159 (dk_at dksX3_look_6 5 rfl rfl)
theorem dX3_look_149 : decode cX3_look 149 = .ok (.aload_n 0, 1) := dk_42 (dk_at dksX3_look_6 8 rfl rfl)
theorem dX3_look_150 : decode cX3_look 150 = .ok (.getfield 150, 3) := dk_180 0 150 (dk_at dksX3_look_6 9 rfl rfl)
theorem dX3_look_153 : decode cX3_look 153 = .ok (.aload_n 0, 1) := dk_42 (dk_at dksX3_look_6 12 rfl rfl)
theorem dX3_look_154 : decode cX3_look 154 = .ok (.getfield 147, 3) := dk_180 0 147 (dk_at dksX3_look_6 13 rfl rfl)
theorem dX3_look_157 : decode cX3_look 157 = .ok (.if_icmp .ge 106, 3) := dk_162 0 106 (dk_at dksX3_look_6 16 rfl rfl)
theorem dX3_look_160 : decode cX3_look 160 = .ok (.aload_n 0, 1) := dk_42 (dk_at dksX3_look_6 19 rfl rfl)
theorem dX3_look_161 : decode cX3_look 161 = .ok (.getfield 31, 3) := dk_180 0 31 (dk_at dksX3_look_6 20 rfl rfl)
theorem dX3_look_164 : decode cX3_look 164 = .ok (.aload_n 0, 1) := dk_42 (dk_at dksX3_look_6 23 rfl rfl)
theorem dX3_look_165 : decode cX3_look 165 = .ok (.getfield 150, 3) := dk_180 0 150 (dk_at dksX3_look_7 0 rfl rfl)
theorem dX3_look_168 : decode cX3_look 168 = .ok (.iaload, 1) := dk_46 (dk_at dksX3_look_7 3 rfl rfl)
theorem dX3_look_169 : decode cX3_look 169 = .ok (.invokestatic 165, 3) := dk_184 0 165 (dk_at dksX3_look_7 4 rfl rfl)
theorem dX3_look_172 : decode cX3_look 172 = .ok (.ifCond .eq 91, 3) := dk_153 0 91 (dk_at dksX3_look_7 7 rfl rfl)
theorem dX3_look_175 : decode cX3_look 175 = .ok (.aload_n 0, 1) := dk_42 (dk_at dksX3_look_7 10 rfl rfl)
theorem dX3_look_176 : decode cX3_look 176 = .ok (.aload_n 0, 1) := dk_42 (dk_at dksX3_look_7 11 rfl rfl)
theorem dX3_look_177 : decode cX3_look 177 = .ok (.getfield 150, 3) := dk_180 0 150 (dk_at dksX3_look_7 12 rfl rfl)
theorem dX3_look_180 : decode cX3_look 180 = .ok (.aload_n 0, 1) := dk_42 (dk_at dksX3_look_7 15 rfl rfl)
theorem dX3_look_181 : decode cX3_look 181 = .ok (.getfield 153, 3) := dk_180 0 153 (dk_at dksX3_look_7 16 rfl rfl)
theorem dX3_look_184 : decode cX3_look 184 = .ok (.isub, 1) := dk_100 (dk_at dksX3_look_7 19 rfl rfl)
theorem dX3_look_185 : decode cX3_look 185 = .ok (.iconst 3, 1) := dk_6 (dk_at dksX3_look_7 20 rfl rfl)
theorem dX3_look_186 : decode cX3_look 186 = .ok (.if_icmp .ge 26, 3) := dk_162 0 26 (dk_at dksX3_look_7 21 rfl rfl)
theorem dX3_look_189 : decode cX3_look 189 = .ok (.aload_n 0, 1) := dk_42 (dk_at dksX3_look_8 0 rfl rfl)
theorem dX3_look_190 : decode cX3_look 190 = .ok (.getfield 156, 3) := dk_180 0 156 (dk_at dksX3_look_8 1 rfl rfl)
theorem dX3_look_193 : decode cX3_look 193 = .ok (.bipush 10, 2) := dk_16 10 (dk_at dksX3_look_8 4 rfl rfl)
theorem dX3_look_195 : decode cX3_look 195 = .ok (.imul, 1) := dk_104 (dk_at dksX3_look_8 6 rfl rfl)
theorem dX3_look_196 : decode cX3_look 196 = .ok (.aload_n 0, 1) := dk_42 (dk_at dksX3_look_8 7 rfl rfl)
theorem dX3_look_197 : decode cX3_look 197 = .ok (.getfield 31, 3) := dk_180 0 31 (dk_at dksX3_look_8 8 rfl rfl)
theorem dX3_look_200 : decode cX3_look 200 = .ok (.aload_n 0, 1) := dk_42 (dk_at dksX3_look_8 11 rfl rfl)
theorem dX3_look_201 : decode cX3_look 201 = .ok (.getfield 150, 3) := dk_180 0 150 (dk_at dksX3_look_8 12 rfl rfl)
theorem dX3_look_204 : decode cX3_look 204 = .ok (.iaload, 1) := dk_46 (dk_at dksX3_look_8 15 rfl rfl)
theorem dX3_look_205 : decode cX3_look 205 = .ok (.iadd, 1) := dk_96 (dk_at dksX3_look_8 16 rfl rfl)
theorem dX3_look_206 : decode cX3_look 206 = .ok (.bipush 48, 2) := dk_16 48 (dk_at dksX3_look_8 17 rfl rfl)
theorem dX3_look_208 : decode cX3_look 208 = .ok (.isub, 1) := dk_100 (dk_at dksX3_look_8 19 rfl rfl)
theorem dX3_look_209 : decode cX3_look 209 = .ok (.goto 5, 3) := dk_167 0 5 (dk_at dksX3_look_8 20 rfl rfl)
theorem dX3_look_212 : decode cX3_look 212 = .ok (.ldc 168, 2) := dk_18 168 (dk_at dksX3_look_9 0 rfl rfl)
theorem dX3_look_214 : decode cX3_look 214 = .ok (.putfield 156, 3) := dk_181 0 156 (dk_at dksX3_look_9 2 rfl rfl)
theorem dX3_look_217 : decode cX3_look 217 = .ok (.aload_n 0, 1) := dk_42 (dk_at dksX3_look_9 5 rfl rfl)
theorem dX3_look_218 : decode cX3_look 218 = .ok (.dup, 1) := dk_89 (dk_at dksX3_look_9 6 rfl rfl)
theorem dX3_look_219 : decode cX3_look 219 = .ok (.getfield 150, 3) := dk_180 0 150 (dk_at dksX3_look_9 7 rfl rfl)
theorem dX3_look_222 : decode cX3_look 222 = .ok (.iconst 1, 1) := dk_4 (dk_at dksX3_look_9 10 rfl rfl)
theorem dX3_look_223 : decode cX3_look 223 = .ok (.iadd, 1) := dk_96 (dk_at dksX3_look_9 11 rfl rfl)
theorem dX3_look_224 : decode cX3_look 224 = .ok (.putfield 150, 3) := dk_181 0 150 (dk_at dksX3_look_9 12 rfl rfl)
theorem dX3_look_227 : decode cX3_look 227 = .ok (.goto (-78), 3) := dk_167 255 178 (dk_at dksX3_look_9 15 rfl rfl)
theorem dX3_look_230 : decode cX3_look 230 = .ok (.aload_n 0, 1) := dk_42 (dk_at dksX3_look_9 18 rfl rfl)
theorem dX3_look_231 : decode cX3_look 231 = .ok (.aload_n 0, 1) := dk_42 (dk_at dksX3_look_9 19 rfl rfl)
theorem dX3_look_232 : decode cX3_look 232 = .ok (.getfield 31, 3) := dk_180 0 31 (dk_at dksX3_look_9 20 rfl rfl)
theorem dX3_look_235 : decode cX3_look 235 = .ok (.aload_n 0, 1) := dk_42 (dk_at dksX3_look_9 23 rfl rfl)
theorem dX3_look_236 : decode cX3_look 236 = .ok (.getfield 150, 3) := dk_180 0 150 (dk_at dksX3_look_10 0 rfl rfl)
theorem dX3_look_239 : decode cX3_look 239 = .ok (.iaload, 1) := dk_46 (dk_at dksX3_look_10 3 rfl rfl)
theorem dX3_look_240 : decode cX3_look 240 = .ok (.bipush 59, 2) := dk_16 59 (dk_at dksX3_look_10 4 rfl rfl)
theorem dX3_look_242 : decode cX3_look 242 = .ok (.if_icmp .ne 7, 3) := dk_160 0 7 (dk_at dksX3_look_10 6 rfl rfl)
theorem dX3_look_245 : decode cX3_look 245 = .ok (.iconst 3, 1) := dk_6 (dk_at dksX3_look_10 9 rfl rfl)
theorem dX3_look_246 : decode cX3_look 246 = .ok (.goto 4, 3) := dk_167 0 4 (dk_at dksX3_look_10 10 rfl rfl)
theorem dX3_look_249 : decode cX3_look 249 = .ok (.iconst 4, 1) := dk_7 (dk_at dksX3_look_10 13 rfl rfl)
theorem dX3_look_250 : decode cX3_look 250 = .ok (.putfield 159, 3) := dk_181 0 159 (dk_at dksX3_look_10 14 rfl rfl)
theorem dX3_look_253 : decode cX3_look 253 = .ok (.aload_n 0, 1) := dk_42 (dk_at dksX3_look_10 17 rfl rfl)
theorem dX3_look_254 : decode cX3_look 254 = .ok (.dup, 1) := dk_89 (dk_at dksX3_look_10 18 rfl rfl)
theorem dX3_look_255 : decode cX3_look 255 = .ok (.getfield 150, 3) := dk_180 0 150 (dk_at dksX3_look_10 19 rfl rfl)
theorem dX3_look_258 : decode cX3_look 258 = .ok (.iconst 1, 1) := dk_4 (dk_at dksX3_look_10 22 rfl rfl)
theorem dX3_look_259 : decode cX3_look 259 = .ok (.iadd, 1) := dk_96 (dk_at dksX3_look_10 23 rfl rfl)
theorem dX3_look_260 : decode cX3_look 260 = .ok (.putfield 150, 3) := dk_181 0 150 (dk_at dksX3_look_11 0 rfl rfl)
theorem dX3_look_263 : decode cX3_look 263 = .ok (.return_, 1) := dk_177 (dk_at dksX3_look_11 3 rfl rfl)
abbrev cX3_isLetter : ByteArray := prog_16_method_32_code
def yX3_isLetter : MethodName := ⟨RX3, "isLetter", "(I)Z"⟩
def dkwX3_isLetter_0 : List UInt8 := [26, 16, 97, 161, 0, 13, 26, 16, 122, 163, 0, 7, 4, 167, 0, 4, 3, 172]
abbrev dktX3_isLetter_0 : List UInt8 := dkwX3_isLetter_0 ++ []
theorem dksX3_isLetter_0 : cX3_isLetter.data.toList.drop 0 = dktX3_isLetter_0 := by decide +kernel
theorem dX3_isLetter_0 : decode cX3_isLetter 0 = .ok (.iload_n 0, 1) := dk_26 (dk_at dksX3_isLetter_0 0 rfl rfl)
theorem dX3_isLetter_1 : decode cX3_isLetter 1 = .ok (.bipush 97, 2) := dk_16 97 (dk_at dksX3_isLetter_0 1 rfl rfl)
theorem dX3_isLetter_3 : decode cX3_isLetter 3 = .ok (.if_icmp .lt 13, 3) := dk_161 0 13 (dk_at dksX3_isLetter_0 3 rfl rfl)
theorem dX3_isLetter_6 : decode cX3_isLetter 6 = .ok (.iload_n 0, 1) := dk_26 (dk_at dksX3_isLetter_0 6 rfl rfl)
theorem dX3_isLetter_7 : decode cX3_isLetter 7 = .ok (.bipush 122, 2) := dk_16 122 (dk_at dksX3_isLetter_0 7 rfl rfl)
theorem dX3_isLetter_9 : decode cX3_isLetter 9 = .ok (.if_icmp .gt 7, 3) := dk_163 0 7 (dk_at dksX3_isLetter_0 9 rfl rfl)
theorem dX3_isLetter_12 : decode cX3_isLetter 12 = .ok (.iconst 1, 1) := dk_4 (dk_at dksX3_isLetter_0 12 rfl rfl)
theorem dX3_isLetter_13 : decode cX3_isLetter 13 = .ok (.goto 4, 3) := dk_167 0 4 (dk_at dksX3_isLetter_0 13 rfl rfl)
theorem dX3_isLetter_16 : decode cX3_isLetter 16 = .ok (.iconst 0, 1) := dk_3 (dk_at dksX3_isLetter_0 16 rfl rfl)
theorem dX3_isLetter_17 : decode cX3_isLetter 17 = .ok (.ireturn, 1) := dk_172 (dk_at dksX3_isLetter_0 17 rfl rfl)
abbrev cX3_isDigit : ByteArray := prog_16_method_33_code
def yX3_isDigit : MethodName := ⟨RX3, "isDigit", "(I)Z"⟩
def dkwX3_isDigit_0 : List UInt8 := [26, 16, 48, 161, 0, 13, 26, 16, 57, 163, 0, 7, 4, 167, 0, 4, 3, 172]
abbrev dktX3_isDigit_0 : List UInt8 := dkwX3_isDigit_0 ++ []
theorem dksX3_isDigit_0 : cX3_isDigit.data.toList.drop 0 = dktX3_isDigit_0 := by decide +kernel
theorem dX3_isDigit_0 : decode cX3_isDigit 0 = .ok (.iload_n 0, 1) := dk_26 (dk_at dksX3_isDigit_0 0 rfl rfl)
theorem dX3_isDigit_1 : decode cX3_isDigit 1 = .ok (.bipush 48, 2) := dk_16 48 (dk_at dksX3_isDigit_0 1 rfl rfl)
theorem dX3_isDigit_3 : decode cX3_isDigit 3 = .ok (.if_icmp .lt 13, 3) := dk_161 0 13 (dk_at dksX3_isDigit_0 3 rfl rfl)
theorem dX3_isDigit_6 : decode cX3_isDigit 6 = .ok (.iload_n 0, 1) := dk_26 (dk_at dksX3_isDigit_0 6 rfl rfl)
theorem dX3_isDigit_7 : decode cX3_isDigit 7 = .ok (.bipush 57, 2) := dk_16 57 (dk_at dksX3_isDigit_0 7 rfl rfl)
theorem dX3_isDigit_9 : decode cX3_isDigit 9 = .ok (.if_icmp .gt 7, 3) := dk_163 0 7 (dk_at dksX3_isDigit_0 9 rfl rfl)
theorem dX3_isDigit_12 : decode cX3_isDigit 12 = .ok (.iconst 1, 1) := dk_4 (dk_at dksX3_isDigit_0 12 rfl rfl)
theorem dX3_isDigit_13 : decode cX3_isDigit 13 = .ok (.goto 4, 3) := dk_167 0 4 (dk_at dksX3_isDigit_0 13 rfl rfl)
theorem dX3_isDigit_16 : decode cX3_isDigit 16 = .ok (.iconst 0, 1) := dk_3 (dk_at dksX3_isDigit_0 16 rfl rfl)
theorem dX3_isDigit_17 : decode cX3_isDigit 17 = .ok (.ireturn, 1) := dk_172 (dk_at dksX3_isDigit_0 17 rfl rfl)
abbrev cX3_statement : ByteArray := prog_16_method_42_code
def yX3_statement : MethodName := ⟨RX3, "statement", "()Z"⟩
def dkwX3_statement_7 : List UInt8 := [172]
abbrev dktX3_statement_7 : List UInt8 := dkwX3_statement_7 ++ []
def dkwX3_statement_6 : List UInt8 := [172, 42, 3, 16, 99, 182, 0, 193, 154, 0, 5, 3, 172, 42, 42, 180, 0, 49, 3, 46, 181, 0, 132, 4]
abbrev dktX3_statement_6 : List UInt8 := dkwX3_statement_6 ++ dktX3_statement_7
def dkwX3_statement_5 : List UInt8 := [182, 0, 198, 153, 0, 8, 42, 182, 0, 217, 172, 42, 18, 220, 182, 0, 198, 154, 0, 8, 42, 182, 0, 182]
abbrev dktX3_statement_5 : List UInt8 := dkwX3_statement_5 ++ dktX3_statement_6
def dkwX3_statement_4 : List UInt8 := [182, 0, 207, 87, 4, 172, 42, 18, 210, 182, 0, 198, 153, 0, 8, 42, 182, 0, 212, 172, 42, 18, 215]
abbrev dktX3_statement_4 : List UInt8 := dkwX3_statement_4 ++ dktX3_statement_5
def dkwX3_statement_3 : List UInt8 := [154, 0, 5, 3, 172, 42, 42, 180, 0, 49, 3, 46, 42, 180, 0, 49, 4, 46, 42, 180, 0, 49, 5, 46]
abbrev dktX3_statement_3 : List UInt8 := dkwX3_statement_3 ++ dktX3_statement_4
def dkwX3_statement_2 : List UInt8 := [153, 0, 25, 42, 4, 4, 16, 30, 182, 0, 189, 153, 0, 14, 42, 5, 3, 16, 99, 182, 0, 189]
abbrev dktX3_statement_2 : List UInt8 := dkwX3_statement_2 ++ dktX3_statement_3
def dkwX3_statement_1 : List UInt8 := [18, 206, 182, 0, 198, 153, 0, 70, 42, 180, 0, 80, 16, 6, 162, 0, 61, 42, 3, 8, 182, 0, 193]
abbrev dktX3_statement_1 : List UInt8 := dkwX3_statement_1 ++ dktX3_statement_2
def dkwX3_statement_0 : List UInt8 := [42, 18, 202, 182, 0, 198, 153, 0, 17, 42, 180, 0, 73, 16, 6, 162, 0, 8, 42, 182, 0, 203, 172, 42]
abbrev dktX3_statement_0 : List UInt8 := dkwX3_statement_0 ++ dktX3_statement_1
theorem dksX3_statement_0 : cX3_statement.data.toList.drop 0 = dktX3_statement_0 := by decide +kernel
theorem dksX3_statement_1 : cX3_statement.data.toList.drop 24 = dktX3_statement_1 := dk_seg dksX3_statement_0 24 rfl rfl
theorem dksX3_statement_2 : cX3_statement.data.toList.drop 47 = dktX3_statement_2 := dk_seg dksX3_statement_1 23 rfl rfl
theorem dksX3_statement_3 : cX3_statement.data.toList.drop 69 = dktX3_statement_3 := dk_seg dksX3_statement_2 22 rfl rfl
theorem dksX3_statement_4 : cX3_statement.data.toList.drop 93 = dktX3_statement_4 := dk_seg dksX3_statement_3 24 rfl rfl
theorem dksX3_statement_5 : cX3_statement.data.toList.drop 116 = dktX3_statement_5 := dk_seg dksX3_statement_4 23 rfl rfl
theorem dksX3_statement_6 : cX3_statement.data.toList.drop 140 = dktX3_statement_6 := dk_seg dksX3_statement_5 24 rfl rfl
theorem dksX3_statement_7 : cX3_statement.data.toList.drop 164 = dktX3_statement_7 := dk_seg dksX3_statement_6 24 rfl rfl
theorem dX3_statement_0 : decode cX3_statement 0 = .ok (.aload_n 0, 1) := dk_42 (dk_at dksX3_statement_0 0 rfl rfl)
theorem dX3_statement_1 : decode cX3_statement 1 = .ok (.ldc 202, 2) := dk_18 202 (dk_at dksX3_statement_0 1 rfl rfl)
theorem dX3_statement_3 : decode cX3_statement 3 = .ok (.invokevirtual 198, 3) := dk_182 0 198 (dk_at dksX3_statement_0 3 rfl rfl)
theorem dX3_statement_6 : decode cX3_statement 6 = .ok (.ifCond .eq 17, 3) := dk_153 0 17 (dk_at dksX3_statement_0 6 rfl rfl)
theorem dX3_statement_9 : decode cX3_statement 9 = .ok (.aload_n 0, 1) := dk_42 (dk_at dksX3_statement_0 9 rfl rfl)
theorem dX3_statement_10 : decode cX3_statement 10 = .ok (.getfield 73, 3) := dk_180 0 73 (dk_at dksX3_statement_0 10 rfl rfl)
theorem dX3_statement_13 : decode cX3_statement 13 = .ok (.bipush 6, 2) := dk_16 6 (dk_at dksX3_statement_0 13 rfl rfl)
theorem dX3_statement_15 : decode cX3_statement 15 = .ok (.if_icmp .ge 8, 3) := dk_162 0 8 (dk_at dksX3_statement_0 15 rfl rfl)
theorem dX3_statement_18 : decode cX3_statement 18 = .ok (.aload_n 0, 1) := dk_42 (dk_at dksX3_statement_0 18 rfl rfl)
theorem dX3_statement_19 : decode cX3_statement 19 = .ok (.invokevirtual 203, 3) := dk_182 0 203 (dk_at dksX3_statement_0 19 rfl rfl)
theorem dX3_statement_22 : decode cX3_statement 22 = .ok (.ireturn, 1) := dk_172 (dk_at dksX3_statement_0 22 rfl rfl)
theorem dX3_statement_23 : decode cX3_statement 23 = .ok (.aload_n 0, 1) := dk_42 (dk_at dksX3_statement_0 23 rfl rfl)
theorem dX3_statement_24 : decode cX3_statement 24 = .ok (.ldc 206, 2) := dk_18 206 (dk_at dksX3_statement_1 0 rfl rfl)
theorem dX3_statement_26 : decode cX3_statement 26 = .ok (.invokevirtual 198, 3) := dk_182 0 198 (dk_at dksX3_statement_1 2 rfl rfl)
theorem dX3_statement_29 : decode cX3_statement 29 = .ok (.ifCond .eq 70, 3) := dk_153 0 70 (dk_at dksX3_statement_1 5 rfl rfl)
theorem dX3_statement_32 : decode cX3_statement 32 = .ok (.aload_n 0, 1) := dk_42 (dk_at dksX3_statement_1 8 rfl rfl)
theorem dX3_statement_33 : decode cX3_statement 33 = .ok (.getfield 80, 3) := dk_180 0 80 (dk_at dksX3_statement_1 9 rfl rfl)
theorem dX3_statement_36 : decode cX3_statement 36 = .ok (.bipush 6, 2) := dk_16 6 (dk_at dksX3_statement_1 12 rfl rfl)
theorem dX3_statement_38 : decode cX3_statement 38 = .ok (.if_icmp .ge 61, 3) := dk_162 0 61 (dk_at dksX3_statement_1 14 rfl rfl)
theorem dX3_statement_41 : decode cX3_statement 41 = .ok (.aload_n 0, 1) := dk_42 (dk_at dksX3_statement_1 17 rfl rfl)
theorem dX3_statement_42 : decode cX3_statement 42 = .ok (.iconst 0, 1) := dk_3 (dk_at dksX3_statement_1 18 rfl rfl)
theorem dX3_statement_43 : decode cX3_statement 43 = .ok (.iconst 5, 1) := dk_8 (dk_at dksX3_statement_1 19 rfl rfl)
theorem dX3_statement_44 : decode cX3_statement 44 = .ok (.invokevirtual 193, 3) := dk_182 0 193 (dk_at dksX3_statement_1 20 rfl rfl)
theorem dX3_statement_47 : decode cX3_statement 47 = .ok (.ifCond .eq 25, 3) := dk_153 0 25 (dk_at dksX3_statement_2 0 rfl rfl)
theorem dX3_statement_50 : decode cX3_statement 50 = .ok (.aload_n 0, 1) := dk_42 (dk_at dksX3_statement_2 3 rfl rfl)
theorem dX3_statement_51 : decode cX3_statement 51 = .ok (.iconst 1, 1) := dk_4 (dk_at dksX3_statement_2 4 rfl rfl)
theorem dX3_statement_52 : decode cX3_statement 52 = .ok (.iconst 1, 1) := dk_4 (dk_at dksX3_statement_2 5 rfl rfl)
theorem dX3_statement_53 : decode cX3_statement 53 = .ok (.bipush 30, 2) := dk_16 30 (dk_at dksX3_statement_2 6 rfl rfl)
theorem dX3_statement_55 : decode cX3_statement 55 = .ok (.invokevirtual 189, 3) := dk_182 0 189 (dk_at dksX3_statement_2 8 rfl rfl)
theorem dX3_statement_58 : decode cX3_statement 58 = .ok (.ifCond .eq 14, 3) := dk_153 0 14 (dk_at dksX3_statement_2 11 rfl rfl)
theorem dX3_statement_61 : decode cX3_statement 61 = .ok (.aload_n 0, 1) := dk_42 (dk_at dksX3_statement_2 14 rfl rfl)
theorem dX3_statement_62 : decode cX3_statement 62 = .ok (.iconst 2, 1) := dk_5 (dk_at dksX3_statement_2 15 rfl rfl)
theorem dX3_statement_63 : decode cX3_statement 63 = .ok (.iconst 0, 1) := dk_3 (dk_at dksX3_statement_2 16 rfl rfl)
theorem dX3_statement_64 : decode cX3_statement 64 = .ok (.bipush 99, 2) := dk_16 99 (dk_at dksX3_statement_2 17 rfl rfl)
theorem dX3_statement_66 : decode cX3_statement 66 = .ok (.invokevirtual 189, 3) := dk_182 0 189 (dk_at dksX3_statement_2 19 rfl rfl)
theorem dX3_statement_69 : decode cX3_statement 69 = .ok (.ifCond .ne 5, 3) := dk_154 0 5 (dk_at dksX3_statement_3 0 rfl rfl)
theorem dX3_statement_72 : decode cX3_statement 72 = .ok (.iconst 0, 1) := dk_3 (dk_at dksX3_statement_3 3 rfl rfl)
theorem dX3_statement_73 : decode cX3_statement 73 = .ok (.ireturn, 1) := dk_172 (dk_at dksX3_statement_3 4 rfl rfl)
theorem dX3_statement_74 : decode cX3_statement 74 = .ok (.aload_n 0, 1) := dk_42 (dk_at dksX3_statement_3 5 rfl rfl)
theorem dX3_statement_75 : decode cX3_statement 75 = .ok (.aload_n 0, 1) := dk_42 (dk_at dksX3_statement_3 6 rfl rfl)
theorem dX3_statement_76 : decode cX3_statement 76 = .ok (.getfield 49, 3) := dk_180 0 49 (dk_at dksX3_statement_3 7 rfl rfl)
theorem dX3_statement_79 : decode cX3_statement 79 = .ok (.iconst 0, 1) := dk_3 (dk_at dksX3_statement_3 10 rfl rfl)
theorem dX3_statement_80 : decode cX3_statement 80 = .ok (.iaload, 1) := dk_46 (dk_at dksX3_statement_3 11 rfl rfl)
theorem dX3_statement_81 : decode cX3_statement 81 = .ok (.aload_n 0, 1) := dk_42 (dk_at dksX3_statement_3 12 rfl rfl)
theorem dX3_statement_82 : decode cX3_statement 82 = .ok (.getfield 49, 3) := dk_180 0 49 (dk_at dksX3_statement_3 13 rfl rfl)
theorem dX3_statement_85 : decode cX3_statement 85 = .ok (.iconst 1, 1) := dk_4 (dk_at dksX3_statement_3 16 rfl rfl)
theorem dX3_statement_86 : decode cX3_statement 86 = .ok (.iaload, 1) := dk_46 (dk_at dksX3_statement_3 17 rfl rfl)
theorem dX3_statement_87 : decode cX3_statement 87 = .ok (.aload_n 0, 1) := dk_42 (dk_at dksX3_statement_3 18 rfl rfl)
theorem dX3_statement_88 : decode cX3_statement 88 = .ok (.getfield 49, 3) := dk_180 0 49 (dk_at dksX3_statement_3 19 rfl rfl)
theorem dX3_statement_91 : decode cX3_statement 91 = .ok (.iconst 2, 1) := dk_5 (dk_at dksX3_statement_3 22 rfl rfl)
theorem dX3_statement_92 : decode cX3_statement 92 = .ok (.iaload, 1) := dk_46 (dk_at dksX3_statement_3 23 rfl rfl)
theorem dX3_statement_93 : decode cX3_statement 93 = .ok (.invokevirtual 207, 3) := dk_182 0 207 (dk_at dksX3_statement_4 0 rfl rfl)
theorem dX3_statement_96 : decode cX3_statement 96 = .ok (.pop, 1) := dk_87 (dk_at dksX3_statement_4 3 rfl rfl)
theorem dX3_statement_97 : decode cX3_statement 97 = .ok (.iconst 1, 1) := dk_4 (dk_at dksX3_statement_4 4 rfl rfl)
theorem dX3_statement_98 : decode cX3_statement 98 = .ok (.ireturn, 1) := dk_172 (dk_at dksX3_statement_4 5 rfl rfl)
theorem dX3_statement_99 : decode cX3_statement 99 = .ok (.aload_n 0, 1) := dk_42 (dk_at dksX3_statement_4 6 rfl rfl)
theorem dX3_statement_100 : decode cX3_statement 100 = .ok (.ldc 210, 2) := dk_18 210 (dk_at dksX3_statement_4 7 rfl rfl)
theorem dX3_statement_102 : decode cX3_statement 102 = .ok (.invokevirtual 198, 3) := dk_182 0 198 (dk_at dksX3_statement_4 9 rfl rfl)
theorem dX3_statement_105 : decode cX3_statement 105 = .ok (.ifCond .eq 8, 3) := dk_153 0 8 (dk_at dksX3_statement_4 12 rfl rfl)
theorem dX3_statement_108 : decode cX3_statement 108 = .ok (.aload_n 0, 1) := dk_42 (dk_at dksX3_statement_4 15 rfl rfl)
theorem dX3_statement_109 : decode cX3_statement 109 = .ok (.invokevirtual 212, 3) := dk_182 0 212 (dk_at dksX3_statement_4 16 rfl rfl)
theorem dX3_statement_112 : decode cX3_statement 112 = .ok (.ireturn, 1) := dk_172 (dk_at dksX3_statement_4 19 rfl rfl)
theorem dX3_statement_113 : decode cX3_statement 113 = .ok (.aload_n 0, 1) := dk_42 (dk_at dksX3_statement_4 20 rfl rfl)
theorem dX3_statement_114 : decode cX3_statement 114 = .ok (.ldc 215, 2) := dk_18 215 (dk_at dksX3_statement_4 21 rfl rfl)
theorem dX3_statement_116 : decode cX3_statement 116 = .ok (.invokevirtual 198, 3) := dk_182 0 198 (dk_at dksX3_statement_5 0 rfl rfl)
theorem dX3_statement_119 : decode cX3_statement 119 = .ok (.ifCond .eq 8, 3) := dk_153 0 8 (dk_at dksX3_statement_5 3 rfl rfl)
theorem dX3_statement_122 : decode cX3_statement 122 = .ok (.aload_n 0, 1) := dk_42 (dk_at dksX3_statement_5 6 rfl rfl)
theorem dX3_statement_123 : decode cX3_statement 123 = .ok (.invokevirtual 217, 3) := dk_182 0 217 (dk_at dksX3_statement_5 7 rfl rfl)
theorem dX3_statement_126 : decode cX3_statement 126 = .ok (.ireturn, 1) := dk_172 (dk_at dksX3_statement_5 10 rfl rfl)
theorem dX3_statement_127 : decode cX3_statement 127 = .ok (.aload_n 0, 1) := dk_42 (dk_at dksX3_statement_5 11 rfl rfl)
theorem dX3_statement_128 : decode cX3_statement 128 = .ok (.ldc 220, 2) := dk_18 220 (dk_at dksX3_statement_5 12 rfl rfl)
theorem dX3_statement_130 : decode cX3_statement 130 = .ok (.invokevirtual 198, 3) := dk_182 0 198 (dk_at dksX3_statement_5 14 rfl rfl)
theorem dX3_statement_133 : decode cX3_statement 133 = .ok (.ifCond .ne 8, 3) := dk_154 0 8 (dk_at dksX3_statement_5 17 rfl rfl)
theorem dX3_statement_136 : decode cX3_statement 136 = .ok (.aload_n 0, 1) := dk_42 (dk_at dksX3_statement_5 20 rfl rfl)
theorem dX3_statement_137 : decode cX3_statement 137 = .ok (.invokevirtual 182, 3) := dk_182 0 182 (dk_at dksX3_statement_5 21 rfl rfl)
theorem dX3_statement_140 : decode cX3_statement 140 = .ok (.ireturn, 1) := dk_172 (dk_at dksX3_statement_6 0 rfl rfl)
theorem dX3_statement_141 : decode cX3_statement 141 = .ok (.aload_n 0, 1) := dk_42 (dk_at dksX3_statement_6 1 rfl rfl)
theorem dX3_statement_142 : decode cX3_statement 142 = .ok (.iconst 0, 1) := dk_3 (dk_at dksX3_statement_6 2 rfl rfl)
theorem dX3_statement_143 : decode cX3_statement 143 = .ok (.bipush 99, 2) := dk_16 99 (dk_at dksX3_statement_6 3 rfl rfl)
theorem dX3_statement_145 : decode cX3_statement 145 = .ok (.invokevirtual 193, 3) := dk_182 0 193 (dk_at dksX3_statement_6 5 rfl rfl)
theorem dX3_statement_148 : decode cX3_statement 148 = .ok (.ifCond .ne 5, 3) := dk_154 0 5 (dk_at dksX3_statement_6 8 rfl rfl)
theorem dX3_statement_151 : decode cX3_statement 151 = .ok (.iconst 0, 1) := dk_3 (dk_at dksX3_statement_6 11 rfl rfl)
theorem dX3_statement_152 : decode cX3_statement 152 = .ok (.ireturn, 1) := dk_172 (dk_at dksX3_statement_6 12 rfl rfl)
theorem dX3_statement_153 : decode cX3_statement 153 = .ok (.aload_n 0, 1) := dk_42 (dk_at dksX3_statement_6 13 rfl rfl)
theorem dX3_statement_154 : decode cX3_statement 154 = .ok (.aload_n 0, 1) := dk_42 (dk_at dksX3_statement_6 14 rfl rfl)
theorem dX3_statement_155 : decode cX3_statement 155 = .ok (.getfield 49, 3) := dk_180 0 49 (dk_at dksX3_statement_6 15 rfl rfl)
theorem dX3_statement_158 : decode cX3_statement 158 = .ok (.iconst 0, 1) := dk_3 (dk_at dksX3_statement_6 18 rfl rfl)
theorem dX3_statement_159 : decode cX3_statement 159 = .ok (.iaload, 1) := dk_46 (dk_at dksX3_statement_6 19 rfl rfl)
theorem dX3_statement_160 : decode cX3_statement 160 = .ok (.putfield 132, 3) := dk_181 0 132 (dk_at dksX3_statement_6 20 rfl rfl)
theorem dX3_statement_163 : decode cX3_statement 163 = .ok (.iconst 1, 1) := dk_4 (dk_at dksX3_statement_6 23 rfl rfl)
theorem dX3_statement_164 : decode cX3_statement 164 = .ok (.ireturn, 1) := dk_172 (dk_at dksX3_statement_7 0 rfl rfl)
abbrev cX3_isWord : ByteArray := prog_16_method_36_code
def yX3_isWord : MethodName := ⟨RX3, "isWord", "(Ljava/lang/String;)Z"⟩
def dkwX3_isWord_2 : List UInt8 := [28, 182, 0, 178, 159, 0, 5, 3, 172, 132, 2, 1, 167, 255, 224, 4, 172]
abbrev dktX3_isWord_2 : List UInt8 := dkwX3_isWord_2 ++ []
def dkwX3_isWord_1 : List UInt8 := [3, 172, 3, 61, 28, 43, 182, 0, 172, 162, 0, 30, 42, 180, 0, 31, 42, 180, 0, 153, 28, 96, 46, 43]
abbrev dktX3_isWord_1 : List UInt8 := dkwX3_isWord_1 ++ dktX3_isWord_2
def dkwX3_isWord_0 : List UInt8 := [42, 180, 0, 159, 4, 160, 0, 19, 42, 180, 0, 150, 42, 180, 0, 153, 100, 43, 182, 0, 172, 159, 0, 5]
abbrev dktX3_isWord_0 : List UInt8 := dkwX3_isWord_0 ++ dktX3_isWord_1
theorem dksX3_isWord_0 : cX3_isWord.data.toList.drop 0 = dktX3_isWord_0 := by decide +kernel
theorem dksX3_isWord_1 : cX3_isWord.data.toList.drop 24 = dktX3_isWord_1 := dk_seg dksX3_isWord_0 24 rfl rfl
theorem dksX3_isWord_2 : cX3_isWord.data.toList.drop 48 = dktX3_isWord_2 := dk_seg dksX3_isWord_1 24 rfl rfl
theorem dX3_isWord_0 : decode cX3_isWord 0 = .ok (.aload_n 0, 1) := dk_42 (dk_at dksX3_isWord_0 0 rfl rfl)
theorem dX3_isWord_1 : decode cX3_isWord 1 = .ok (.getfield 159, 3) := dk_180 0 159 (dk_at dksX3_isWord_0 1 rfl rfl)
theorem dX3_isWord_4 : decode cX3_isWord 4 = .ok (.iconst 1, 1) := dk_4 (dk_at dksX3_isWord_0 4 rfl rfl)
theorem dX3_isWord_5 : decode cX3_isWord 5 = .ok (.if_icmp .ne 19, 3) := dk_160 0 19 (dk_at dksX3_isWord_0 5 rfl rfl)
theorem dX3_isWord_8 : decode cX3_isWord 8 = .ok (.aload_n 0, 1) := dk_42 (dk_at dksX3_isWord_0 8 rfl rfl)
theorem dX3_isWord_9 : decode cX3_isWord 9 = .ok (.getfield 150, 3) := dk_180 0 150 (dk_at dksX3_isWord_0 9 rfl rfl)
theorem dX3_isWord_12 : decode cX3_isWord 12 = .ok (.aload_n 0, 1) := dk_42 (dk_at dksX3_isWord_0 12 rfl rfl)
theorem dX3_isWord_13 : decode cX3_isWord 13 = .ok (.getfield 153, 3) := dk_180 0 153 (dk_at dksX3_isWord_0 13 rfl rfl)
theorem dX3_isWord_16 : decode cX3_isWord 16 = .ok (.isub, 1) := dk_100 (dk_at dksX3_isWord_0 16 rfl rfl)
theorem dX3_isWord_17 : decode cX3_isWord 17 = .ok (.aload_n 1, 1) := dk_43 (dk_at dksX3_isWord_0 17 rfl rfl)
theorem dX3_isWord_18 : decode cX3_isWord 18 = .ok (.invokevirtual 172, 3) := dk_182 0 172 (dk_at dksX3_isWord_0 18 rfl rfl)
theorem dX3_isWord_21 : decode cX3_isWord 21 = .ok (.if_icmp .eq 5, 3) := dk_159 0 5 (dk_at dksX3_isWord_0 21 rfl rfl)
theorem dX3_isWord_24 : decode cX3_isWord 24 = .ok (.iconst 0, 1) := dk_3 (dk_at dksX3_isWord_1 0 rfl rfl)
theorem dX3_isWord_25 : decode cX3_isWord 25 = .ok (.ireturn, 1) := dk_172 (dk_at dksX3_isWord_1 1 rfl rfl)
theorem dX3_isWord_26 : decode cX3_isWord 26 = .ok (.iconst 0, 1) := dk_3 (dk_at dksX3_isWord_1 2 rfl rfl)
theorem dX3_isWord_27 : decode cX3_isWord 27 = .ok (.istore_n 2, 1) := dk_61 (dk_at dksX3_isWord_1 3 rfl rfl)
theorem dX3_isWord_28 : decode cX3_isWord 28 = .ok (.iload_n 2, 1) := dk_28 (dk_at dksX3_isWord_1 4 rfl rfl)
theorem dX3_isWord_29 : decode cX3_isWord 29 = .ok (.aload_n 1, 1) := dk_43 (dk_at dksX3_isWord_1 5 rfl rfl)
theorem dX3_isWord_30 : decode cX3_isWord 30 = .ok (.invokevirtual 172, 3) := dk_182 0 172 (dk_at dksX3_isWord_1 6 rfl rfl)
theorem dX3_isWord_33 : decode cX3_isWord 33 = .ok (.if_icmp .ge 30, 3) := dk_162 0 30 (dk_at dksX3_isWord_1 9 rfl rfl)
theorem dX3_isWord_36 : decode cX3_isWord 36 = .ok (.aload_n 0, 1) := dk_42 (dk_at dksX3_isWord_1 12 rfl rfl)
theorem dX3_isWord_37 : decode cX3_isWord 37 = .ok (.getfield 31, 3) := dk_180 0 31 (dk_at dksX3_isWord_1 13 rfl rfl)
theorem dX3_isWord_40 : decode cX3_isWord 40 = .ok (.aload_n 0, 1) := dk_42 (dk_at dksX3_isWord_1 16 rfl rfl)
theorem dX3_isWord_41 : decode cX3_isWord 41 = .ok (.getfield 153, 3) := dk_180 0 153 (dk_at dksX3_isWord_1 17 rfl rfl)
theorem dX3_isWord_44 : decode cX3_isWord 44 = .ok (.iload_n 2, 1) := dk_28 (dk_at dksX3_isWord_1 20 rfl rfl)
theorem dX3_isWord_45 : decode cX3_isWord 45 = .ok (.iadd, 1) := dk_96 (dk_at dksX3_isWord_1 21 rfl rfl)
theorem dX3_isWord_46 : decode cX3_isWord 46 = .ok (.iaload, 1) := dk_46 (dk_at dksX3_isWord_1 22 rfl rfl)
theorem dX3_isWord_47 : decode cX3_isWord 47 = .ok (.aload_n 1, 1) := dk_43 (dk_at dksX3_isWord_1 23 rfl rfl)
theorem dX3_isWord_48 : decode cX3_isWord 48 = .ok (.iload_n 2, 1) := dk_28 (dk_at dksX3_isWord_2 0 rfl rfl)
theorem dX3_isWord_49 : decode cX3_isWord 49 = .ok (.invokevirtual 178, 3) := dk_182 0 178 (dk_at dksX3_isWord_2 1 rfl rfl)
theorem dX3_isWord_52 : decode cX3_isWord 52 = .ok (.if_icmp .eq 5, 3) := dk_159 0 5 (dk_at dksX3_isWord_2 4 rfl rfl)
theorem dX3_isWord_55 : decode cX3_isWord 55 = .ok (.iconst 0, 1) := dk_3 (dk_at dksX3_isWord_2 7 rfl rfl)
theorem dX3_isWord_56 : decode cX3_isWord 56 = .ok (.ireturn, 1) := dk_172 (dk_at dksX3_isWord_2 8 rfl rfl)
theorem dX3_isWord_57 : decode cX3_isWord 57 = .ok (.iinc 2 1, 3) := dk_132 2 1 (dk_at dksX3_isWord_2 9 rfl rfl)
theorem dX3_isWord_60 : decode cX3_isWord 60 = .ok (.goto (-32), 3) := dk_167 255 224 (dk_at dksX3_isWord_2 12 rfl rfl)
theorem dX3_isWord_63 : decode cX3_isWord 63 = .ok (.iconst 1, 1) := dk_4 (dk_at dksX3_isWord_2 15 rfl rfl)
theorem dX3_isWord_64 : decode cX3_isWord 64 = .ok (.ireturn, 1) := dk_172 (dk_at dksX3_isWord_2 16 rfl rfl)
abbrev cX3_innTold : ByteArray := prog_16_method_39_code
def yX3_innTold : MethodName := ⟨RX3, "innTold", "()Z"⟩
def dkwX3_innTold_3 : List UInt8 := [61, 42, 27, 42, 180, 0, 49, 4, 46, 42, 180, 0, 49, 5, 46, 28, 182, 0, 121, 4, 172]
abbrev dktX3_innTold_3 : List UInt8 := dkwX3_innTold_3 ++ []
def dkwX3_innTold_2 : List UInt8 := [182, 0, 198, 153, 0, 22, 42, 3, 16, 100, 182, 0, 193, 154, 0, 5, 3, 172, 42, 180, 0, 49, 3, 46]
abbrev dktX3_innTold_2 : List UInt8 := dkwX3_innTold_2 ++ dktX3_innTold_3
def dkwX3_innTold_1 : List UInt8 := [16, 99, 182, 0, 189, 154, 0, 5, 3, 172, 42, 180, 0, 49, 3, 46, 60, 2, 61, 42, 18, 196]
abbrev dktX3_innTold_1 : List UInt8 := dkwX3_innTold_1 ++ dktX3_innTold_2
def dkwX3_innTold_0 : List UInt8 := [42, 3, 16, 100, 182, 0, 193, 153, 0, 25, 42, 4, 4, 16, 20, 182, 0, 189, 153, 0, 14, 42, 5, 3]
abbrev dktX3_innTold_0 : List UInt8 := dkwX3_innTold_0 ++ dktX3_innTold_1
theorem dksX3_innTold_0 : cX3_innTold.data.toList.drop 0 = dktX3_innTold_0 := by decide +kernel
theorem dksX3_innTold_1 : cX3_innTold.data.toList.drop 24 = dktX3_innTold_1 := dk_seg dksX3_innTold_0 24 rfl rfl
theorem dksX3_innTold_2 : cX3_innTold.data.toList.drop 46 = dktX3_innTold_2 := dk_seg dksX3_innTold_1 22 rfl rfl
theorem dksX3_innTold_3 : cX3_innTold.data.toList.drop 70 = dktX3_innTold_3 := dk_seg dksX3_innTold_2 24 rfl rfl
theorem dX3_innTold_0 : decode cX3_innTold 0 = .ok (.aload_n 0, 1) := dk_42 (dk_at dksX3_innTold_0 0 rfl rfl)
theorem dX3_innTold_1 : decode cX3_innTold 1 = .ok (.iconst 0, 1) := dk_3 (dk_at dksX3_innTold_0 1 rfl rfl)
theorem dX3_innTold_2 : decode cX3_innTold 2 = .ok (.bipush 100, 2) := dk_16 100 (dk_at dksX3_innTold_0 2 rfl rfl)
theorem dX3_innTold_4 : decode cX3_innTold 4 = .ok (.invokevirtual 193, 3) := dk_182 0 193 (dk_at dksX3_innTold_0 4 rfl rfl)
theorem dX3_innTold_7 : decode cX3_innTold 7 = .ok (.ifCond .eq 25, 3) := dk_153 0 25 (dk_at dksX3_innTold_0 7 rfl rfl)
theorem dX3_innTold_10 : decode cX3_innTold 10 = .ok (.aload_n 0, 1) := dk_42 (dk_at dksX3_innTold_0 10 rfl rfl)
theorem dX3_innTold_11 : decode cX3_innTold 11 = .ok (.iconst 1, 1) := dk_4 (dk_at dksX3_innTold_0 11 rfl rfl)
theorem dX3_innTold_12 : decode cX3_innTold 12 = .ok (.iconst 1, 1) := dk_4 (dk_at dksX3_innTold_0 12 rfl rfl)
theorem dX3_innTold_13 : decode cX3_innTold 13 = .ok (.bipush 20, 2) := dk_16 20 (dk_at dksX3_innTold_0 13 rfl rfl)
theorem dX3_innTold_15 : decode cX3_innTold 15 = .ok (.invokevirtual 189, 3) := dk_182 0 189 (dk_at dksX3_innTold_0 15 rfl rfl)
theorem dX3_innTold_18 : decode cX3_innTold 18 = .ok (.ifCond .eq 14, 3) := dk_153 0 14 (dk_at dksX3_innTold_0 18 rfl rfl)
theorem dX3_innTold_21 : decode cX3_innTold 21 = .ok (.aload_n 0, 1) := dk_42 (dk_at dksX3_innTold_0 21 rfl rfl)
theorem dX3_innTold_22 : decode cX3_innTold 22 = .ok (.iconst 2, 1) := dk_5 (dk_at dksX3_innTold_0 22 rfl rfl)
theorem dX3_innTold_23 : decode cX3_innTold 23 = .ok (.iconst 0, 1) := dk_3 (dk_at dksX3_innTold_0 23 rfl rfl)
theorem dX3_innTold_24 : decode cX3_innTold 24 = .ok (.bipush 99, 2) := dk_16 99 (dk_at dksX3_innTold_1 0 rfl rfl)
theorem dX3_innTold_26 : decode cX3_innTold 26 = .ok (.invokevirtual 189, 3) := dk_182 0 189 (dk_at dksX3_innTold_1 2 rfl rfl)
theorem dX3_innTold_29 : decode cX3_innTold 29 = .ok (.ifCond .ne 5, 3) := dk_154 0 5 (dk_at dksX3_innTold_1 5 rfl rfl)
theorem dX3_innTold_32 : decode cX3_innTold 32 = .ok (.iconst 0, 1) := dk_3 (dk_at dksX3_innTold_1 8 rfl rfl)
theorem dX3_innTold_33 : decode cX3_innTold 33 = .ok (.ireturn, 1) := dk_172 (dk_at dksX3_innTold_1 9 rfl rfl)
theorem dX3_innTold_34 : decode cX3_innTold 34 = .ok (.aload_n 0, 1) := dk_42 (dk_at dksX3_innTold_1 10 rfl rfl)
theorem dX3_innTold_35 : decode cX3_innTold 35 = .ok (.getfield 49, 3) := dk_180 0 49 (dk_at dksX3_innTold_1 11 rfl rfl)
theorem dX3_innTold_38 : decode cX3_innTold 38 = .ok (.iconst 0, 1) := dk_3 (dk_at dksX3_innTold_1 14 rfl rfl)
theorem dX3_innTold_39 : decode cX3_innTold 39 = .ok (.iaload, 1) := dk_46 (dk_at dksX3_innTold_1 15 rfl rfl)
theorem dX3_innTold_40 : decode cX3_innTold 40 = .ok (.istore_n 1, 1) := dk_60 (dk_at dksX3_innTold_1 16 rfl rfl)
theorem dX3_innTold_41 : decode cX3_innTold 41 = .ok (.iconst (-1), 1) := dk_2 (dk_at dksX3_innTold_1 17 rfl rfl)
theorem dX3_innTold_42 : decode cX3_innTold 42 = .ok (.istore_n 2, 1) := dk_61 (dk_at dksX3_innTold_1 18 rfl rfl)
theorem dX3_innTold_43 : decode cX3_innTold 43 = .ok (.aload_n 0, 1) := dk_42 (dk_at dksX3_innTold_1 19 rfl rfl)
theorem dX3_innTold_44 : decode cX3_innTold 44 = .ok (.ldc 196, 2) := dk_18 196 (dk_at dksX3_innTold_1 20 rfl rfl)
theorem dX3_innTold_46 : decode cX3_innTold 46 = .ok (.invokevirtual 198, 3) := dk_182 0 198 (dk_at dksX3_innTold_2 0 rfl rfl)
theorem dX3_innTold_49 : decode cX3_innTold 49 = .ok (.ifCond .eq 22, 3) := dk_153 0 22 (dk_at dksX3_innTold_2 3 rfl rfl)
theorem dX3_innTold_52 : decode cX3_innTold 52 = .ok (.aload_n 0, 1) := dk_42 (dk_at dksX3_innTold_2 6 rfl rfl)
theorem dX3_innTold_53 : decode cX3_innTold 53 = .ok (.iconst 0, 1) := dk_3 (dk_at dksX3_innTold_2 7 rfl rfl)
theorem dX3_innTold_54 : decode cX3_innTold 54 = .ok (.bipush 100, 2) := dk_16 100 (dk_at dksX3_innTold_2 8 rfl rfl)
theorem dX3_innTold_56 : decode cX3_innTold 56 = .ok (.invokevirtual 193, 3) := dk_182 0 193 (dk_at dksX3_innTold_2 10 rfl rfl)
theorem dX3_innTold_59 : decode cX3_innTold 59 = .ok (.ifCond .ne 5, 3) := dk_154 0 5 (dk_at dksX3_innTold_2 13 rfl rfl)
theorem dX3_innTold_62 : decode cX3_innTold 62 = .ok (.iconst 0, 1) := dk_3 (dk_at dksX3_innTold_2 16 rfl rfl)
theorem dX3_innTold_63 : decode cX3_innTold 63 = .ok (.ireturn, 1) := dk_172 (dk_at dksX3_innTold_2 17 rfl rfl)
theorem dX3_innTold_64 : decode cX3_innTold 64 = .ok (.aload_n 0, 1) := dk_42 (dk_at dksX3_innTold_2 18 rfl rfl)
theorem dX3_innTold_65 : decode cX3_innTold 65 = .ok (.getfield 49, 3) := dk_180 0 49 (dk_at dksX3_innTold_2 19 rfl rfl)
theorem dX3_innTold_68 : decode cX3_innTold 68 = .ok (.iconst 0, 1) := dk_3 (dk_at dksX3_innTold_2 22 rfl rfl)
theorem dX3_innTold_69 : decode cX3_innTold 69 = .ok (.iaload, 1) := dk_46 (dk_at dksX3_innTold_2 23 rfl rfl)
theorem dX3_innTold_70 : decode cX3_innTold 70 = .ok (.istore_n 2, 1) := dk_61 (dk_at dksX3_innTold_3 0 rfl rfl)
theorem dX3_innTold_71 : decode cX3_innTold 71 = .ok (.aload_n 0, 1) := dk_42 (dk_at dksX3_innTold_3 1 rfl rfl)
theorem dX3_innTold_72 : decode cX3_innTold 72 = .ok (.iload_n 1, 1) := dk_27 (dk_at dksX3_innTold_3 2 rfl rfl)
theorem dX3_innTold_73 : decode cX3_innTold 73 = .ok (.aload_n 0, 1) := dk_42 (dk_at dksX3_innTold_3 3 rfl rfl)
theorem dX3_innTold_74 : decode cX3_innTold 74 = .ok (.getfield 49, 3) := dk_180 0 49 (dk_at dksX3_innTold_3 4 rfl rfl)
theorem dX3_innTold_77 : decode cX3_innTold 77 = .ok (.iconst 1, 1) := dk_4 (dk_at dksX3_innTold_3 7 rfl rfl)
theorem dX3_innTold_78 : decode cX3_innTold 78 = .ok (.iaload, 1) := dk_46 (dk_at dksX3_innTold_3 8 rfl rfl)
theorem dX3_innTold_79 : decode cX3_innTold 79 = .ok (.aload_n 0, 1) := dk_42 (dk_at dksX3_innTold_3 9 rfl rfl)
theorem dX3_innTold_80 : decode cX3_innTold 80 = .ok (.getfield 49, 3) := dk_180 0 49 (dk_at dksX3_innTold_3 10 rfl rfl)
theorem dX3_innTold_83 : decode cX3_innTold 83 = .ok (.iconst 2, 1) := dk_5 (dk_at dksX3_innTold_3 13 rfl rfl)
theorem dX3_innTold_84 : decode cX3_innTold 84 = .ok (.iaload, 1) := dk_46 (dk_at dksX3_innTold_3 14 rfl rfl)
theorem dX3_innTold_85 : decode cX3_innTold 85 = .ok (.iload_n 2, 1) := dk_28 (dk_at dksX3_innTold_3 15 rfl rfl)
theorem dX3_innTold_86 : decode cX3_innTold 86 = .ok (.invokevirtual 121, 3) := dk_182 0 121 (dk_at dksX3_innTold_3 16 rfl rfl)
theorem dX3_innTold_89 : decode cX3_innTold 89 = .ok (.iconst 1, 1) := dk_4 (dk_at dksX3_innTold_3 19 rfl rfl)
theorem dX3_innTold_90 : decode cX3_innTold 90 = .ok (.ireturn, 1) := dk_172 (dk_at dksX3_innTold_3 20 rfl rfl)
abbrev cX3_tells : ByteArray := prog_16_method_38_code
def yX3_tells : MethodName := ⟨RX3, "tells", "(II)Z"⟩
def dkwX3_tells_0 : List UInt8 := [42, 182, 0, 186, 42, 3, 27, 28, 182, 0, 189, 172]
abbrev dktX3_tells_0 : List UInt8 := dkwX3_tells_0 ++ []
theorem dksX3_tells_0 : cX3_tells.data.toList.drop 0 = dktX3_tells_0 := by decide +kernel
theorem dX3_tells_0 : decode cX3_tells 0 = .ok (.aload_n 0, 1) := dk_42 (dk_at dksX3_tells_0 0 rfl rfl)
theorem dX3_tells_1 : decode cX3_tells 1 = .ok (.invokevirtual 186, 3) := dk_182 0 186 (dk_at dksX3_tells_0 1 rfl rfl)
theorem dX3_tells_4 : decode cX3_tells 4 = .ok (.aload_n 0, 1) := dk_42 (dk_at dksX3_tells_0 4 rfl rfl)
theorem dX3_tells_5 : decode cX3_tells 5 = .ok (.iconst 0, 1) := dk_3 (dk_at dksX3_tells_0 5 rfl rfl)
theorem dX3_tells_6 : decode cX3_tells 6 = .ok (.iload_n 1, 1) := dk_27 (dk_at dksX3_tells_0 6 rfl rfl)
theorem dX3_tells_7 : decode cX3_tells 7 = .ok (.iload_n 2, 1) := dk_28 (dk_at dksX3_tells_0 7 rfl rfl)
theorem dX3_tells_8 : decode cX3_tells 8 = .ok (.invokevirtual 189, 3) := dk_182 0 189 (dk_at dksX3_tells_0 8 rfl rfl)
theorem dX3_tells_11 : decode cX3_tells 11 = .ok (.ireturn, 1) := dk_172 (dk_at dksX3_tells_0 11 rfl rfl)
abbrev cX3_number : ByteArray := prog_16_method_37_code
def yX3_number : MethodName := ⟨RX3, "number", "(III)Z"⟩
def dkwX3_number_1 : List UInt8 := [182, 0, 182, 172, 42, 180, 0, 49, 27, 42, 180, 0, 156, 79, 42, 182, 0, 186, 4, 172]
abbrev dktX3_number_1 : List UInt8 := dkwX3_number_1 ++ []
def dkwX3_number_0 : List UInt8 := [42, 180, 0, 159, 5, 160, 0, 18, 42, 180, 0, 156, 133, 28, 133, 29, 133, 184, 0, 76, 154, 0, 8, 42]
abbrev dktX3_number_0 : List UInt8 := dkwX3_number_0 ++ dktX3_number_1
theorem dksX3_number_0 : cX3_number.data.toList.drop 0 = dktX3_number_0 := by decide +kernel
theorem dksX3_number_1 : cX3_number.data.toList.drop 24 = dktX3_number_1 := dk_seg dksX3_number_0 24 rfl rfl
theorem dX3_number_0 : decode cX3_number 0 = .ok (.aload_n 0, 1) := dk_42 (dk_at dksX3_number_0 0 rfl rfl)
theorem dX3_number_1 : decode cX3_number 1 = .ok (.getfield 159, 3) := dk_180 0 159 (dk_at dksX3_number_0 1 rfl rfl)
theorem dX3_number_4 : decode cX3_number 4 = .ok (.iconst 2, 1) := dk_5 (dk_at dksX3_number_0 4 rfl rfl)
theorem dX3_number_5 : decode cX3_number 5 = .ok (.if_icmp .ne 18, 3) := dk_160 0 18 (dk_at dksX3_number_0 5 rfl rfl)
theorem dX3_number_8 : decode cX3_number 8 = .ok (.aload_n 0, 1) := dk_42 (dk_at dksX3_number_0 8 rfl rfl)
theorem dX3_number_9 : decode cX3_number 9 = .ok (.getfield 156, 3) := dk_180 0 156 (dk_at dksX3_number_0 9 rfl rfl)
theorem dX3_number_12 : decode cX3_number 12 = .ok (.i2l, 1) := dk_133 (dk_at dksX3_number_0 12 rfl rfl)
theorem dX3_number_13 : decode cX3_number 13 = .ok (.iload_n 2, 1) := dk_28 (dk_at dksX3_number_0 13 rfl rfl)
theorem dX3_number_14 : decode cX3_number 14 = .ok (.i2l, 1) := dk_133 (dk_at dksX3_number_0 14 rfl rfl)
theorem dX3_number_15 : decode cX3_number 15 = .ok (.iload_n 3, 1) := dk_29 (dk_at dksX3_number_0 15 rfl rfl)
theorem dX3_number_16 : decode cX3_number 16 = .ok (.i2l, 1) := dk_133 (dk_at dksX3_number_0 16 rfl rfl)
theorem dX3_number_17 : decode cX3_number 17 = .ok (.invokestatic 76, 3) := dk_184 0 76 (dk_at dksX3_number_0 17 rfl rfl)
theorem dX3_number_20 : decode cX3_number 20 = .ok (.ifCond .ne 8, 3) := dk_154 0 8 (dk_at dksX3_number_0 20 rfl rfl)
theorem dX3_number_23 : decode cX3_number 23 = .ok (.aload_n 0, 1) := dk_42 (dk_at dksX3_number_0 23 rfl rfl)
theorem dX3_number_24 : decode cX3_number 24 = .ok (.invokevirtual 182, 3) := dk_182 0 182 (dk_at dksX3_number_1 0 rfl rfl)
theorem dX3_number_27 : decode cX3_number 27 = .ok (.ireturn, 1) := dk_172 (dk_at dksX3_number_1 3 rfl rfl)
theorem dX3_number_28 : decode cX3_number 28 = .ok (.aload_n 0, 1) := dk_42 (dk_at dksX3_number_1 4 rfl rfl)
theorem dX3_number_29 : decode cX3_number 29 = .ok (.getfield 49, 3) := dk_180 0 49 (dk_at dksX3_number_1 5 rfl rfl)
theorem dX3_number_32 : decode cX3_number 32 = .ok (.iload_n 1, 1) := dk_27 (dk_at dksX3_number_1 8 rfl rfl)
theorem dX3_number_33 : decode cX3_number 33 = .ok (.aload_n 0, 1) := dk_42 (dk_at dksX3_number_1 9 rfl rfl)
theorem dX3_number_34 : decode cX3_number 34 = .ok (.getfield 156, 3) := dk_180 0 156 (dk_at dksX3_number_1 10 rfl rfl)
theorem dX3_number_37 : decode cX3_number 37 = .ok (.iastore, 1) := dk_79 (dk_at dksX3_number_1 13 rfl rfl)
theorem dX3_number_38 : decode cX3_number 38 = .ok (.aload_n 0, 1) := dk_42 (dk_at dksX3_number_1 14 rfl rfl)
theorem dX3_number_39 : decode cX3_number 39 = .ok (.invokevirtual 186, 3) := dk_182 0 186 (dk_at dksX3_number_1 15 rfl rfl)
theorem dX3_number_42 : decode cX3_number 42 = .ok (.iconst 1, 1) := dk_4 (dk_at dksX3_number_1 18 rfl rfl)
theorem dX3_number_43 : decode cX3_number 43 = .ok (.ireturn, 1) := dk_172 (dk_at dksX3_number_1 19 rfl rfl)
abbrev cX3_wrong : ByteArray := prog_16_method_35_code
def yX3_wrong : MethodName := ⟨RX3, "wrong", "()Z"⟩
def dkwX3_wrong_0 : List UInt8 := [42, 42, 180, 0, 153, 181, 0, 169, 3, 172]
abbrev dktX3_wrong_0 : List UInt8 := dkwX3_wrong_0 ++ []
theorem dksX3_wrong_0 : cX3_wrong.data.toList.drop 0 = dktX3_wrong_0 := by decide +kernel
theorem dX3_wrong_0 : decode cX3_wrong 0 = .ok (.aload_n 0, 1) := dk_42 (dk_at dksX3_wrong_0 0 rfl rfl)
theorem dX3_wrong_1 : decode cX3_wrong 1 = .ok (.aload_n 0, 1) := dk_42 (dk_at dksX3_wrong_0 1 rfl rfl)
theorem dX3_wrong_2 : decode cX3_wrong 2 = .ok (.getfield 153, 3) := dk_180 0 153 (dk_at dksX3_wrong_0 2 rfl rfl)
theorem dX3_wrong_5 : decode cX3_wrong 5 = .ok (.putfield 169, 3) := dk_181 0 169 (dk_at dksX3_wrong_0 5 rfl rfl)
theorem dX3_wrong_8 : decode cX3_wrong 8 = .ok (.iconst 0, 1) := dk_3 (dk_at dksX3_wrong_0 8 rfl rfl)
theorem dX3_wrong_9 : decode cX3_wrong 9 = .ok (.ireturn, 1) := dk_172 (dk_at dksX3_wrong_0 9 rfl rfl)
abbrev cX3_letterTold : ByteArray := prog_16_method_40_code
def yX3_letterTold : MethodName := ⟨RX3, "letterTold", "()Z"⟩
def dkwX3_letterTold_3 : List UInt8 := [42, 42, 180, 0, 49, 3, 46, 42, 180, 0, 49, 4, 46, 182, 0, 141, 4, 172]
abbrev dktX3_letterTold_3 : List UInt8 := dkwX3_letterTold_3 ++ []
def dkwX3_letterTold_2 : List UInt8 := [180, 0, 73, 4, 100, 182, 0, 189, 153, 0, 14, 42, 4, 3, 16, 100, 182, 0, 189, 154, 0, 5, 3, 172]
abbrev dktX3_letterTold_2 : List UInt8 := dkwX3_letterTold_2 ++ dktX3_letterTold_3
def dkwX3_letterTold_1 : List UInt8 := [180, 0, 39, 42, 180, 0, 156, 50, 8, 46, 16, 99, 160, 0, 8, 42, 182, 0, 182, 172, 42, 3, 3, 42]
abbrev dktX3_letterTold_1 : List UInt8 := dkwX3_letterTold_1 ++ dktX3_letterTold_2
def dkwX3_letterTold_0 : List UInt8 := [42, 182, 0, 186, 42, 180, 0, 159, 5, 160, 0, 35, 42, 180, 0, 156, 42, 180, 0, 73, 162, 0, 24, 42]
abbrev dktX3_letterTold_0 : List UInt8 := dkwX3_letterTold_0 ++ dktX3_letterTold_1
theorem dksX3_letterTold_0 : cX3_letterTold.data.toList.drop 0 = dktX3_letterTold_0 := by decide +kernel
theorem dksX3_letterTold_1 : cX3_letterTold.data.toList.drop 24 = dktX3_letterTold_1 := dk_seg dksX3_letterTold_0 24 rfl rfl
theorem dksX3_letterTold_2 : cX3_letterTold.data.toList.drop 48 = dktX3_letterTold_2 := dk_seg dksX3_letterTold_1 24 rfl rfl
theorem dksX3_letterTold_3 : cX3_letterTold.data.toList.drop 72 = dktX3_letterTold_3 := dk_seg dksX3_letterTold_2 24 rfl rfl
theorem dX3_letterTold_0 : decode cX3_letterTold 0 = .ok (.aload_n 0, 1) := dk_42 (dk_at dksX3_letterTold_0 0 rfl rfl)
theorem dX3_letterTold_1 : decode cX3_letterTold 1 = .ok (.invokevirtual 186, 3) := dk_182 0 186 (dk_at dksX3_letterTold_0 1 rfl rfl)
theorem dX3_letterTold_4 : decode cX3_letterTold 4 = .ok (.aload_n 0, 1) := dk_42 (dk_at dksX3_letterTold_0 4 rfl rfl)
theorem dX3_letterTold_5 : decode cX3_letterTold 5 = .ok (.getfield 159, 3) := dk_180 0 159 (dk_at dksX3_letterTold_0 5 rfl rfl)
theorem dX3_letterTold_8 : decode cX3_letterTold 8 = .ok (.iconst 2, 1) := dk_5 (dk_at dksX3_letterTold_0 8 rfl rfl)
theorem dX3_letterTold_9 : decode cX3_letterTold 9 = .ok (.if_icmp .ne 35, 3) := dk_160 0 35 (dk_at dksX3_letterTold_0 9 rfl rfl)
theorem dX3_letterTold_12 : decode cX3_letterTold 12 = .ok (.aload_n 0, 1) := dk_42 (dk_at dksX3_letterTold_0 12 rfl rfl)
theorem dX3_letterTold_13 : decode cX3_letterTold 13 = .ok (.getfield 156, 3) := dk_180 0 156 (dk_at dksX3_letterTold_0 13 rfl rfl)
theorem dX3_letterTold_16 : decode cX3_letterTold 16 = .ok (.aload_n 0, 1) := dk_42 (dk_at dksX3_letterTold_0 16 rfl rfl)
theorem dX3_letterTold_17 : decode cX3_letterTold 17 = .ok (.getfield 73, 3) := dk_180 0 73 (dk_at dksX3_letterTold_0 17 rfl rfl)
theorem dX3_letterTold_20 : decode cX3_letterTold 20 = .ok (.if_icmp .ge 24, 3) := dk_162 0 24 (dk_at dksX3_letterTold_0 20 rfl rfl)
theorem dX3_letterTold_23 : decode cX3_letterTold 23 = .ok (.aload_n 0, 1) := dk_42 (dk_at dksX3_letterTold_0 23 rfl rfl)
theorem dX3_letterTold_24 : decode cX3_letterTold 24 = .ok (.getfield 39, 3) := dk_180 0 39 (dk_at dksX3_letterTold_1 0 rfl rfl)
theorem dX3_letterTold_27 : decode cX3_letterTold 27 = .ok (.aload_n 0, 1) := dk_42 (dk_at dksX3_letterTold_1 3 rfl rfl)
theorem dX3_letterTold_28 : decode cX3_letterTold 28 = .ok (.getfield 156, 3) := dk_180 0 156 (dk_at dksX3_letterTold_1 4 rfl rfl)
theorem dX3_letterTold_31 : decode cX3_letterTold 31 = .ok (.aaload, 1) := dk_50 (dk_at dksX3_letterTold_1 7 rfl rfl)
theorem dX3_letterTold_32 : decode cX3_letterTold 32 = .ok (.iconst 5, 1) := dk_8 (dk_at dksX3_letterTold_1 8 rfl rfl)
theorem dX3_letterTold_33 : decode cX3_letterTold 33 = .ok (.iaload, 1) := dk_46 (dk_at dksX3_letterTold_1 9 rfl rfl)
theorem dX3_letterTold_34 : decode cX3_letterTold 34 = .ok (.bipush 99, 2) := dk_16 99 (dk_at dksX3_letterTold_1 10 rfl rfl)
theorem dX3_letterTold_36 : decode cX3_letterTold 36 = .ok (.if_icmp .ne 8, 3) := dk_160 0 8 (dk_at dksX3_letterTold_1 12 rfl rfl)
theorem dX3_letterTold_39 : decode cX3_letterTold 39 = .ok (.aload_n 0, 1) := dk_42 (dk_at dksX3_letterTold_1 15 rfl rfl)
theorem dX3_letterTold_40 : decode cX3_letterTold 40 = .ok (.invokevirtual 182, 3) := dk_182 0 182 (dk_at dksX3_letterTold_1 16 rfl rfl)
theorem dX3_letterTold_43 : decode cX3_letterTold 43 = .ok (.ireturn, 1) := dk_172 (dk_at dksX3_letterTold_1 19 rfl rfl)
theorem dX3_letterTold_44 : decode cX3_letterTold 44 = .ok (.aload_n 0, 1) := dk_42 (dk_at dksX3_letterTold_1 20 rfl rfl)
theorem dX3_letterTold_45 : decode cX3_letterTold 45 = .ok (.iconst 0, 1) := dk_3 (dk_at dksX3_letterTold_1 21 rfl rfl)
theorem dX3_letterTold_46 : decode cX3_letterTold 46 = .ok (.iconst 0, 1) := dk_3 (dk_at dksX3_letterTold_1 22 rfl rfl)
theorem dX3_letterTold_47 : decode cX3_letterTold 47 = .ok (.aload_n 0, 1) := dk_42 (dk_at dksX3_letterTold_1 23 rfl rfl)
theorem dX3_letterTold_48 : decode cX3_letterTold 48 = .ok (.getfield 73, 3) := dk_180 0 73 (dk_at dksX3_letterTold_2 0 rfl rfl)
theorem dX3_letterTold_51 : decode cX3_letterTold 51 = .ok (.iconst 1, 1) := dk_4 (dk_at dksX3_letterTold_2 3 rfl rfl)
theorem dX3_letterTold_52 : decode cX3_letterTold 52 = .ok (.isub, 1) := dk_100 (dk_at dksX3_letterTold_2 4 rfl rfl)
theorem dX3_letterTold_53 : decode cX3_letterTold 53 = .ok (.invokevirtual 189, 3) := dk_182 0 189 (dk_at dksX3_letterTold_2 5 rfl rfl)
theorem dX3_letterTold_56 : decode cX3_letterTold 56 = .ok (.ifCond .eq 14, 3) := dk_153 0 14 (dk_at dksX3_letterTold_2 8 rfl rfl)
theorem dX3_letterTold_59 : decode cX3_letterTold 59 = .ok (.aload_n 0, 1) := dk_42 (dk_at dksX3_letterTold_2 11 rfl rfl)
theorem dX3_letterTold_60 : decode cX3_letterTold 60 = .ok (.iconst 1, 1) := dk_4 (dk_at dksX3_letterTold_2 12 rfl rfl)
theorem dX3_letterTold_61 : decode cX3_letterTold 61 = .ok (.iconst 0, 1) := dk_3 (dk_at dksX3_letterTold_2 13 rfl rfl)
theorem dX3_letterTold_62 : decode cX3_letterTold 62 = .ok (.bipush 100, 2) := dk_16 100 (dk_at dksX3_letterTold_2 14 rfl rfl)
theorem dX3_letterTold_64 : decode cX3_letterTold 64 = .ok (.invokevirtual 189, 3) := dk_182 0 189 (dk_at dksX3_letterTold_2 16 rfl rfl)
theorem dX3_letterTold_67 : decode cX3_letterTold 67 = .ok (.ifCond .ne 5, 3) := dk_154 0 5 (dk_at dksX3_letterTold_2 19 rfl rfl)
theorem dX3_letterTold_70 : decode cX3_letterTold 70 = .ok (.iconst 0, 1) := dk_3 (dk_at dksX3_letterTold_2 22 rfl rfl)
theorem dX3_letterTold_71 : decode cX3_letterTold 71 = .ok (.ireturn, 1) := dk_172 (dk_at dksX3_letterTold_2 23 rfl rfl)
theorem dX3_letterTold_72 : decode cX3_letterTold 72 = .ok (.aload_n 0, 1) := dk_42 (dk_at dksX3_letterTold_3 0 rfl rfl)
theorem dX3_letterTold_73 : decode cX3_letterTold 73 = .ok (.aload_n 0, 1) := dk_42 (dk_at dksX3_letterTold_3 1 rfl rfl)
theorem dX3_letterTold_74 : decode cX3_letterTold 74 = .ok (.getfield 49, 3) := dk_180 0 49 (dk_at dksX3_letterTold_3 2 rfl rfl)
theorem dX3_letterTold_77 : decode cX3_letterTold 77 = .ok (.iconst 0, 1) := dk_3 (dk_at dksX3_letterTold_3 5 rfl rfl)
theorem dX3_letterTold_78 : decode cX3_letterTold 78 = .ok (.iaload, 1) := dk_46 (dk_at dksX3_letterTold_3 6 rfl rfl)
theorem dX3_letterTold_79 : decode cX3_letterTold 79 = .ok (.aload_n 0, 1) := dk_42 (dk_at dksX3_letterTold_3 7 rfl rfl)
theorem dX3_letterTold_80 : decode cX3_letterTold 80 = .ok (.getfield 49, 3) := dk_180 0 49 (dk_at dksX3_letterTold_3 8 rfl rfl)
theorem dX3_letterTold_83 : decode cX3_letterTold 83 = .ok (.iconst 1, 1) := dk_4 (dk_at dksX3_letterTold_3 11 rfl rfl)
theorem dX3_letterTold_84 : decode cX3_letterTold 84 = .ok (.iaload, 1) := dk_46 (dk_at dksX3_letterTold_3 12 rfl rfl)
theorem dX3_letterTold_85 : decode cX3_letterTold 85 = .ok (.invokevirtual 141, 3) := dk_182 0 141 (dk_at dksX3_letterTold_3 13 rfl rfl)
theorem dX3_letterTold_88 : decode cX3_letterTold 88 = .ok (.iconst 1, 1) := dk_4 (dk_at dksX3_letterTold_3 16 rfl rfl)
theorem dX3_letterTold_89 : decode cX3_letterTold 89 = .ok (.ireturn, 1) := dk_172 (dk_at dksX3_letterTold_3 17 rfl rfl)
abbrev cX3_writeTold : ByteArray := prog_16_method_41_code
def yX3_writeTold : MethodName := ⟨RX3, "writeTold", "()Z"⟩
def dkwX3_writeTold_3 : List UInt8 := [172, 27, 4, 42, 180, 0, 49, 3, 46, 120, 128, 60, 167, 255, 181, 42, 27, 182, 0, 138, 87, 4, 172]
abbrev dktX3_writeTold_3 : List UInt8 := dkwX3_writeTold_3 ++ []
def dkwX3_writeTold_2 : List UInt8 := [4, 126, 154, 0, 18, 42, 3, 3, 42, 180, 0, 73, 4, 100, 182, 0, 189, 154, 0, 8, 42, 182, 0, 182]
abbrev dktX3_writeTold_2 : List UInt8 := dkwX3_writeTold_2 ++ dktX3_writeTold_3
def dkwX3_writeTold_1 : List UInt8 := [180, 0, 159, 5, 160, 0, 25, 42, 180, 0, 156, 42, 180, 0, 73, 162, 0, 14, 27, 42, 180, 0, 156, 122]
abbrev dktX3_writeTold_1 : List UInt8 := dkwX3_writeTold_1 ++ dktX3_writeTold_2
def dkwX3_writeTold_0 : List UInt8 := [42, 182, 0, 186, 3, 60, 4, 61, 28, 154, 0, 11, 42, 180, 0, 159, 5, 160, 0, 69, 3, 61, 42]
abbrev dktX3_writeTold_0 : List UInt8 := dkwX3_writeTold_0 ++ dktX3_writeTold_1
theorem dksX3_writeTold_0 : cX3_writeTold.data.toList.drop 0 = dktX3_writeTold_0 := by decide +kernel
theorem dksX3_writeTold_1 : cX3_writeTold.data.toList.drop 23 = dktX3_writeTold_1 := dk_seg dksX3_writeTold_0 23 rfl rfl
theorem dksX3_writeTold_2 : cX3_writeTold.data.toList.drop 47 = dktX3_writeTold_2 := dk_seg dksX3_writeTold_1 24 rfl rfl
theorem dksX3_writeTold_3 : cX3_writeTold.data.toList.drop 71 = dktX3_writeTold_3 := dk_seg dksX3_writeTold_2 24 rfl rfl
theorem dX3_writeTold_0 : decode cX3_writeTold 0 = .ok (.aload_n 0, 1) := dk_42 (dk_at dksX3_writeTold_0 0 rfl rfl)
theorem dX3_writeTold_1 : decode cX3_writeTold 1 = .ok (.invokevirtual 186, 3) := dk_182 0 186 (dk_at dksX3_writeTold_0 1 rfl rfl)
theorem dX3_writeTold_4 : decode cX3_writeTold 4 = .ok (.iconst 0, 1) := dk_3 (dk_at dksX3_writeTold_0 4 rfl rfl)
theorem dX3_writeTold_5 : decode cX3_writeTold 5 = .ok (.istore_n 1, 1) := dk_60 (dk_at dksX3_writeTold_0 5 rfl rfl)
theorem dX3_writeTold_6 : decode cX3_writeTold 6 = .ok (.iconst 1, 1) := dk_4 (dk_at dksX3_writeTold_0 6 rfl rfl)
theorem dX3_writeTold_7 : decode cX3_writeTold 7 = .ok (.istore_n 2, 1) := dk_61 (dk_at dksX3_writeTold_0 7 rfl rfl)
theorem dX3_writeTold_8 : decode cX3_writeTold 8 = .ok (.iload_n 2, 1) := dk_28 (dk_at dksX3_writeTold_0 8 rfl rfl)
theorem dX3_writeTold_9 : decode cX3_writeTold 9 = .ok (.ifCond .ne 11, 3) := dk_154 0 11 (dk_at dksX3_writeTold_0 9 rfl rfl)
theorem dX3_writeTold_12 : decode cX3_writeTold 12 = .ok (.aload_n 0, 1) := dk_42 (dk_at dksX3_writeTold_0 12 rfl rfl)
theorem dX3_writeTold_13 : decode cX3_writeTold 13 = .ok (.getfield 159, 3) := dk_180 0 159 (dk_at dksX3_writeTold_0 13 rfl rfl)
theorem dX3_writeTold_16 : decode cX3_writeTold 16 = .ok (.iconst 2, 1) := dk_5 (dk_at dksX3_writeTold_0 16 rfl rfl)
theorem dX3_writeTold_17 : decode cX3_writeTold 17 = .ok (.if_icmp .ne 69, 3) := dk_160 0 69 (dk_at dksX3_writeTold_0 17 rfl rfl)
theorem dX3_writeTold_20 : decode cX3_writeTold 20 = .ok (.iconst 0, 1) := dk_3 (dk_at dksX3_writeTold_0 20 rfl rfl)
theorem dX3_writeTold_21 : decode cX3_writeTold 21 = .ok (.istore_n 2, 1) := dk_61 (dk_at dksX3_writeTold_0 21 rfl rfl)
theorem dX3_writeTold_22 : decode cX3_writeTold 22 = .ok (.aload_n 0, 1) := dk_42 (dk_at dksX3_writeTold_0 22 rfl rfl)
theorem dX3_writeTold_23 : decode cX3_writeTold 23 = .ok (.getfield 159, 3) := dk_180 0 159 (dk_at dksX3_writeTold_1 0 rfl rfl)
theorem dX3_writeTold_26 : decode cX3_writeTold 26 = .ok (.iconst 2, 1) := dk_5 (dk_at dksX3_writeTold_1 3 rfl rfl)
theorem dX3_writeTold_27 : decode cX3_writeTold 27 = .ok (.if_icmp .ne 25, 3) := dk_160 0 25 (dk_at dksX3_writeTold_1 4 rfl rfl)
theorem dX3_writeTold_30 : decode cX3_writeTold 30 = .ok (.aload_n 0, 1) := dk_42 (dk_at dksX3_writeTold_1 7 rfl rfl)
theorem dX3_writeTold_31 : decode cX3_writeTold 31 = .ok (.getfield 156, 3) := dk_180 0 156 (dk_at dksX3_writeTold_1 8 rfl rfl)
theorem dX3_writeTold_34 : decode cX3_writeTold 34 = .ok (.aload_n 0, 1) := dk_42 (dk_at dksX3_writeTold_1 11 rfl rfl)
theorem dX3_writeTold_35 : decode cX3_writeTold 35 = .ok (.getfield 73, 3) := dk_180 0 73 (dk_at dksX3_writeTold_1 12 rfl rfl)
theorem dX3_writeTold_38 : decode cX3_writeTold 38 = .ok (.if_icmp .ge 14, 3) := dk_162 0 14 (dk_at dksX3_writeTold_1 15 rfl rfl)
theorem dX3_writeTold_41 : decode cX3_writeTold 41 = .ok (.iload_n 1, 1) := dk_27 (dk_at dksX3_writeTold_1 18 rfl rfl)
theorem dX3_writeTold_42 : decode cX3_writeTold 42 = .ok (.aload_n 0, 1) := dk_42 (dk_at dksX3_writeTold_1 19 rfl rfl)
theorem dX3_writeTold_43 : decode cX3_writeTold 43 = .ok (.getfield 156, 3) := dk_180 0 156 (dk_at dksX3_writeTold_1 20 rfl rfl)
theorem dX3_writeTold_46 : decode cX3_writeTold 46 = .ok (.ishr, 1) := dk_122 (dk_at dksX3_writeTold_1 23 rfl rfl)
theorem dX3_writeTold_47 : decode cX3_writeTold 47 = .ok (.iconst 1, 1) := dk_4 (dk_at dksX3_writeTold_2 0 rfl rfl)
theorem dX3_writeTold_48 : decode cX3_writeTold 48 = .ok (.iand, 1) := dk_126 (dk_at dksX3_writeTold_2 1 rfl rfl)
theorem dX3_writeTold_49 : decode cX3_writeTold 49 = .ok (.ifCond .ne 18, 3) := dk_154 0 18 (dk_at dksX3_writeTold_2 2 rfl rfl)
theorem dX3_writeTold_52 : decode cX3_writeTold 52 = .ok (.aload_n 0, 1) := dk_42 (dk_at dksX3_writeTold_2 5 rfl rfl)
theorem dX3_writeTold_53 : decode cX3_writeTold 53 = .ok (.iconst 0, 1) := dk_3 (dk_at dksX3_writeTold_2 6 rfl rfl)
theorem dX3_writeTold_54 : decode cX3_writeTold 54 = .ok (.iconst 0, 1) := dk_3 (dk_at dksX3_writeTold_2 7 rfl rfl)
theorem dX3_writeTold_55 : decode cX3_writeTold 55 = .ok (.aload_n 0, 1) := dk_42 (dk_at dksX3_writeTold_2 8 rfl rfl)
theorem dX3_writeTold_56 : decode cX3_writeTold 56 = .ok (.getfield 73, 3) := dk_180 0 73 (dk_at dksX3_writeTold_2 9 rfl rfl)
theorem dX3_writeTold_59 : decode cX3_writeTold 59 = .ok (.iconst 1, 1) := dk_4 (dk_at dksX3_writeTold_2 12 rfl rfl)
theorem dX3_writeTold_60 : decode cX3_writeTold 60 = .ok (.isub, 1) := dk_100 (dk_at dksX3_writeTold_2 13 rfl rfl)
theorem dX3_writeTold_61 : decode cX3_writeTold 61 = .ok (.invokevirtual 189, 3) := dk_182 0 189 (dk_at dksX3_writeTold_2 14 rfl rfl)
theorem dX3_writeTold_64 : decode cX3_writeTold 64 = .ok (.ifCond .ne 8, 3) := dk_154 0 8 (dk_at dksX3_writeTold_2 17 rfl rfl)
theorem dX3_writeTold_67 : decode cX3_writeTold 67 = .ok (.aload_n 0, 1) := dk_42 (dk_at dksX3_writeTold_2 20 rfl rfl)
theorem dX3_writeTold_68 : decode cX3_writeTold 68 = .ok (.invokevirtual 182, 3) := dk_182 0 182 (dk_at dksX3_writeTold_2 21 rfl rfl)
theorem dX3_writeTold_71 : decode cX3_writeTold 71 = .ok (.ireturn, 1) := dk_172 (dk_at dksX3_writeTold_3 0 rfl rfl)
theorem dX3_writeTold_72 : decode cX3_writeTold 72 = .ok (.iload_n 1, 1) := dk_27 (dk_at dksX3_writeTold_3 1 rfl rfl)
theorem dX3_writeTold_73 : decode cX3_writeTold 73 = .ok (.iconst 1, 1) := dk_4 (dk_at dksX3_writeTold_3 2 rfl rfl)
theorem dX3_writeTold_74 : decode cX3_writeTold 74 = .ok (.aload_n 0, 1) := dk_42 (dk_at dksX3_writeTold_3 3 rfl rfl)
theorem dX3_writeTold_75 : decode cX3_writeTold 75 = .ok (.getfield 49, 3) := dk_180 0 49 (dk_at dksX3_writeTold_3 4 rfl rfl)
theorem dX3_writeTold_78 : decode cX3_writeTold 78 = .ok (.iconst 0, 1) := dk_3 (dk_at dksX3_writeTold_3 7 rfl rfl)
theorem dX3_writeTold_79 : decode cX3_writeTold 79 = .ok (.iaload, 1) := dk_46 (dk_at dksX3_writeTold_3 8 rfl rfl)
theorem dX3_writeTold_80 : decode cX3_writeTold 80 = .ok (.ishl, 1) := dk_120 (dk_at dksX3_writeTold_3 9 rfl rfl)
theorem dX3_writeTold_81 : decode cX3_writeTold 81 = .ok (.ior, 1) := dk_128 (dk_at dksX3_writeTold_3 10 rfl rfl)
theorem dX3_writeTold_82 : decode cX3_writeTold 82 = .ok (.istore_n 1, 1) := dk_60 (dk_at dksX3_writeTold_3 11 rfl rfl)
theorem dX3_writeTold_83 : decode cX3_writeTold 83 = .ok (.goto (-75), 3) := dk_167 255 181 (dk_at dksX3_writeTold_3 12 rfl rfl)
theorem dX3_writeTold_86 : decode cX3_writeTold 86 = .ok (.aload_n 0, 1) := dk_42 (dk_at dksX3_writeTold_3 15 rfl rfl)
theorem dX3_writeTold_87 : decode cX3_writeTold 87 = .ok (.iload_n 1, 1) := dk_27 (dk_at dksX3_writeTold_3 16 rfl rfl)
theorem dX3_writeTold_88 : decode cX3_writeTold 88 = .ok (.invokevirtual 138, 3) := dk_182 0 138 (dk_at dksX3_writeTold_3 17 rfl rfl)
theorem dX3_writeTold_91 : decode cX3_writeTold 91 = .ok (.pop, 1) := dk_87 (dk_at dksX3_writeTold_3 20 rfl rfl)
theorem dX3_writeTold_92 : decode cX3_writeTold 92 = .ok (.iconst 1, 1) := dk_4 (dk_at dksX3_writeTold_3 21 rfl rfl)
theorem dX3_writeTold_93 : decode cX3_writeTold 93 = .ok (.ireturn, 1) := dk_172 (dk_at dksX3_writeTold_3 22 rfl rfl)
abbrev cX3_innOf : ByteArray := prog_16_method_45_code
def yX3_innOf : MethodName := ⟨RX3, "innOf", "(II)I"⟩
def dkwX3_innOf_1 : List UInt8 := [27, 50, 28, 46, 167, 0, 9, 42, 16, 254, 182, 0, 91, 172]
abbrev dktX3_innOf_1 : List UInt8 := dkwX3_innOf_1 ++ []
def dkwX3_innOf_0 : List UInt8 := [42, 27, 182, 0, 127, 153, 0, 26, 28, 133, 9, 20, 0, 238, 184, 0, 76, 153, 0, 14, 42, 180, 0, 39]
abbrev dktX3_innOf_0 : List UInt8 := dkwX3_innOf_0 ++ dktX3_innOf_1
theorem dksX3_innOf_0 : cX3_innOf.data.toList.drop 0 = dktX3_innOf_0 := by decide +kernel
theorem dksX3_innOf_1 : cX3_innOf.data.toList.drop 24 = dktX3_innOf_1 := dk_seg dksX3_innOf_0 24 rfl rfl
theorem dX3_innOf_0 : decode cX3_innOf 0 = .ok (.aload_n 0, 1) := dk_42 (dk_at dksX3_innOf_0 0 rfl rfl)
theorem dX3_innOf_1 : decode cX3_innOf 1 = .ok (.iload_n 1, 1) := dk_27 (dk_at dksX3_innOf_0 1 rfl rfl)
theorem dX3_innOf_2 : decode cX3_innOf 2 = .ok (.invokevirtual 127, 3) := dk_182 0 127 (dk_at dksX3_innOf_0 2 rfl rfl)
theorem dX3_innOf_5 : decode cX3_innOf 5 = .ok (.ifCond .eq 26, 3) := dk_153 0 26 (dk_at dksX3_innOf_0 5 rfl rfl)
theorem dX3_innOf_8 : decode cX3_innOf 8 = .ok (.iload_n 2, 1) := dk_28 (dk_at dksX3_innOf_0 8 rfl rfl)
theorem dX3_innOf_9 : decode cX3_innOf 9 = .ok (.i2l, 1) := dk_133 (dk_at dksX3_innOf_0 9 rfl rfl)
theorem dX3_innOf_10 : decode cX3_innOf 10 = .ok (.lconst 0, 1) := dk_9 (dk_at dksX3_innOf_0 10 rfl rfl)
theorem dX3_innOf_11 : decode cX3_innOf 11 = .ok (.ldc2_w 238, 3) := dk_20 0 238 (dk_at dksX3_innOf_0 11 rfl rfl)
theorem dX3_innOf_14 : decode cX3_innOf 14 = .ok (.invokestatic 76, 3) := dk_184 0 76 (dk_at dksX3_innOf_0 14 rfl rfl)
theorem dX3_innOf_17 : decode cX3_innOf 17 = .ok (.ifCond .eq 14, 3) := dk_153 0 14 (dk_at dksX3_innOf_0 17 rfl rfl)
theorem dX3_innOf_20 : decode cX3_innOf 20 = .ok (.aload_n 0, 1) := dk_42 (dk_at dksX3_innOf_0 20 rfl rfl)
theorem dX3_innOf_21 : decode cX3_innOf 21 = .ok (.getfield 39, 3) := dk_180 0 39 (dk_at dksX3_innOf_0 21 rfl rfl)
theorem dX3_innOf_24 : decode cX3_innOf 24 = .ok (.iload_n 1, 1) := dk_27 (dk_at dksX3_innOf_1 0 rfl rfl)
theorem dX3_innOf_25 : decode cX3_innOf 25 = .ok (.aaload, 1) := dk_50 (dk_at dksX3_innOf_1 1 rfl rfl)
theorem dX3_innOf_26 : decode cX3_innOf 26 = .ok (.iload_n 2, 1) := dk_28 (dk_at dksX3_innOf_1 2 rfl rfl)
theorem dX3_innOf_27 : decode cX3_innOf 27 = .ok (.iaload, 1) := dk_46 (dk_at dksX3_innOf_1 3 rfl rfl)
theorem dX3_innOf_28 : decode cX3_innOf 28 = .ok (.goto 9, 3) := dk_167 0 9 (dk_at dksX3_innOf_1 4 rfl rfl)
theorem dX3_innOf_31 : decode cX3_innOf 31 = .ok (.aload_n 0, 1) := dk_42 (dk_at dksX3_innOf_1 7 rfl rfl)
theorem dX3_innOf_32 : decode cX3_innOf 32 = .ok (.bipush (-2), 2) := dk_16 254 (dk_at dksX3_innOf_1 8 rfl rfl)
theorem dX3_innOf_34 : decode cX3_innOf 34 = .ok (.invokevirtual 91, 3) := dk_182 0 91 (dk_at dksX3_innOf_1 10 rfl rfl)
theorem dX3_innOf_37 : decode cX3_innOf 37 = .ok (.ireturn, 1) := dk_172 (dk_at dksX3_innOf_1 13 rfl rfl)
abbrev cX3_goerOf : ByteArray := prog_16_method_46_code
def yX3_goerOf : MethodName := ⟨RX3, "goerOf", "(II)I"⟩
def dkwX3_goerOf_1 : List UInt8 := [27, 50, 28, 46, 167, 0, 9, 42, 16, 254, 182, 0, 91, 172]
abbrev dktX3_goerOf_1 : List UInt8 := dkwX3_goerOf_1 ++ []
def dkwX3_goerOf_0 : List UInt8 := [42, 27, 182, 0, 102, 153, 0, 26, 28, 133, 9, 20, 0, 240, 184, 0, 76, 153, 0, 14, 42, 180, 0, 42]
abbrev dktX3_goerOf_0 : List UInt8 := dkwX3_goerOf_0 ++ dktX3_goerOf_1
theorem dksX3_goerOf_0 : cX3_goerOf.data.toList.drop 0 = dktX3_goerOf_0 := by decide +kernel
theorem dksX3_goerOf_1 : cX3_goerOf.data.toList.drop 24 = dktX3_goerOf_1 := dk_seg dksX3_goerOf_0 24 rfl rfl
theorem dX3_goerOf_0 : decode cX3_goerOf 0 = .ok (.aload_n 0, 1) := dk_42 (dk_at dksX3_goerOf_0 0 rfl rfl)
theorem dX3_goerOf_1 : decode cX3_goerOf 1 = .ok (.iload_n 1, 1) := dk_27 (dk_at dksX3_goerOf_0 1 rfl rfl)
theorem dX3_goerOf_2 : decode cX3_goerOf 2 = .ok (.invokevirtual 102, 3) := dk_182 0 102 (dk_at dksX3_goerOf_0 2 rfl rfl)
theorem dX3_goerOf_5 : decode cX3_goerOf 5 = .ok (.ifCond .eq 26, 3) := dk_153 0 26 (dk_at dksX3_goerOf_0 5 rfl rfl)
theorem dX3_goerOf_8 : decode cX3_goerOf 8 = .ok (.iload_n 2, 1) := dk_28 (dk_at dksX3_goerOf_0 8 rfl rfl)
theorem dX3_goerOf_9 : decode cX3_goerOf 9 = .ok (.i2l, 1) := dk_133 (dk_at dksX3_goerOf_0 9 rfl rfl)
theorem dX3_goerOf_10 : decode cX3_goerOf 10 = .ok (.lconst 0, 1) := dk_9 (dk_at dksX3_goerOf_0 10 rfl rfl)
theorem dX3_goerOf_11 : decode cX3_goerOf 11 = .ok (.ldc2_w 240, 3) := dk_20 0 240 (dk_at dksX3_goerOf_0 11 rfl rfl)
theorem dX3_goerOf_14 : decode cX3_goerOf 14 = .ok (.invokestatic 76, 3) := dk_184 0 76 (dk_at dksX3_goerOf_0 14 rfl rfl)
theorem dX3_goerOf_17 : decode cX3_goerOf 17 = .ok (.ifCond .eq 14, 3) := dk_153 0 14 (dk_at dksX3_goerOf_0 17 rfl rfl)
theorem dX3_goerOf_20 : decode cX3_goerOf 20 = .ok (.aload_n 0, 1) := dk_42 (dk_at dksX3_goerOf_0 20 rfl rfl)
theorem dX3_goerOf_21 : decode cX3_goerOf 21 = .ok (.getfield 42, 3) := dk_180 0 42 (dk_at dksX3_goerOf_0 21 rfl rfl)
theorem dX3_goerOf_24 : decode cX3_goerOf 24 = .ok (.iload_n 1, 1) := dk_27 (dk_at dksX3_goerOf_1 0 rfl rfl)
theorem dX3_goerOf_25 : decode cX3_goerOf 25 = .ok (.aaload, 1) := dk_50 (dk_at dksX3_goerOf_1 1 rfl rfl)
theorem dX3_goerOf_26 : decode cX3_goerOf 26 = .ok (.iload_n 2, 1) := dk_28 (dk_at dksX3_goerOf_1 2 rfl rfl)
theorem dX3_goerOf_27 : decode cX3_goerOf 27 = .ok (.iaload, 1) := dk_46 (dk_at dksX3_goerOf_1 3 rfl rfl)
theorem dX3_goerOf_28 : decode cX3_goerOf 28 = .ok (.goto 9, 3) := dk_167 0 9 (dk_at dksX3_goerOf_1 4 rfl rfl)
theorem dX3_goerOf_31 : decode cX3_goerOf 31 = .ok (.aload_n 0, 1) := dk_42 (dk_at dksX3_goerOf_1 7 rfl rfl)
theorem dX3_goerOf_32 : decode cX3_goerOf 32 = .ok (.bipush (-2), 2) := dk_16 254 (dk_at dksX3_goerOf_1 8 rfl rfl)
theorem dX3_goerOf_34 : decode cX3_goerOf 34 = .ok (.invokevirtual 91, 3) := dk_182 0 91 (dk_at dksX3_goerOf_1 10 rfl rfl)
theorem dX3_goerOf_37 : decode cX3_goerOf 37 = .ok (.ireturn, 1) := dk_172 (dk_at dksX3_goerOf_1 13 rfl rfl)
abbrev cX3_score : ByteArray := prog_16_method_50_code
def yX3_score : MethodName := ⟨RX3, "score", "(II)I"⟩
def dkwX3_score_1 : List UInt8 := [167, 0, 12, 18, 252, 42, 16, 254, 182, 0, 91, 96, 172]
abbrev dktX3_score_1 : List UInt8 := dkwX3_score_1 ++ []
def dkwX3_score_0 : List UInt8 := [42, 27, 182, 0, 102, 153, 0, 20, 42, 28, 182, 0, 127, 153, 0, 12, 42, 27, 28, 182, 0, 248]
abbrev dktX3_score_0 : List UInt8 := dkwX3_score_0 ++ dktX3_score_1
theorem dksX3_score_0 : cX3_score.data.toList.drop 0 = dktX3_score_0 := by decide +kernel
theorem dksX3_score_1 : cX3_score.data.toList.drop 22 = dktX3_score_1 := dk_seg dksX3_score_0 22 rfl rfl
theorem dX3_score_0 : decode cX3_score 0 = .ok (.aload_n 0, 1) := dk_42 (dk_at dksX3_score_0 0 rfl rfl)
theorem dX3_score_1 : decode cX3_score 1 = .ok (.iload_n 1, 1) := dk_27 (dk_at dksX3_score_0 1 rfl rfl)
theorem dX3_score_2 : decode cX3_score 2 = .ok (.invokevirtual 102, 3) := dk_182 0 102 (dk_at dksX3_score_0 2 rfl rfl)
theorem dX3_score_5 : decode cX3_score 5 = .ok (.ifCond .eq 20, 3) := dk_153 0 20 (dk_at dksX3_score_0 5 rfl rfl)
theorem dX3_score_8 : decode cX3_score 8 = .ok (.aload_n 0, 1) := dk_42 (dk_at dksX3_score_0 8 rfl rfl)
theorem dX3_score_9 : decode cX3_score 9 = .ok (.iload_n 2, 1) := dk_28 (dk_at dksX3_score_0 9 rfl rfl)
theorem dX3_score_10 : decode cX3_score 10 = .ok (.invokevirtual 127, 3) := dk_182 0 127 (dk_at dksX3_score_0 10 rfl rfl)
theorem dX3_score_13 : decode cX3_score 13 = .ok (.ifCond .eq 12, 3) := dk_153 0 12 (dk_at dksX3_score_0 13 rfl rfl)
theorem dX3_score_16 : decode cX3_score 16 = .ok (.aload_n 0, 1) := dk_42 (dk_at dksX3_score_0 16 rfl rfl)
theorem dX3_score_17 : decode cX3_score 17 = .ok (.iload_n 1, 1) := dk_27 (dk_at dksX3_score_0 17 rfl rfl)
theorem dX3_score_18 : decode cX3_score 18 = .ok (.iload_n 2, 1) := dk_28 (dk_at dksX3_score_0 18 rfl rfl)
theorem dX3_score_19 : decode cX3_score 19 = .ok (.invokevirtual 248, 3) := dk_182 0 248 (dk_at dksX3_score_0 19 rfl rfl)
theorem dX3_score_22 : decode cX3_score 22 = .ok (.goto 12, 3) := dk_167 0 12 (dk_at dksX3_score_1 0 rfl rfl)
theorem dX3_score_25 : decode cX3_score 25 = .ok (.ldc 252, 2) := dk_18 252 (dk_at dksX3_score_1 3 rfl rfl)
theorem dX3_score_27 : decode cX3_score 27 = .ok (.aload_n 0, 1) := dk_42 (dk_at dksX3_score_1 5 rfl rfl)
theorem dX3_score_28 : decode cX3_score 28 = .ok (.bipush (-2), 2) := dk_16 254 (dk_at dksX3_score_1 6 rfl rfl)
theorem dX3_score_30 : decode cX3_score 30 = .ok (.invokevirtual 91, 3) := dk_182 0 91 (dk_at dksX3_score_1 8 rfl rfl)
theorem dX3_score_33 : decode cX3_score 33 = .ok (.iadd, 1) := dk_96 (dk_at dksX3_score_1 11 rfl rfl)
theorem dX3_score_34 : decode cX3_score 34 = .ok (.ireturn, 1) := dk_172 (dk_at dksX3_score_1 12 rfl rfl)
abbrev cX3_sleeps : ByteArray := prog_16_method_56_code
def yX3_sleeps : MethodName := ⟨RX3, "sleeps", "(II)I"⟩
def dkwX3_sleeps_1 : List UInt8 := [182, 1, 3, 42, 180, 0, 52, 27, 50, 28, 46, 172]
abbrev dktX3_sleeps_1 : List UInt8 := dkwX3_sleeps_1 ++ []
def dkwX3_sleeps_0 : List UInt8 := [42, 27, 182, 0, 102, 153, 0, 11, 42, 28, 182, 0, 127, 154, 0, 10, 42, 16, 254, 182, 0, 91, 172, 42]
abbrev dktX3_sleeps_0 : List UInt8 := dkwX3_sleeps_0 ++ dktX3_sleeps_1
theorem dksX3_sleeps_0 : cX3_sleeps.data.toList.drop 0 = dktX3_sleeps_0 := by decide +kernel
theorem dksX3_sleeps_1 : cX3_sleeps.data.toList.drop 24 = dktX3_sleeps_1 := dk_seg dksX3_sleeps_0 24 rfl rfl
theorem dX3_sleeps_0 : decode cX3_sleeps 0 = .ok (.aload_n 0, 1) := dk_42 (dk_at dksX3_sleeps_0 0 rfl rfl)
theorem dX3_sleeps_1 : decode cX3_sleeps 1 = .ok (.iload_n 1, 1) := dk_27 (dk_at dksX3_sleeps_0 1 rfl rfl)
theorem dX3_sleeps_2 : decode cX3_sleeps 2 = .ok (.invokevirtual 102, 3) := dk_182 0 102 (dk_at dksX3_sleeps_0 2 rfl rfl)
theorem dX3_sleeps_5 : decode cX3_sleeps 5 = .ok (.ifCond .eq 11, 3) := dk_153 0 11 (dk_at dksX3_sleeps_0 5 rfl rfl)
theorem dX3_sleeps_8 : decode cX3_sleeps 8 = .ok (.aload_n 0, 1) := dk_42 (dk_at dksX3_sleeps_0 8 rfl rfl)
theorem dX3_sleeps_9 : decode cX3_sleeps 9 = .ok (.iload_n 2, 1) := dk_28 (dk_at dksX3_sleeps_0 9 rfl rfl)
theorem dX3_sleeps_10 : decode cX3_sleeps 10 = .ok (.invokevirtual 127, 3) := dk_182 0 127 (dk_at dksX3_sleeps_0 10 rfl rfl)
theorem dX3_sleeps_13 : decode cX3_sleeps 13 = .ok (.ifCond .ne 10, 3) := dk_154 0 10 (dk_at dksX3_sleeps_0 13 rfl rfl)
theorem dX3_sleeps_16 : decode cX3_sleeps 16 = .ok (.aload_n 0, 1) := dk_42 (dk_at dksX3_sleeps_0 16 rfl rfl)
theorem dX3_sleeps_17 : decode cX3_sleeps 17 = .ok (.bipush (-2), 2) := dk_16 254 (dk_at dksX3_sleeps_0 17 rfl rfl)
theorem dX3_sleeps_19 : decode cX3_sleeps 19 = .ok (.invokevirtual 91, 3) := dk_182 0 91 (dk_at dksX3_sleeps_0 19 rfl rfl)
theorem dX3_sleeps_22 : decode cX3_sleeps 22 = .ok (.ireturn, 1) := dk_172 (dk_at dksX3_sleeps_0 22 rfl rfl)
theorem dX3_sleeps_23 : decode cX3_sleeps 23 = .ok (.aload_n 0, 1) := dk_42 (dk_at dksX3_sleeps_0 23 rfl rfl)
theorem dX3_sleeps_24 : decode cX3_sleeps 24 = .ok (.invokevirtual 259, 3) := dk_182 1 3 (dk_at dksX3_sleeps_1 0 rfl rfl)
theorem dX3_sleeps_27 : decode cX3_sleeps 27 = .ok (.aload_n 0, 1) := dk_42 (dk_at dksX3_sleeps_1 3 rfl rfl)
theorem dX3_sleeps_28 : decode cX3_sleeps 28 = .ok (.getfield 52, 3) := dk_180 0 52 (dk_at dksX3_sleeps_1 4 rfl rfl)
theorem dX3_sleeps_31 : decode cX3_sleeps 31 = .ok (.iload_n 1, 1) := dk_27 (dk_at dksX3_sleeps_1 7 rfl rfl)
theorem dX3_sleeps_32 : decode cX3_sleeps 32 = .ok (.aaload, 1) := dk_50 (dk_at dksX3_sleeps_1 8 rfl rfl)
theorem dX3_sleeps_33 : decode cX3_sleeps 33 = .ok (.iload_n 2, 1) := dk_28 (dk_at dksX3_sleeps_1 9 rfl rfl)
theorem dX3_sleeps_34 : decode cX3_sleeps 34 = .ok (.iaload, 1) := dk_46 (dk_at dksX3_sleeps_1 10 rfl rfl)
theorem dX3_sleeps_35 : decode cX3_sleeps 35 = .ok (.ireturn, 1) := dk_172 (dk_at dksX3_sleeps_1 11 rfl rfl)
abbrev cX3_goThrough : ByteArray := prog_16_method_54_code
def yX3_goThrough : MethodName := ⟨RX3, "goThrough", "()V"⟩
def dkwX3_goThrough_3 : List UInt8 := [167, 255, 202, 132, 1, 1, 167, 255, 189, 177]
abbrev dktX3_goThrough_3 : List UInt8 := dkwX3_goThrough_3 ++ []
def dkwX3_goThrough_2 : List UInt8 := [167, 0, 4, 3, 160, 0, 16, 42, 28, 42, 180, 0, 42, 28, 50, 4, 46, 182, 1, 0, 132, 2, 1]
abbrev dktX3_goThrough_2 : List UInt8 := dkwX3_goThrough_2 ++ dktX3_goThrough_3
def dkwX3_goThrough_1 : List UInt8 := [180, 0, 42, 28, 50, 3, 46, 8, 160, 0, 7, 4, 167, 0, 4, 3, 27, 4, 160, 0, 7, 4]
abbrev dktX3_goThrough_1 : List UInt8 := dkwX3_goThrough_1 ++ dktX3_goThrough_2
def dkwX3_goThrough_0 : List UInt8 := [42, 182, 0, 253, 3, 60, 27, 5, 162, 0, 68, 3, 61, 28, 42, 180, 0, 80, 162, 0, 52, 42]
abbrev dktX3_goThrough_0 : List UInt8 := dkwX3_goThrough_0 ++ dktX3_goThrough_1
theorem dksX3_goThrough_0 : cX3_goThrough.data.toList.drop 0 = dktX3_goThrough_0 := by decide +kernel
theorem dksX3_goThrough_1 : cX3_goThrough.data.toList.drop 22 = dktX3_goThrough_1 := dk_seg dksX3_goThrough_0 22 rfl rfl
theorem dksX3_goThrough_2 : cX3_goThrough.data.toList.drop 44 = dktX3_goThrough_2 := dk_seg dksX3_goThrough_1 22 rfl rfl
theorem dksX3_goThrough_3 : cX3_goThrough.data.toList.drop 67 = dktX3_goThrough_3 := dk_seg dksX3_goThrough_2 23 rfl rfl
theorem dX3_goThrough_0 : decode cX3_goThrough 0 = .ok (.aload_n 0, 1) := dk_42 (dk_at dksX3_goThrough_0 0 rfl rfl)
theorem dX3_goThrough_1 : decode cX3_goThrough 1 = .ok (.invokevirtual 253, 3) := dk_182 0 253 (dk_at dksX3_goThrough_0 1 rfl rfl)
theorem dX3_goThrough_4 : decode cX3_goThrough 4 = .ok (.iconst 0, 1) := dk_3 (dk_at dksX3_goThrough_0 4 rfl rfl)
theorem dX3_goThrough_5 : decode cX3_goThrough 5 = .ok (.istore_n 1, 1) := dk_60 (dk_at dksX3_goThrough_0 5 rfl rfl)
theorem dX3_goThrough_6 : decode cX3_goThrough 6 = .ok (.iload_n 1, 1) := dk_27 (dk_at dksX3_goThrough_0 6 rfl rfl)
theorem dX3_goThrough_7 : decode cX3_goThrough 7 = .ok (.iconst 2, 1) := dk_5 (dk_at dksX3_goThrough_0 7 rfl rfl)
theorem dX3_goThrough_8 : decode cX3_goThrough 8 = .ok (.if_icmp .ge 68, 3) := dk_162 0 68 (dk_at dksX3_goThrough_0 8 rfl rfl)
theorem dX3_goThrough_11 : decode cX3_goThrough 11 = .ok (.iconst 0, 1) := dk_3 (dk_at dksX3_goThrough_0 11 rfl rfl)
theorem dX3_goThrough_12 : decode cX3_goThrough 12 = .ok (.istore_n 2, 1) := dk_61 (dk_at dksX3_goThrough_0 12 rfl rfl)
theorem dX3_goThrough_13 : decode cX3_goThrough 13 = .ok (.iload_n 2, 1) := dk_28 (dk_at dksX3_goThrough_0 13 rfl rfl)
theorem dX3_goThrough_14 : decode cX3_goThrough 14 = .ok (.aload_n 0, 1) := dk_42 (dk_at dksX3_goThrough_0 14 rfl rfl)
theorem dX3_goThrough_15 : decode cX3_goThrough 15 = .ok (.getfield 80, 3) := dk_180 0 80 (dk_at dksX3_goThrough_0 15 rfl rfl)
theorem dX3_goThrough_18 : decode cX3_goThrough 18 = .ok (.if_icmp .ge 52, 3) := dk_162 0 52 (dk_at dksX3_goThrough_0 18 rfl rfl)
theorem dX3_goThrough_21 : decode cX3_goThrough 21 = .ok (.aload_n 0, 1) := dk_42 (dk_at dksX3_goThrough_0 21 rfl rfl)
theorem dX3_goThrough_22 : decode cX3_goThrough 22 = .ok (.getfield 42, 3) := dk_180 0 42 (dk_at dksX3_goThrough_1 0 rfl rfl)
theorem dX3_goThrough_25 : decode cX3_goThrough 25 = .ok (.iload_n 2, 1) := dk_28 (dk_at dksX3_goThrough_1 3 rfl rfl)
theorem dX3_goThrough_26 : decode cX3_goThrough 26 = .ok (.aaload, 1) := dk_50 (dk_at dksX3_goThrough_1 4 rfl rfl)
theorem dX3_goThrough_27 : decode cX3_goThrough 27 = .ok (.iconst 0, 1) := dk_3 (dk_at dksX3_goThrough_1 5 rfl rfl)
theorem dX3_goThrough_28 : decode cX3_goThrough 28 = .ok (.iaload, 1) := dk_46 (dk_at dksX3_goThrough_1 6 rfl rfl)
theorem dX3_goThrough_29 : decode cX3_goThrough 29 = .ok (.iconst 5, 1) := dk_8 (dk_at dksX3_goThrough_1 7 rfl rfl)
theorem dX3_goThrough_30 : decode cX3_goThrough 30 = .ok (.if_icmp .ne 7, 3) := dk_160 0 7 (dk_at dksX3_goThrough_1 8 rfl rfl)
theorem dX3_goThrough_33 : decode cX3_goThrough 33 = .ok (.iconst 1, 1) := dk_4 (dk_at dksX3_goThrough_1 11 rfl rfl)
theorem dX3_goThrough_34 : decode cX3_goThrough 34 = .ok (.goto 4, 3) := dk_167 0 4 (dk_at dksX3_goThrough_1 12 rfl rfl)
theorem dX3_goThrough_37 : decode cX3_goThrough 37 = .ok (.iconst 0, 1) := dk_3 (dk_at dksX3_goThrough_1 15 rfl rfl)
theorem dX3_goThrough_38 : decode cX3_goThrough 38 = .ok (.iload_n 1, 1) := dk_27 (dk_at dksX3_goThrough_1 16 rfl rfl)
theorem dX3_goThrough_39 : decode cX3_goThrough 39 = .ok (.iconst 1, 1) := dk_4 (dk_at dksX3_goThrough_1 17 rfl rfl)
theorem dX3_goThrough_40 : decode cX3_goThrough 40 = .ok (.if_icmp .ne 7, 3) := dk_160 0 7 (dk_at dksX3_goThrough_1 18 rfl rfl)
theorem dX3_goThrough_43 : decode cX3_goThrough 43 = .ok (.iconst 1, 1) := dk_4 (dk_at dksX3_goThrough_1 21 rfl rfl)
theorem dX3_goThrough_44 : decode cX3_goThrough 44 = .ok (.goto 4, 3) := dk_167 0 4 (dk_at dksX3_goThrough_2 0 rfl rfl)
theorem dX3_goThrough_47 : decode cX3_goThrough 47 = .ok (.iconst 0, 1) := dk_3 (dk_at dksX3_goThrough_2 3 rfl rfl)
theorem dX3_goThrough_48 : decode cX3_goThrough 48 = .ok (.if_icmp .ne 16, 3) := dk_160 0 16 (dk_at dksX3_goThrough_2 4 rfl rfl)
theorem dX3_goThrough_51 : decode cX3_goThrough 51 = .ok (.aload_n 0, 1) := dk_42 (dk_at dksX3_goThrough_2 7 rfl rfl)
theorem dX3_goThrough_52 : decode cX3_goThrough 52 = .ok (.iload_n 2, 1) := dk_28 (dk_at dksX3_goThrough_2 8 rfl rfl)
theorem dX3_goThrough_53 : decode cX3_goThrough 53 = .ok (.aload_n 0, 1) := dk_42 (dk_at dksX3_goThrough_2 9 rfl rfl)
theorem dX3_goThrough_54 : decode cX3_goThrough 54 = .ok (.getfield 42, 3) := dk_180 0 42 (dk_at dksX3_goThrough_2 10 rfl rfl)
theorem dX3_goThrough_57 : decode cX3_goThrough 57 = .ok (.iload_n 2, 1) := dk_28 (dk_at dksX3_goThrough_2 13 rfl rfl)
theorem dX3_goThrough_58 : decode cX3_goThrough 58 = .ok (.aaload, 1) := dk_50 (dk_at dksX3_goThrough_2 14 rfl rfl)
theorem dX3_goThrough_59 : decode cX3_goThrough 59 = .ok (.iconst 1, 1) := dk_4 (dk_at dksX3_goThrough_2 15 rfl rfl)
theorem dX3_goThrough_60 : decode cX3_goThrough 60 = .ok (.iaload, 1) := dk_46 (dk_at dksX3_goThrough_2 16 rfl rfl)
theorem dX3_goThrough_61 : decode cX3_goThrough 61 = .ok (.invokevirtual 256, 3) := dk_182 1 0 (dk_at dksX3_goThrough_2 17 rfl rfl)
theorem dX3_goThrough_64 : decode cX3_goThrough 64 = .ok (.iinc 2 1, 3) := dk_132 2 1 (dk_at dksX3_goThrough_2 20 rfl rfl)
theorem dX3_goThrough_67 : decode cX3_goThrough 67 = .ok (.goto (-54), 3) := dk_167 255 202 (dk_at dksX3_goThrough_3 0 rfl rfl)
theorem dX3_goThrough_70 : decode cX3_goThrough 70 = .ok (.iinc 1 1, 3) := dk_132 1 1 (dk_at dksX3_goThrough_3 3 rfl rfl)
theorem dX3_goThrough_73 : decode cX3_goThrough 73 = .ok (.goto (-67), 3) := dk_167 255 189 (dk_at dksX3_goThrough_3 6 rfl rfl)
theorem dX3_goThrough_76 : decode cX3_goThrough 76 = .ok (.return_, 1) := dk_177 (dk_at dksX3_goThrough_3 9 rfl rfl)
abbrev cX3_startNight : ByteArray := prog_16_method_52_code
def yX3_startNight : MethodName := ⟨RX3, "startNight", "()V"⟩
def dkwX3_startNight_3 : List UInt8 := [180, 0, 52, 27, 50, 28, 3, 79, 132, 2, 1, 167, 255, 238, 132, 1, 1, 167, 255, 215, 177]
abbrev dktX3_startNight_3 : List UInt8 := dkwX3_startNight_3 ++ []
def dkwX3_startNight_2 : List UInt8 := [180, 0, 80, 162, 0, 39, 42, 180, 0, 55, 27, 3, 79, 3, 61, 28, 16, 6, 162, 0, 18, 42]
abbrev dktX3_startNight_2 : List UInt8 := dkwX3_startNight_2 ++ dktX3_startNight_3
def dkwX3_startNight_1 : List UInt8 := [42, 180, 0, 61, 27, 42, 180, 0, 39, 27, 50, 7, 46, 79, 132, 1, 1, 167, 255, 217, 3, 60, 27, 42]
abbrev dktX3_startNight_1 : List UInt8 := dkwX3_startNight_1 ++ dktX3_startNight_2
def dkwX3_startNight_0 : List UInt8 := [3, 60, 27, 42, 180, 0, 73, 162, 0, 37, 42, 180, 0, 58, 27, 42, 180, 0, 39, 27, 50, 5, 46, 79]
abbrev dktX3_startNight_0 : List UInt8 := dkwX3_startNight_0 ++ dktX3_startNight_1
theorem dksX3_startNight_0 : cX3_startNight.data.toList.drop 0 = dktX3_startNight_0 := by decide +kernel
theorem dksX3_startNight_1 : cX3_startNight.data.toList.drop 24 = dktX3_startNight_1 := dk_seg dksX3_startNight_0 24 rfl rfl
theorem dksX3_startNight_2 : cX3_startNight.data.toList.drop 48 = dktX3_startNight_2 := dk_seg dksX3_startNight_1 24 rfl rfl
theorem dksX3_startNight_3 : cX3_startNight.data.toList.drop 70 = dktX3_startNight_3 := dk_seg dksX3_startNight_2 22 rfl rfl
theorem dX3_startNight_0 : decode cX3_startNight 0 = .ok (.iconst 0, 1) := dk_3 (dk_at dksX3_startNight_0 0 rfl rfl)
theorem dX3_startNight_1 : decode cX3_startNight 1 = .ok (.istore_n 1, 1) := dk_60 (dk_at dksX3_startNight_0 1 rfl rfl)
theorem dX3_startNight_2 : decode cX3_startNight 2 = .ok (.iload_n 1, 1) := dk_27 (dk_at dksX3_startNight_0 2 rfl rfl)
theorem dX3_startNight_3 : decode cX3_startNight 3 = .ok (.aload_n 0, 1) := dk_42 (dk_at dksX3_startNight_0 3 rfl rfl)
theorem dX3_startNight_4 : decode cX3_startNight 4 = .ok (.getfield 73, 3) := dk_180 0 73 (dk_at dksX3_startNight_0 4 rfl rfl)
theorem dX3_startNight_7 : decode cX3_startNight 7 = .ok (.if_icmp .ge 37, 3) := dk_162 0 37 (dk_at dksX3_startNight_0 7 rfl rfl)
theorem dX3_startNight_10 : decode cX3_startNight 10 = .ok (.aload_n 0, 1) := dk_42 (dk_at dksX3_startNight_0 10 rfl rfl)
theorem dX3_startNight_11 : decode cX3_startNight 11 = .ok (.getfield 58, 3) := dk_180 0 58 (dk_at dksX3_startNight_0 11 rfl rfl)
theorem dX3_startNight_14 : decode cX3_startNight 14 = .ok (.iload_n 1, 1) := dk_27 (dk_at dksX3_startNight_0 14 rfl rfl)
theorem dX3_startNight_15 : decode cX3_startNight 15 = .ok (.aload_n 0, 1) := dk_42 (dk_at dksX3_startNight_0 15 rfl rfl)
theorem dX3_startNight_16 : decode cX3_startNight 16 = .ok (.getfield 39, 3) := dk_180 0 39 (dk_at dksX3_startNight_0 16 rfl rfl)
theorem dX3_startNight_19 : decode cX3_startNight 19 = .ok (.iload_n 1, 1) := dk_27 (dk_at dksX3_startNight_0 19 rfl rfl)
theorem dX3_startNight_20 : decode cX3_startNight 20 = .ok (.aaload, 1) := dk_50 (dk_at dksX3_startNight_0 20 rfl rfl)
theorem dX3_startNight_21 : decode cX3_startNight 21 = .ok (.iconst 2, 1) := dk_5 (dk_at dksX3_startNight_0 21 rfl rfl)
theorem dX3_startNight_22 : decode cX3_startNight 22 = .ok (.iaload, 1) := dk_46 (dk_at dksX3_startNight_0 22 rfl rfl)
theorem dX3_startNight_23 : decode cX3_startNight 23 = .ok (.iastore, 1) := dk_79 (dk_at dksX3_startNight_0 23 rfl rfl)
theorem dX3_startNight_24 : decode cX3_startNight 24 = .ok (.aload_n 0, 1) := dk_42 (dk_at dksX3_startNight_1 0 rfl rfl)
theorem dX3_startNight_25 : decode cX3_startNight 25 = .ok (.getfield 61, 3) := dk_180 0 61 (dk_at dksX3_startNight_1 1 rfl rfl)
theorem dX3_startNight_28 : decode cX3_startNight 28 = .ok (.iload_n 1, 1) := dk_27 (dk_at dksX3_startNight_1 4 rfl rfl)
theorem dX3_startNight_29 : decode cX3_startNight 29 = .ok (.aload_n 0, 1) := dk_42 (dk_at dksX3_startNight_1 5 rfl rfl)
theorem dX3_startNight_30 : decode cX3_startNight 30 = .ok (.getfield 39, 3) := dk_180 0 39 (dk_at dksX3_startNight_1 6 rfl rfl)
theorem dX3_startNight_33 : decode cX3_startNight 33 = .ok (.iload_n 1, 1) := dk_27 (dk_at dksX3_startNight_1 9 rfl rfl)
theorem dX3_startNight_34 : decode cX3_startNight 34 = .ok (.aaload, 1) := dk_50 (dk_at dksX3_startNight_1 10 rfl rfl)
theorem dX3_startNight_35 : decode cX3_startNight 35 = .ok (.iconst 4, 1) := dk_7 (dk_at dksX3_startNight_1 11 rfl rfl)
theorem dX3_startNight_36 : decode cX3_startNight 36 = .ok (.iaload, 1) := dk_46 (dk_at dksX3_startNight_1 12 rfl rfl)
theorem dX3_startNight_37 : decode cX3_startNight 37 = .ok (.iastore, 1) := dk_79 (dk_at dksX3_startNight_1 13 rfl rfl)
theorem dX3_startNight_38 : decode cX3_startNight 38 = .ok (.iinc 1 1, 3) := dk_132 1 1 (dk_at dksX3_startNight_1 14 rfl rfl)
theorem dX3_startNight_41 : decode cX3_startNight 41 = .ok (.goto (-39), 3) := dk_167 255 217 (dk_at dksX3_startNight_1 17 rfl rfl)
theorem dX3_startNight_44 : decode cX3_startNight 44 = .ok (.iconst 0, 1) := dk_3 (dk_at dksX3_startNight_1 20 rfl rfl)
theorem dX3_startNight_45 : decode cX3_startNight 45 = .ok (.istore_n 1, 1) := dk_60 (dk_at dksX3_startNight_1 21 rfl rfl)
theorem dX3_startNight_46 : decode cX3_startNight 46 = .ok (.iload_n 1, 1) := dk_27 (dk_at dksX3_startNight_1 22 rfl rfl)
theorem dX3_startNight_47 : decode cX3_startNight 47 = .ok (.aload_n 0, 1) := dk_42 (dk_at dksX3_startNight_1 23 rfl rfl)
theorem dX3_startNight_48 : decode cX3_startNight 48 = .ok (.getfield 80, 3) := dk_180 0 80 (dk_at dksX3_startNight_2 0 rfl rfl)
theorem dX3_startNight_51 : decode cX3_startNight 51 = .ok (.if_icmp .ge 39, 3) := dk_162 0 39 (dk_at dksX3_startNight_2 3 rfl rfl)
theorem dX3_startNight_54 : decode cX3_startNight 54 = .ok (.aload_n 0, 1) := dk_42 (dk_at dksX3_startNight_2 6 rfl rfl)
theorem dX3_startNight_55 : decode cX3_startNight 55 = .ok (.getfield 55, 3) := dk_180 0 55 (dk_at dksX3_startNight_2 7 rfl rfl)
theorem dX3_startNight_58 : decode cX3_startNight 58 = .ok (.iload_n 1, 1) := dk_27 (dk_at dksX3_startNight_2 10 rfl rfl)
theorem dX3_startNight_59 : decode cX3_startNight 59 = .ok (.iconst 0, 1) := dk_3 (dk_at dksX3_startNight_2 11 rfl rfl)
theorem dX3_startNight_60 : decode cX3_startNight 60 = .ok (.iastore, 1) := dk_79 (dk_at dksX3_startNight_2 12 rfl rfl)
theorem dX3_startNight_61 : decode cX3_startNight 61 = .ok (.iconst 0, 1) := dk_3 (dk_at dksX3_startNight_2 13 rfl rfl)
theorem dX3_startNight_62 : decode cX3_startNight 62 = .ok (.istore_n 2, 1) := dk_61 (dk_at dksX3_startNight_2 14 rfl rfl)
theorem dX3_startNight_63 : decode cX3_startNight 63 = .ok (.iload_n 2, 1) := dk_28 (dk_at dksX3_startNight_2 15 rfl rfl)
theorem dX3_startNight_64 : decode cX3_startNight 64 = .ok (.bipush 6, 2) := dk_16 6 (dk_at dksX3_startNight_2 16 rfl rfl)
theorem dX3_startNight_66 : decode cX3_startNight 66 = .ok (.if_icmp .ge 18, 3) := dk_162 0 18 (dk_at dksX3_startNight_2 18 rfl rfl)
theorem dX3_startNight_69 : decode cX3_startNight 69 = .ok (.aload_n 0, 1) := dk_42 (dk_at dksX3_startNight_2 21 rfl rfl)
theorem dX3_startNight_70 : decode cX3_startNight 70 = .ok (.getfield 52, 3) := dk_180 0 52 (dk_at dksX3_startNight_3 0 rfl rfl)
theorem dX3_startNight_73 : decode cX3_startNight 73 = .ok (.iload_n 1, 1) := dk_27 (dk_at dksX3_startNight_3 3 rfl rfl)
theorem dX3_startNight_74 : decode cX3_startNight 74 = .ok (.aaload, 1) := dk_50 (dk_at dksX3_startNight_3 4 rfl rfl)
theorem dX3_startNight_75 : decode cX3_startNight 75 = .ok (.iload_n 2, 1) := dk_28 (dk_at dksX3_startNight_3 5 rfl rfl)
theorem dX3_startNight_76 : decode cX3_startNight 76 = .ok (.iconst 0, 1) := dk_3 (dk_at dksX3_startNight_3 6 rfl rfl)
theorem dX3_startNight_77 : decode cX3_startNight 77 = .ok (.iastore, 1) := dk_79 (dk_at dksX3_startNight_3 7 rfl rfl)
theorem dX3_startNight_78 : decode cX3_startNight 78 = .ok (.iinc 2 1, 3) := dk_132 2 1 (dk_at dksX3_startNight_3 8 rfl rfl)
theorem dX3_startNight_81 : decode cX3_startNight 81 = .ok (.goto (-18), 3) := dk_167 255 238 (dk_at dksX3_startNight_3 11 rfl rfl)
theorem dX3_startNight_84 : decode cX3_startNight 84 = .ok (.iinc 1 1, 3) := dk_132 1 1 (dk_at dksX3_startNight_3 14 rfl rfl)
theorem dX3_startNight_87 : decode cX3_startNight 87 = .ok (.goto (-41), 3) := dk_167 255 215 (dk_at dksX3_startNight_3 17 rfl rfl)
theorem dX3_startNight_90 : decode cX3_startNight 90 = .ok (.return_, 1) := dk_177 (dk_at dksX3_startNight_3 20 rfl rfl)
abbrev cX3_comes : ByteArray := prog_16_method_53_code
def yX3_comes : MethodName := ⟨RX3, "comes", "(II)V"⟩
def dkwX3_comes_7 : List UInt8 := [79, 29, 21, 5, 100, 62, 167, 255, 91, 177]
abbrev dktX3_comes_7 : List UInt8 := dkwX3_comes_7 ++ []
def dkwX3_comes_6 : List UInt8 := [180, 0, 52, 27, 50, 21, 4, 92, 46, 21, 5, 96, 79, 42, 180, 0, 58, 21, 4, 92, 46, 21, 5, 100]
abbrev dktX3_comes_6 : List UInt8 := dkwX3_comes_6 ++ dktX3_comes_7
def dkwX3_comes_5 : List UInt8 := [180, 0, 58, 21, 4, 46, 162, 0, 7, 29, 167, 0, 10, 42, 180, 0, 58, 21, 4, 46, 54, 5, 42]
abbrev dktX3_comes_5 : List UInt8 := dkwX3_comes_5 ++ dktX3_comes_6
def dkwX3_comes_4 : List UInt8 := [167, 255, 176, 21, 4, 2, 160, 0, 14, 42, 180, 0, 55, 27, 92, 46, 29, 96, 79, 177, 29, 42]
abbrev dktX3_comes_4 : List UInt8 := dkwX3_comes_4 ++ dktX3_comes_5
def dkwX3_comes_3 : List UInt8 := [180, 0, 61, 21, 4, 46, 182, 0, 245, 164, 0, 8, 21, 5, 167, 0, 5, 21, 4, 54, 4, 132, 5, 1]
abbrev dktX3_comes_3 : List UInt8 := dkwX3_comes_3 ++ dktX3_comes_4
def dkwX3_comes_2 : List UInt8 := [159, 0, 34, 42, 27, 21, 5, 42, 180, 0, 61, 21, 5, 46, 182, 0, 245, 42, 27, 21, 4, 42]
abbrev dktX3_comes_2 : List UInt8 := dkwX3_comes_2 ++ dktX3_comes_3
def dkwX3_comes_1 : List UInt8 := [180, 0, 58, 21, 5, 46, 158, 0, 7, 4, 167, 0, 4, 3, 54, 6, 21, 6, 153, 0, 45, 21, 4, 2]
abbrev dktX3_comes_1 : List UInt8 := dkwX3_comes_1 ++ dktX3_comes_2
def dkwX3_comes_0 : List UInt8 := [28, 62, 29, 158, 0, 167, 2, 54, 4, 3, 54, 5, 21, 5, 42, 180, 0, 73, 162, 0, 77, 42]
abbrev dktX3_comes_0 : List UInt8 := dkwX3_comes_0 ++ dktX3_comes_1
theorem dksX3_comes_0 : cX3_comes.data.toList.drop 0 = dktX3_comes_0 := by decide +kernel
theorem dksX3_comes_1 : cX3_comes.data.toList.drop 22 = dktX3_comes_1 := dk_seg dksX3_comes_0 22 rfl rfl
theorem dksX3_comes_2 : cX3_comes.data.toList.drop 46 = dktX3_comes_2 := dk_seg dksX3_comes_1 24 rfl rfl
theorem dksX3_comes_3 : cX3_comes.data.toList.drop 68 = dktX3_comes_3 := dk_seg dksX3_comes_2 22 rfl rfl
theorem dksX3_comes_4 : cX3_comes.data.toList.drop 92 = dktX3_comes_4 := dk_seg dksX3_comes_3 24 rfl rfl
theorem dksX3_comes_5 : cX3_comes.data.toList.drop 114 = dktX3_comes_5 := dk_seg dksX3_comes_4 22 rfl rfl
theorem dksX3_comes_6 : cX3_comes.data.toList.drop 137 = dktX3_comes_6 := dk_seg dksX3_comes_5 23 rfl rfl
theorem dksX3_comes_7 : cX3_comes.data.toList.drop 161 = dktX3_comes_7 := dk_seg dksX3_comes_6 24 rfl rfl
theorem dX3_comes_0 : decode cX3_comes 0 = .ok (.iload_n 2, 1) := dk_28 (dk_at dksX3_comes_0 0 rfl rfl)
theorem dX3_comes_1 : decode cX3_comes 1 = .ok (.istore_n 3, 1) := dk_62 (dk_at dksX3_comes_0 1 rfl rfl)
theorem dX3_comes_2 : decode cX3_comes 2 = .ok (.iload_n 3, 1) := dk_29 (dk_at dksX3_comes_0 2 rfl rfl)
theorem dX3_comes_3 : decode cX3_comes 3 = .ok (.ifCond .le 167, 3) := dk_158 0 167 (dk_at dksX3_comes_0 3 rfl rfl)
theorem dX3_comes_6 : decode cX3_comes 6 = .ok (.iconst (-1), 1) := dk_2 (dk_at dksX3_comes_0 6 rfl rfl)
theorem dX3_comes_7 : decode cX3_comes 7 = .ok (.istore 4, 2) := dk_54 4 (dk_at dksX3_comes_0 7 rfl rfl)
theorem dX3_comes_9 : decode cX3_comes 9 = .ok (.iconst 0, 1) := dk_3 (dk_at dksX3_comes_0 9 rfl rfl)
theorem dX3_comes_10 : decode cX3_comes 10 = .ok (.istore 5, 2) := dk_54 5 (dk_at dksX3_comes_0 10 rfl rfl)
theorem dX3_comes_12 : decode cX3_comes 12 = .ok (.iload 5, 2) := dk_21 5 (dk_at dksX3_comes_0 12 rfl rfl)
theorem dX3_comes_14 : decode cX3_comes 14 = .ok (.aload_n 0, 1) := dk_42 (dk_at dksX3_comes_0 14 rfl rfl)
theorem dX3_comes_15 : decode cX3_comes 15 = .ok (.getfield 73, 3) := dk_180 0 73 (dk_at dksX3_comes_0 15 rfl rfl)
theorem dX3_comes_18 : decode cX3_comes 18 = .ok (.if_icmp .ge 77, 3) := dk_162 0 77 (dk_at dksX3_comes_0 18 rfl rfl)
theorem dX3_comes_21 : decode cX3_comes 21 = .ok (.aload_n 0, 1) := dk_42 (dk_at dksX3_comes_0 21 rfl rfl)
theorem dX3_comes_22 : decode cX3_comes 22 = .ok (.getfield 58, 3) := dk_180 0 58 (dk_at dksX3_comes_1 0 rfl rfl)
theorem dX3_comes_25 : decode cX3_comes 25 = .ok (.iload 5, 2) := dk_21 5 (dk_at dksX3_comes_1 3 rfl rfl)
theorem dX3_comes_27 : decode cX3_comes 27 = .ok (.iaload, 1) := dk_46 (dk_at dksX3_comes_1 5 rfl rfl)
theorem dX3_comes_28 : decode cX3_comes 28 = .ok (.ifCond .le 7, 3) := dk_158 0 7 (dk_at dksX3_comes_1 6 rfl rfl)
theorem dX3_comes_31 : decode cX3_comes 31 = .ok (.iconst 1, 1) := dk_4 (dk_at dksX3_comes_1 9 rfl rfl)
theorem dX3_comes_32 : decode cX3_comes 32 = .ok (.goto 4, 3) := dk_167 0 4 (dk_at dksX3_comes_1 10 rfl rfl)
theorem dX3_comes_35 : decode cX3_comes 35 = .ok (.iconst 0, 1) := dk_3 (dk_at dksX3_comes_1 13 rfl rfl)
theorem dX3_comes_36 : decode cX3_comes 36 = .ok (.istore 6, 2) := dk_54 6 (dk_at dksX3_comes_1 14 rfl rfl)
theorem dX3_comes_38 : decode cX3_comes 38 = .ok (.iload 6, 2) := dk_21 6 (dk_at dksX3_comes_1 16 rfl rfl)
theorem dX3_comes_40 : decode cX3_comes 40 = .ok (.ifCond .eq 45, 3) := dk_153 0 45 (dk_at dksX3_comes_1 18 rfl rfl)
theorem dX3_comes_43 : decode cX3_comes 43 = .ok (.iload 4, 2) := dk_21 4 (dk_at dksX3_comes_1 21 rfl rfl)
theorem dX3_comes_45 : decode cX3_comes 45 = .ok (.iconst (-1), 1) := dk_2 (dk_at dksX3_comes_1 23 rfl rfl)
theorem dX3_comes_46 : decode cX3_comes 46 = .ok (.if_icmp .eq 34, 3) := dk_159 0 34 (dk_at dksX3_comes_2 0 rfl rfl)
theorem dX3_comes_49 : decode cX3_comes 49 = .ok (.aload_n 0, 1) := dk_42 (dk_at dksX3_comes_2 3 rfl rfl)
theorem dX3_comes_50 : decode cX3_comes 50 = .ok (.iload_n 1, 1) := dk_27 (dk_at dksX3_comes_2 4 rfl rfl)
theorem dX3_comes_51 : decode cX3_comes 51 = .ok (.iload 5, 2) := dk_21 5 (dk_at dksX3_comes_2 5 rfl rfl)
theorem dX3_comes_53 : decode cX3_comes 53 = .ok (.aload_n 0, 1) := dk_42 (dk_at dksX3_comes_2 7 rfl rfl)
theorem dX3_comes_54 : decode cX3_comes 54 = .ok (.getfield 61, 3) := dk_180 0 61 (dk_at dksX3_comes_2 8 rfl rfl)
theorem dX3_comes_57 : decode cX3_comes 57 = .ok (.iload 5, 2) := dk_21 5 (dk_at dksX3_comes_2 11 rfl rfl)
theorem dX3_comes_59 : decode cX3_comes 59 = .ok (.iaload, 1) := dk_46 (dk_at dksX3_comes_2 13 rfl rfl)
theorem dX3_comes_60 : decode cX3_comes 60 = .ok (.invokevirtual 245, 3) := dk_182 0 245 (dk_at dksX3_comes_2 14 rfl rfl)
theorem dX3_comes_63 : decode cX3_comes 63 = .ok (.aload_n 0, 1) := dk_42 (dk_at dksX3_comes_2 17 rfl rfl)
theorem dX3_comes_64 : decode cX3_comes 64 = .ok (.iload_n 1, 1) := dk_27 (dk_at dksX3_comes_2 18 rfl rfl)
theorem dX3_comes_65 : decode cX3_comes 65 = .ok (.iload 4, 2) := dk_21 4 (dk_at dksX3_comes_2 19 rfl rfl)
theorem dX3_comes_67 : decode cX3_comes 67 = .ok (.aload_n 0, 1) := dk_42 (dk_at dksX3_comes_2 21 rfl rfl)
theorem dX3_comes_68 : decode cX3_comes 68 = .ok (.getfield 61, 3) := dk_180 0 61 (dk_at dksX3_comes_3 0 rfl rfl)
theorem dX3_comes_71 : decode cX3_comes 71 = .ok (.iload 4, 2) := dk_21 4 (dk_at dksX3_comes_3 3 rfl rfl)
theorem dX3_comes_73 : decode cX3_comes 73 = .ok (.iaload, 1) := dk_46 (dk_at dksX3_comes_3 5 rfl rfl)
theorem dX3_comes_74 : decode cX3_comes 74 = .ok (.invokevirtual 245, 3) := dk_182 0 245 (dk_at dksX3_comes_3 6 rfl rfl)
theorem dX3_comes_77 : decode cX3_comes 77 = .ok (.if_icmp .le 8, 3) := dk_164 0 8 (dk_at dksX3_comes_3 9 rfl rfl)
theorem dX3_comes_80 : decode cX3_comes 80 = .ok (.iload 5, 2) := dk_21 5 (dk_at dksX3_comes_3 12 rfl rfl)
theorem dX3_comes_82 : decode cX3_comes 82 = .ok (.goto 5, 3) := dk_167 0 5 (dk_at dksX3_comes_3 14 rfl rfl)
theorem dX3_comes_85 : decode cX3_comes 85 = .ok (.iload 4, 2) := dk_21 4 (dk_at dksX3_comes_3 17 rfl rfl)
theorem dX3_comes_87 : decode cX3_comes 87 = .ok (.istore 4, 2) := dk_54 4 (dk_at dksX3_comes_3 19 rfl rfl)
theorem dX3_comes_89 : decode cX3_comes 89 = .ok (.iinc 5 1, 3) := dk_132 5 1 (dk_at dksX3_comes_3 21 rfl rfl)
theorem dX3_comes_92 : decode cX3_comes 92 = .ok (.goto (-80), 3) := dk_167 255 176 (dk_at dksX3_comes_4 0 rfl rfl)
theorem dX3_comes_95 : decode cX3_comes 95 = .ok (.iload 4, 2) := dk_21 4 (dk_at dksX3_comes_4 3 rfl rfl)
theorem dX3_comes_97 : decode cX3_comes 97 = .ok (.iconst (-1), 1) := dk_2 (dk_at dksX3_comes_4 5 rfl rfl)
theorem dX3_comes_98 : decode cX3_comes 98 = .ok (.if_icmp .ne 14, 3) := dk_160 0 14 (dk_at dksX3_comes_4 6 rfl rfl)
theorem dX3_comes_101 : decode cX3_comes 101 = .ok (.aload_n 0, 1) := dk_42 (dk_at dksX3_comes_4 9 rfl rfl)
theorem dX3_comes_102 : decode cX3_comes 102 = .ok (.getfield 55, 3) := dk_180 0 55 (dk_at dksX3_comes_4 10 rfl rfl)
theorem dX3_comes_105 : decode cX3_comes 105 = .ok (.iload_n 1, 1) := dk_27 (dk_at dksX3_comes_4 13 rfl rfl)
theorem dX3_comes_106 : decode cX3_comes 106 = .ok (.dup2, 1) := dk_92 (dk_at dksX3_comes_4 14 rfl rfl)
theorem dX3_comes_107 : decode cX3_comes 107 = .ok (.iaload, 1) := dk_46 (dk_at dksX3_comes_4 15 rfl rfl)
theorem dX3_comes_108 : decode cX3_comes 108 = .ok (.iload_n 3, 1) := dk_29 (dk_at dksX3_comes_4 16 rfl rfl)
theorem dX3_comes_109 : decode cX3_comes 109 = .ok (.iadd, 1) := dk_96 (dk_at dksX3_comes_4 17 rfl rfl)
theorem dX3_comes_110 : decode cX3_comes 110 = .ok (.iastore, 1) := dk_79 (dk_at dksX3_comes_4 18 rfl rfl)
theorem dX3_comes_111 : decode cX3_comes 111 = .ok (.return_, 1) := dk_177 (dk_at dksX3_comes_4 19 rfl rfl)
theorem dX3_comes_112 : decode cX3_comes 112 = .ok (.iload_n 3, 1) := dk_29 (dk_at dksX3_comes_4 20 rfl rfl)
theorem dX3_comes_113 : decode cX3_comes 113 = .ok (.aload_n 0, 1) := dk_42 (dk_at dksX3_comes_4 21 rfl rfl)
theorem dX3_comes_114 : decode cX3_comes 114 = .ok (.getfield 58, 3) := dk_180 0 58 (dk_at dksX3_comes_5 0 rfl rfl)
theorem dX3_comes_117 : decode cX3_comes 117 = .ok (.iload 4, 2) := dk_21 4 (dk_at dksX3_comes_5 3 rfl rfl)
theorem dX3_comes_119 : decode cX3_comes 119 = .ok (.iaload, 1) := dk_46 (dk_at dksX3_comes_5 5 rfl rfl)
theorem dX3_comes_120 : decode cX3_comes 120 = .ok (.if_icmp .ge 7, 3) := dk_162 0 7 (dk_at dksX3_comes_5 6 rfl rfl)
theorem dX3_comes_123 : decode cX3_comes 123 = .ok (.iload_n 3, 1) := dk_29 (dk_at dksX3_comes_5 9 rfl rfl)
theorem dX3_comes_124 : decode cX3_comes 124 = .ok (.goto 10, 3) := dk_167 0 10 (dk_at dksX3_comes_5 10 rfl rfl)
theorem dX3_comes_127 : decode cX3_comes 127 = .ok (.aload_n 0, 1) := dk_42 (dk_at dksX3_comes_5 13 rfl rfl)
theorem dX3_comes_128 : decode cX3_comes 128 = .ok (.getfield 58, 3) := dk_180 0 58 (dk_at dksX3_comes_5 14 rfl rfl)
theorem dX3_comes_131 : decode cX3_comes 131 = .ok (.iload 4, 2) := dk_21 4 (dk_at dksX3_comes_5 17 rfl rfl)
theorem dX3_comes_133 : decode cX3_comes 133 = .ok (.iaload, 1) := dk_46 (dk_at dksX3_comes_5 19 rfl rfl)
theorem dX3_comes_134 : decode cX3_comes 134 = .ok (.istore 5, 2) := dk_54 5 (dk_at dksX3_comes_5 20 rfl rfl)
theorem dX3_comes_136 : decode cX3_comes 136 = .ok (.aload_n 0, 1) := dk_42 (dk_at dksX3_comes_5 22 rfl rfl)
theorem dX3_comes_137 : decode cX3_comes 137 = .ok (.getfield 52, 3) := dk_180 0 52 (dk_at dksX3_comes_6 0 rfl rfl)
theorem dX3_comes_140 : decode cX3_comes 140 = .ok (.iload_n 1, 1) := dk_27 (dk_at dksX3_comes_6 3 rfl rfl)
theorem dX3_comes_141 : decode cX3_comes 141 = .ok (.aaload, 1) := dk_50 (dk_at dksX3_comes_6 4 rfl rfl)
theorem dX3_comes_142 : decode cX3_comes 142 = .ok (.iload 4, 2) := dk_21 4 (dk_at dksX3_comes_6 5 rfl rfl)
theorem dX3_comes_144 : decode cX3_comes 144 = .ok (.dup2, 1) := dk_92 (dk_at dksX3_comes_6 7 rfl rfl)
theorem dX3_comes_145 : decode cX3_comes 145 = .ok (.iaload, 1) := dk_46 (dk_at dksX3_comes_6 8 rfl rfl)
theorem dX3_comes_146 : decode cX3_comes 146 = .ok (.iload 5, 2) := dk_21 5 (dk_at dksX3_comes_6 9 rfl rfl)
theorem dX3_comes_148 : decode cX3_comes 148 = .ok (.iadd, 1) := dk_96 (dk_at dksX3_comes_6 11 rfl rfl)
theorem dX3_comes_149 : decode cX3_comes 149 = .ok (.iastore, 1) := dk_79 (dk_at dksX3_comes_6 12 rfl rfl)
theorem dX3_comes_150 : decode cX3_comes 150 = .ok (.aload_n 0, 1) := dk_42 (dk_at dksX3_comes_6 13 rfl rfl)
theorem dX3_comes_151 : decode cX3_comes 151 = .ok (.getfield 58, 3) := dk_180 0 58 (dk_at dksX3_comes_6 14 rfl rfl)
theorem dX3_comes_154 : decode cX3_comes 154 = .ok (.iload 4, 2) := dk_21 4 (dk_at dksX3_comes_6 17 rfl rfl)
theorem dX3_comes_156 : decode cX3_comes 156 = .ok (.dup2, 1) := dk_92 (dk_at dksX3_comes_6 19 rfl rfl)
theorem dX3_comes_157 : decode cX3_comes 157 = .ok (.iaload, 1) := dk_46 (dk_at dksX3_comes_6 20 rfl rfl)
theorem dX3_comes_158 : decode cX3_comes 158 = .ok (.iload 5, 2) := dk_21 5 (dk_at dksX3_comes_6 21 rfl rfl)
theorem dX3_comes_160 : decode cX3_comes 160 = .ok (.isub, 1) := dk_100 (dk_at dksX3_comes_6 23 rfl rfl)
theorem dX3_comes_161 : decode cX3_comes 161 = .ok (.iastore, 1) := dk_79 (dk_at dksX3_comes_7 0 rfl rfl)
theorem dX3_comes_162 : decode cX3_comes 162 = .ok (.iload_n 3, 1) := dk_29 (dk_at dksX3_comes_7 1 rfl rfl)
theorem dX3_comes_163 : decode cX3_comes 163 = .ok (.iload 5, 2) := dk_21 5 (dk_at dksX3_comes_7 2 rfl rfl)
theorem dX3_comes_165 : decode cX3_comes 165 = .ok (.isub, 1) := dk_100 (dk_at dksX3_comes_7 4 rfl rfl)
theorem dX3_comes_166 : decode cX3_comes 166 = .ok (.istore_n 3, 1) := dk_62 (dk_at dksX3_comes_7 5 rfl rfl)
theorem dX3_comes_167 : decode cX3_comes 167 = .ok (.goto (-165), 3) := dk_167 255 91 (dk_at dksX3_comes_7 6 rfl rfl)
theorem dX3_comes_170 : decode cX3_comes 170 = .ok (.return_, 1) := dk_177 (dk_at dksX3_comes_7 9 rfl rfl)
abbrev cX3_guests : ByteArray := prog_16_method_57_code
def yX3_guests : MethodName := ⟨RX3, "guests", "(I)I"⟩
def dkwX3_guests_1 : List UInt8 := [172]
abbrev dktX3_guests_1 : List UInt8 := dkwX3_guests_1 ++ []
def dkwX3_guests_0 : List UInt8 := [42, 27, 182, 0, 127, 154, 0, 10, 42, 16, 254, 182, 0, 91, 172, 42, 182, 1, 3, 42, 27, 182, 1, 6]
abbrev dktX3_guests_0 : List UInt8 := dkwX3_guests_0 ++ dktX3_guests_1
theorem dksX3_guests_0 : cX3_guests.data.toList.drop 0 = dktX3_guests_0 := by decide +kernel
theorem dksX3_guests_1 : cX3_guests.data.toList.drop 24 = dktX3_guests_1 := dk_seg dksX3_guests_0 24 rfl rfl
theorem dX3_guests_0 : decode cX3_guests 0 = .ok (.aload_n 0, 1) := dk_42 (dk_at dksX3_guests_0 0 rfl rfl)
theorem dX3_guests_1 : decode cX3_guests 1 = .ok (.iload_n 1, 1) := dk_27 (dk_at dksX3_guests_0 1 rfl rfl)
theorem dX3_guests_2 : decode cX3_guests 2 = .ok (.invokevirtual 127, 3) := dk_182 0 127 (dk_at dksX3_guests_0 2 rfl rfl)
theorem dX3_guests_5 : decode cX3_guests 5 = .ok (.ifCond .ne 10, 3) := dk_154 0 10 (dk_at dksX3_guests_0 5 rfl rfl)
theorem dX3_guests_8 : decode cX3_guests 8 = .ok (.aload_n 0, 1) := dk_42 (dk_at dksX3_guests_0 8 rfl rfl)
theorem dX3_guests_9 : decode cX3_guests 9 = .ok (.bipush (-2), 2) := dk_16 254 (dk_at dksX3_guests_0 9 rfl rfl)
theorem dX3_guests_11 : decode cX3_guests 11 = .ok (.invokevirtual 91, 3) := dk_182 0 91 (dk_at dksX3_guests_0 11 rfl rfl)
theorem dX3_guests_14 : decode cX3_guests 14 = .ok (.ireturn, 1) := dk_172 (dk_at dksX3_guests_0 14 rfl rfl)
theorem dX3_guests_15 : decode cX3_guests 15 = .ok (.aload_n 0, 1) := dk_42 (dk_at dksX3_guests_0 15 rfl rfl)
theorem dX3_guests_16 : decode cX3_guests 16 = .ok (.invokevirtual 259, 3) := dk_182 1 3 (dk_at dksX3_guests_0 16 rfl rfl)
theorem dX3_guests_19 : decode cX3_guests 19 = .ok (.aload_n 0, 1) := dk_42 (dk_at dksX3_guests_0 19 rfl rfl)
theorem dX3_guests_20 : decode cX3_guests 20 = .ok (.iload_n 1, 1) := dk_27 (dk_at dksX3_guests_0 20 rfl rfl)
theorem dX3_guests_21 : decode cX3_guests 21 = .ok (.invokevirtual 262, 3) := dk_182 1 6 (dk_at dksX3_guests_0 21 rfl rfl)
theorem dX3_guests_24 : decode cX3_guests 24 = .ok (.ireturn, 1) := dk_172 (dk_at dksX3_guests_1 0 rfl rfl)
abbrev cX3_headsIn : ByteArray := prog_16_method_55_code
def yX3_headsIn : MethodName := ⟨RX3, "headsIn", "(I)I"⟩
def dkwX3_headsIn_1 : List UInt8 := [132, 3, 1, 167, 255, 234, 28, 172]
abbrev dktX3_headsIn_1 : List UInt8 := dkwX3_headsIn_1 ++ []
def dkwX3_headsIn_0 : List UInt8 := [3, 61, 3, 62, 29, 42, 180, 0, 80, 162, 0, 20, 28, 42, 180, 0, 52, 29, 50, 27, 46, 96, 61]
abbrev dktX3_headsIn_0 : List UInt8 := dkwX3_headsIn_0 ++ dktX3_headsIn_1
theorem dksX3_headsIn_0 : cX3_headsIn.data.toList.drop 0 = dktX3_headsIn_0 := by decide +kernel
theorem dksX3_headsIn_1 : cX3_headsIn.data.toList.drop 23 = dktX3_headsIn_1 := dk_seg dksX3_headsIn_0 23 rfl rfl
theorem dX3_headsIn_0 : decode cX3_headsIn 0 = .ok (.iconst 0, 1) := dk_3 (dk_at dksX3_headsIn_0 0 rfl rfl)
theorem dX3_headsIn_1 : decode cX3_headsIn 1 = .ok (.istore_n 2, 1) := dk_61 (dk_at dksX3_headsIn_0 1 rfl rfl)
theorem dX3_headsIn_2 : decode cX3_headsIn 2 = .ok (.iconst 0, 1) := dk_3 (dk_at dksX3_headsIn_0 2 rfl rfl)
theorem dX3_headsIn_3 : decode cX3_headsIn 3 = .ok (.istore_n 3, 1) := dk_62 (dk_at dksX3_headsIn_0 3 rfl rfl)
theorem dX3_headsIn_4 : decode cX3_headsIn 4 = .ok (.iload_n 3, 1) := dk_29 (dk_at dksX3_headsIn_0 4 rfl rfl)
theorem dX3_headsIn_5 : decode cX3_headsIn 5 = .ok (.aload_n 0, 1) := dk_42 (dk_at dksX3_headsIn_0 5 rfl rfl)
theorem dX3_headsIn_6 : decode cX3_headsIn 6 = .ok (.getfield 80, 3) := dk_180 0 80 (dk_at dksX3_headsIn_0 6 rfl rfl)
theorem dX3_headsIn_9 : decode cX3_headsIn 9 = .ok (.if_icmp .ge 20, 3) := dk_162 0 20 (dk_at dksX3_headsIn_0 9 rfl rfl)
theorem dX3_headsIn_12 : decode cX3_headsIn 12 = .ok (.iload_n 2, 1) := dk_28 (dk_at dksX3_headsIn_0 12 rfl rfl)
theorem dX3_headsIn_13 : decode cX3_headsIn 13 = .ok (.aload_n 0, 1) := dk_42 (dk_at dksX3_headsIn_0 13 rfl rfl)
theorem dX3_headsIn_14 : decode cX3_headsIn 14 = .ok (.getfield 52, 3) := dk_180 0 52 (dk_at dksX3_headsIn_0 14 rfl rfl)
theorem dX3_headsIn_17 : decode cX3_headsIn 17 = .ok (.iload_n 3, 1) := dk_29 (dk_at dksX3_headsIn_0 17 rfl rfl)
theorem dX3_headsIn_18 : decode cX3_headsIn 18 = .ok (.aaload, 1) := dk_50 (dk_at dksX3_headsIn_0 18 rfl rfl)
theorem dX3_headsIn_19 : decode cX3_headsIn 19 = .ok (.iload_n 1, 1) := dk_27 (dk_at dksX3_headsIn_0 19 rfl rfl)
theorem dX3_headsIn_20 : decode cX3_headsIn 20 = .ok (.iaload, 1) := dk_46 (dk_at dksX3_headsIn_0 20 rfl rfl)
theorem dX3_headsIn_21 : decode cX3_headsIn 21 = .ok (.iadd, 1) := dk_96 (dk_at dksX3_headsIn_0 21 rfl rfl)
theorem dX3_headsIn_22 : decode cX3_headsIn 22 = .ok (.istore_n 2, 1) := dk_61 (dk_at dksX3_headsIn_0 22 rfl rfl)
theorem dX3_headsIn_23 : decode cX3_headsIn 23 = .ok (.iinc 3 1, 3) := dk_132 3 1 (dk_at dksX3_headsIn_1 0 rfl rfl)
theorem dX3_headsIn_26 : decode cX3_headsIn 26 = .ok (.goto (-22), 3) := dk_167 255 234 (dk_at dksX3_headsIn_1 3 rfl rfl)
theorem dX3_headsIn_29 : decode cX3_headsIn 29 = .ok (.iload_n 2, 1) := dk_28 (dk_at dksX3_headsIn_1 6 rfl rfl)
theorem dX3_headsIn_30 : decode cX3_headsIn 30 = .ok (.ireturn, 1) := dk_172 (dk_at dksX3_headsIn_1 7 rfl rfl)
abbrev cX3_out : ByteArray := prog_16_method_58_code
def yX3_out : MethodName := ⟨RX3, "out", "(I)I"⟩
def dkwX3_out_2 : List UInt8 := [180, 0, 55, 29, 46, 167, 0, 4, 3, 96, 61, 132, 3, 1, 167, 255, 222, 28, 172]
abbrev dktX3_out_2 : List UInt8 := dkwX3_out_2 ++ []
def dkwX3_out_1 : List UInt8 := [3, 61, 3, 62, 29, 42, 180, 0, 80, 162, 0, 32, 28, 27, 2, 159, 0, 8, 29, 27, 160, 0, 12, 42]
abbrev dktX3_out_1 : List UInt8 := dkwX3_out_1 ++ dktX3_out_2
def dkwX3_out_0 : List UInt8 := [27, 2, 159, 0, 18, 42, 27, 182, 0, 102, 154, 0, 10, 42, 16, 254, 182, 0, 91, 172, 42, 182, 1, 3]
abbrev dktX3_out_0 : List UInt8 := dkwX3_out_0 ++ dktX3_out_1
theorem dksX3_out_0 : cX3_out.data.toList.drop 0 = dktX3_out_0 := by decide +kernel
theorem dksX3_out_1 : cX3_out.data.toList.drop 24 = dktX3_out_1 := dk_seg dksX3_out_0 24 rfl rfl
theorem dksX3_out_2 : cX3_out.data.toList.drop 48 = dktX3_out_2 := dk_seg dksX3_out_1 24 rfl rfl
theorem dX3_out_0 : decode cX3_out 0 = .ok (.iload_n 1, 1) := dk_27 (dk_at dksX3_out_0 0 rfl rfl)
theorem dX3_out_1 : decode cX3_out 1 = .ok (.iconst (-1), 1) := dk_2 (dk_at dksX3_out_0 1 rfl rfl)
theorem dX3_out_2 : decode cX3_out 2 = .ok (.if_icmp .eq 18, 3) := dk_159 0 18 (dk_at dksX3_out_0 2 rfl rfl)
theorem dX3_out_5 : decode cX3_out 5 = .ok (.aload_n 0, 1) := dk_42 (dk_at dksX3_out_0 5 rfl rfl)
theorem dX3_out_6 : decode cX3_out 6 = .ok (.iload_n 1, 1) := dk_27 (dk_at dksX3_out_0 6 rfl rfl)
theorem dX3_out_7 : decode cX3_out 7 = .ok (.invokevirtual 102, 3) := dk_182 0 102 (dk_at dksX3_out_0 7 rfl rfl)
theorem dX3_out_10 : decode cX3_out 10 = .ok (.ifCond .ne 10, 3) := dk_154 0 10 (dk_at dksX3_out_0 10 rfl rfl)
theorem dX3_out_13 : decode cX3_out 13 = .ok (.aload_n 0, 1) := dk_42 (dk_at dksX3_out_0 13 rfl rfl)
theorem dX3_out_14 : decode cX3_out 14 = .ok (.bipush (-2), 2) := dk_16 254 (dk_at dksX3_out_0 14 rfl rfl)
theorem dX3_out_16 : decode cX3_out 16 = .ok (.invokevirtual 91, 3) := dk_182 0 91 (dk_at dksX3_out_0 16 rfl rfl)
theorem dX3_out_19 : decode cX3_out 19 = .ok (.ireturn, 1) := dk_172 (dk_at dksX3_out_0 19 rfl rfl)
theorem dX3_out_20 : decode cX3_out 20 = .ok (.aload_n 0, 1) := dk_42 (dk_at dksX3_out_0 20 rfl rfl)
theorem dX3_out_21 : decode cX3_out 21 = .ok (.invokevirtual 259, 3) := dk_182 1 3 (dk_at dksX3_out_0 21 rfl rfl)
theorem dX3_out_24 : decode cX3_out 24 = .ok (.iconst 0, 1) := dk_3 (dk_at dksX3_out_1 0 rfl rfl)
theorem dX3_out_25 : decode cX3_out 25 = .ok (.istore_n 2, 1) := dk_61 (dk_at dksX3_out_1 1 rfl rfl)
theorem dX3_out_26 : decode cX3_out 26 = .ok (.iconst 0, 1) := dk_3 (dk_at dksX3_out_1 2 rfl rfl)
theorem dX3_out_27 : decode cX3_out 27 = .ok (.istore_n 3, 1) := dk_62 (dk_at dksX3_out_1 3 rfl rfl)
theorem dX3_out_28 : decode cX3_out 28 = .ok (.iload_n 3, 1) := dk_29 (dk_at dksX3_out_1 4 rfl rfl)
theorem dX3_out_29 : decode cX3_out 29 = .ok (.aload_n 0, 1) := dk_42 (dk_at dksX3_out_1 5 rfl rfl)
theorem dX3_out_30 : decode cX3_out 30 = .ok (.getfield 80, 3) := dk_180 0 80 (dk_at dksX3_out_1 6 rfl rfl)
theorem dX3_out_33 : decode cX3_out 33 = .ok (.if_icmp .ge 32, 3) := dk_162 0 32 (dk_at dksX3_out_1 9 rfl rfl)
theorem dX3_out_36 : decode cX3_out 36 = .ok (.iload_n 2, 1) := dk_28 (dk_at dksX3_out_1 12 rfl rfl)
theorem dX3_out_37 : decode cX3_out 37 = .ok (.iload_n 1, 1) := dk_27 (dk_at dksX3_out_1 13 rfl rfl)
theorem dX3_out_38 : decode cX3_out 38 = .ok (.iconst (-1), 1) := dk_2 (dk_at dksX3_out_1 14 rfl rfl)
theorem dX3_out_39 : decode cX3_out 39 = .ok (.if_icmp .eq 8, 3) := dk_159 0 8 (dk_at dksX3_out_1 15 rfl rfl)
theorem dX3_out_42 : decode cX3_out 42 = .ok (.iload_n 3, 1) := dk_29 (dk_at dksX3_out_1 18 rfl rfl)
theorem dX3_out_43 : decode cX3_out 43 = .ok (.iload_n 1, 1) := dk_27 (dk_at dksX3_out_1 19 rfl rfl)
theorem dX3_out_44 : decode cX3_out 44 = .ok (.if_icmp .ne 12, 3) := dk_160 0 12 (dk_at dksX3_out_1 20 rfl rfl)
theorem dX3_out_47 : decode cX3_out 47 = .ok (.aload_n 0, 1) := dk_42 (dk_at dksX3_out_1 23 rfl rfl)
theorem dX3_out_48 : decode cX3_out 48 = .ok (.getfield 55, 3) := dk_180 0 55 (dk_at dksX3_out_2 0 rfl rfl)
theorem dX3_out_51 : decode cX3_out 51 = .ok (.iload_n 3, 1) := dk_29 (dk_at dksX3_out_2 3 rfl rfl)
theorem dX3_out_52 : decode cX3_out 52 = .ok (.iaload, 1) := dk_46 (dk_at dksX3_out_2 4 rfl rfl)
theorem dX3_out_53 : decode cX3_out 53 = .ok (.goto 4, 3) := dk_167 0 4 (dk_at dksX3_out_2 5 rfl rfl)
theorem dX3_out_56 : decode cX3_out 56 = .ok (.iconst 0, 1) := dk_3 (dk_at dksX3_out_2 8 rfl rfl)
theorem dX3_out_57 : decode cX3_out 57 = .ok (.iadd, 1) := dk_96 (dk_at dksX3_out_2 9 rfl rfl)
theorem dX3_out_58 : decode cX3_out 58 = .ok (.istore_n 2, 1) := dk_61 (dk_at dksX3_out_2 10 rfl rfl)
theorem dX3_out_59 : decode cX3_out 59 = .ok (.iinc 3 1, 3) := dk_132 3 1 (dk_at dksX3_out_2 11 rfl rfl)
theorem dX3_out_62 : decode cX3_out 62 = .ok (.goto (-34), 3) := dk_167 255 222 (dk_at dksX3_out_2 14 rfl rfl)
theorem dX3_out_65 : decode cX3_out 65 = .ok (.iload_n 2, 1) := dk_28 (dk_at dksX3_out_2 17 rfl rfl)
theorem dX3_out_66 : decode cX3_out 66 = .ok (.ireturn, 1) := dk_172 (dk_at dksX3_out_2 18 rfl rfl)
abbrev cX3_full : ByteArray := prog_16_method_59_code
def yX3_full : MethodName := ⟨RX3, "full", "()I"⟩
def dkwX3_full_1 : List UInt8 := [154, 0, 9, 4, 28, 120, 167, 0, 4, 3, 128, 60, 132, 2, 1, 167, 255, 226, 27, 172]
abbrev dktX3_full_1 : List UInt8 := dkwX3_full_1 ++ []
def dkwX3_full_0 : List UInt8 := [42, 182, 1, 3, 3, 60, 3, 61, 28, 42, 180, 0, 73, 162, 0, 28, 27, 42, 180, 0, 58, 28, 46]
abbrev dktX3_full_0 : List UInt8 := dkwX3_full_0 ++ dktX3_full_1
theorem dksX3_full_0 : cX3_full.data.toList.drop 0 = dktX3_full_0 := by decide +kernel
theorem dksX3_full_1 : cX3_full.data.toList.drop 23 = dktX3_full_1 := dk_seg dksX3_full_0 23 rfl rfl
theorem dX3_full_0 : decode cX3_full 0 = .ok (.aload_n 0, 1) := dk_42 (dk_at dksX3_full_0 0 rfl rfl)
theorem dX3_full_1 : decode cX3_full 1 = .ok (.invokevirtual 259, 3) := dk_182 1 3 (dk_at dksX3_full_0 1 rfl rfl)
theorem dX3_full_4 : decode cX3_full 4 = .ok (.iconst 0, 1) := dk_3 (dk_at dksX3_full_0 4 rfl rfl)
theorem dX3_full_5 : decode cX3_full 5 = .ok (.istore_n 1, 1) := dk_60 (dk_at dksX3_full_0 5 rfl rfl)
theorem dX3_full_6 : decode cX3_full 6 = .ok (.iconst 0, 1) := dk_3 (dk_at dksX3_full_0 6 rfl rfl)
theorem dX3_full_7 : decode cX3_full 7 = .ok (.istore_n 2, 1) := dk_61 (dk_at dksX3_full_0 7 rfl rfl)
theorem dX3_full_8 : decode cX3_full 8 = .ok (.iload_n 2, 1) := dk_28 (dk_at dksX3_full_0 8 rfl rfl)
theorem dX3_full_9 : decode cX3_full 9 = .ok (.aload_n 0, 1) := dk_42 (dk_at dksX3_full_0 9 rfl rfl)
theorem dX3_full_10 : decode cX3_full 10 = .ok (.getfield 73, 3) := dk_180 0 73 (dk_at dksX3_full_0 10 rfl rfl)
theorem dX3_full_13 : decode cX3_full 13 = .ok (.if_icmp .ge 28, 3) := dk_162 0 28 (dk_at dksX3_full_0 13 rfl rfl)
theorem dX3_full_16 : decode cX3_full 16 = .ok (.iload_n 1, 1) := dk_27 (dk_at dksX3_full_0 16 rfl rfl)
theorem dX3_full_17 : decode cX3_full 17 = .ok (.aload_n 0, 1) := dk_42 (dk_at dksX3_full_0 17 rfl rfl)
theorem dX3_full_18 : decode cX3_full 18 = .ok (.getfield 58, 3) := dk_180 0 58 (dk_at dksX3_full_0 18 rfl rfl)
theorem dX3_full_21 : decode cX3_full 21 = .ok (.iload_n 2, 1) := dk_28 (dk_at dksX3_full_0 21 rfl rfl)
theorem dX3_full_22 : decode cX3_full 22 = .ok (.iaload, 1) := dk_46 (dk_at dksX3_full_0 22 rfl rfl)
theorem dX3_full_23 : decode cX3_full 23 = .ok (.ifCond .ne 9, 3) := dk_154 0 9 (dk_at dksX3_full_1 0 rfl rfl)
theorem dX3_full_26 : decode cX3_full 26 = .ok (.iconst 1, 1) := dk_4 (dk_at dksX3_full_1 3 rfl rfl)
theorem dX3_full_27 : decode cX3_full 27 = .ok (.iload_n 2, 1) := dk_28 (dk_at dksX3_full_1 4 rfl rfl)
theorem dX3_full_28 : decode cX3_full 28 = .ok (.ishl, 1) := dk_120 (dk_at dksX3_full_1 5 rfl rfl)
theorem dX3_full_29 : decode cX3_full 29 = .ok (.goto 4, 3) := dk_167 0 4 (dk_at dksX3_full_1 6 rfl rfl)
theorem dX3_full_32 : decode cX3_full 32 = .ok (.iconst 0, 1) := dk_3 (dk_at dksX3_full_1 9 rfl rfl)
theorem dX3_full_33 : decode cX3_full 33 = .ok (.ior, 1) := dk_128 (dk_at dksX3_full_1 10 rfl rfl)
theorem dX3_full_34 : decode cX3_full 34 = .ok (.istore_n 1, 1) := dk_60 (dk_at dksX3_full_1 11 rfl rfl)
theorem dX3_full_35 : decode cX3_full 35 = .ok (.iinc 2 1, 3) := dk_132 2 1 (dk_at dksX3_full_1 12 rfl rfl)
theorem dX3_full_38 : decode cX3_full 38 = .ok (.goto (-30), 3) := dk_167 255 226 (dk_at dksX3_full_1 15 rfl rfl)
theorem dX3_full_41 : decode cX3_full 41 = .ok (.iload_n 1, 1) := dk_27 (dk_at dksX3_full_1 18 rfl rfl)
theorem dX3_full_42 : decode cX3_full 42 = .ok (.ireturn, 1) := dk_172 (dk_at dksX3_full_1 19 rfl rfl)
abbrev cX3_joy : ByteArray := prog_16_method_62_code
def yX3_joy : MethodName := ⟨RX3, "joy", "(I)I"⟩
def dkwX3_joy_1 : List UInt8 := [182, 1, 3, 42, 27, 182, 1, 12, 172]
abbrev dktX3_joy_1 : List UInt8 := dkwX3_joy_1 ++ []
def dkwX3_joy_0 : List UInt8 := [27, 2, 159, 0, 21, 42, 27, 182, 0, 102, 154, 0, 13, 18, 252, 42, 16, 254, 182, 0, 91, 96, 172, 42]
abbrev dktX3_joy_0 : List UInt8 := dkwX3_joy_0 ++ dktX3_joy_1
theorem dksX3_joy_0 : cX3_joy.data.toList.drop 0 = dktX3_joy_0 := by decide +kernel
theorem dksX3_joy_1 : cX3_joy.data.toList.drop 24 = dktX3_joy_1 := dk_seg dksX3_joy_0 24 rfl rfl
theorem dX3_joy_0 : decode cX3_joy 0 = .ok (.iload_n 1, 1) := dk_27 (dk_at dksX3_joy_0 0 rfl rfl)
theorem dX3_joy_1 : decode cX3_joy 1 = .ok (.iconst (-1), 1) := dk_2 (dk_at dksX3_joy_0 1 rfl rfl)
theorem dX3_joy_2 : decode cX3_joy 2 = .ok (.if_icmp .eq 21, 3) := dk_159 0 21 (dk_at dksX3_joy_0 2 rfl rfl)
theorem dX3_joy_5 : decode cX3_joy 5 = .ok (.aload_n 0, 1) := dk_42 (dk_at dksX3_joy_0 5 rfl rfl)
theorem dX3_joy_6 : decode cX3_joy 6 = .ok (.iload_n 1, 1) := dk_27 (dk_at dksX3_joy_0 6 rfl rfl)
theorem dX3_joy_7 : decode cX3_joy 7 = .ok (.invokevirtual 102, 3) := dk_182 0 102 (dk_at dksX3_joy_0 7 rfl rfl)
theorem dX3_joy_10 : decode cX3_joy 10 = .ok (.ifCond .ne 13, 3) := dk_154 0 13 (dk_at dksX3_joy_0 10 rfl rfl)
theorem dX3_joy_13 : decode cX3_joy 13 = .ok (.ldc 252, 2) := dk_18 252 (dk_at dksX3_joy_0 13 rfl rfl)
theorem dX3_joy_15 : decode cX3_joy 15 = .ok (.aload_n 0, 1) := dk_42 (dk_at dksX3_joy_0 15 rfl rfl)
theorem dX3_joy_16 : decode cX3_joy 16 = .ok (.bipush (-2), 2) := dk_16 254 (dk_at dksX3_joy_0 16 rfl rfl)
theorem dX3_joy_18 : decode cX3_joy 18 = .ok (.invokevirtual 91, 3) := dk_182 0 91 (dk_at dksX3_joy_0 18 rfl rfl)
theorem dX3_joy_21 : decode cX3_joy 21 = .ok (.iadd, 1) := dk_96 (dk_at dksX3_joy_0 21 rfl rfl)
theorem dX3_joy_22 : decode cX3_joy 22 = .ok (.ireturn, 1) := dk_172 (dk_at dksX3_joy_0 22 rfl rfl)
theorem dX3_joy_23 : decode cX3_joy 23 = .ok (.aload_n 0, 1) := dk_42 (dk_at dksX3_joy_0 23 rfl rfl)
theorem dX3_joy_24 : decode cX3_joy 24 = .ok (.invokevirtual 259, 3) := dk_182 1 3 (dk_at dksX3_joy_1 0 rfl rfl)
theorem dX3_joy_27 : decode cX3_joy 27 = .ok (.aload_n 0, 1) := dk_42 (dk_at dksX3_joy_1 3 rfl rfl)
theorem dX3_joy_28 : decode cX3_joy 28 = .ok (.iload_n 1, 1) := dk_27 (dk_at dksX3_joy_1 4 rfl rfl)
theorem dX3_joy_29 : decode cX3_joy 29 = .ok (.invokevirtual 268, 3) := dk_182 1 12 (dk_at dksX3_joy_1 5 rfl rfl)
theorem dX3_joy_32 : decode cX3_joy 32 = .ok (.ireturn, 1) := dk_172 (dk_at dksX3_joy_1 8 rfl rfl)
abbrev cX3_joyBy : ByteArray := prog_16_method_61_code
def yX3_joyBy : MethodName := ⟨RX3, "joyBy", "(I)I"⟩
def dkwX3_joyBy_1 : List UInt8 := [29, 182, 1, 9, 167, 0, 4, 3, 96, 61, 132, 3, 1, 167, 255, 223, 28, 172]
abbrev dktX3_joyBy_1 : List UInt8 := dkwX3_joyBy_1 ++ []
def dkwX3_joyBy_0 : List UInt8 := [3, 61, 3, 62, 29, 42, 180, 0, 80, 162, 0, 31, 28, 27, 2, 159, 0, 8, 29, 27, 160, 0, 11, 42]
abbrev dktX3_joyBy_0 : List UInt8 := dkwX3_joyBy_0 ++ dktX3_joyBy_1
theorem dksX3_joyBy_0 : cX3_joyBy.data.toList.drop 0 = dktX3_joyBy_0 := by decide +kernel
theorem dksX3_joyBy_1 : cX3_joyBy.data.toList.drop 24 = dktX3_joyBy_1 := dk_seg dksX3_joyBy_0 24 rfl rfl
theorem dX3_joyBy_0 : decode cX3_joyBy 0 = .ok (.iconst 0, 1) := dk_3 (dk_at dksX3_joyBy_0 0 rfl rfl)
theorem dX3_joyBy_1 : decode cX3_joyBy 1 = .ok (.istore_n 2, 1) := dk_61 (dk_at dksX3_joyBy_0 1 rfl rfl)
theorem dX3_joyBy_2 : decode cX3_joyBy 2 = .ok (.iconst 0, 1) := dk_3 (dk_at dksX3_joyBy_0 2 rfl rfl)
theorem dX3_joyBy_3 : decode cX3_joyBy 3 = .ok (.istore_n 3, 1) := dk_62 (dk_at dksX3_joyBy_0 3 rfl rfl)
theorem dX3_joyBy_4 : decode cX3_joyBy 4 = .ok (.iload_n 3, 1) := dk_29 (dk_at dksX3_joyBy_0 4 rfl rfl)
theorem dX3_joyBy_5 : decode cX3_joyBy 5 = .ok (.aload_n 0, 1) := dk_42 (dk_at dksX3_joyBy_0 5 rfl rfl)
theorem dX3_joyBy_6 : decode cX3_joyBy 6 = .ok (.getfield 80, 3) := dk_180 0 80 (dk_at dksX3_joyBy_0 6 rfl rfl)
theorem dX3_joyBy_9 : decode cX3_joyBy 9 = .ok (.if_icmp .ge 31, 3) := dk_162 0 31 (dk_at dksX3_joyBy_0 9 rfl rfl)
theorem dX3_joyBy_12 : decode cX3_joyBy 12 = .ok (.iload_n 2, 1) := dk_28 (dk_at dksX3_joyBy_0 12 rfl rfl)
theorem dX3_joyBy_13 : decode cX3_joyBy 13 = .ok (.iload_n 1, 1) := dk_27 (dk_at dksX3_joyBy_0 13 rfl rfl)
theorem dX3_joyBy_14 : decode cX3_joyBy 14 = .ok (.iconst (-1), 1) := dk_2 (dk_at dksX3_joyBy_0 14 rfl rfl)
theorem dX3_joyBy_15 : decode cX3_joyBy 15 = .ok (.if_icmp .eq 8, 3) := dk_159 0 8 (dk_at dksX3_joyBy_0 15 rfl rfl)
theorem dX3_joyBy_18 : decode cX3_joyBy 18 = .ok (.iload_n 3, 1) := dk_29 (dk_at dksX3_joyBy_0 18 rfl rfl)
theorem dX3_joyBy_19 : decode cX3_joyBy 19 = .ok (.iload_n 1, 1) := dk_27 (dk_at dksX3_joyBy_0 19 rfl rfl)
theorem dX3_joyBy_20 : decode cX3_joyBy 20 = .ok (.if_icmp .ne 11, 3) := dk_160 0 11 (dk_at dksX3_joyBy_0 20 rfl rfl)
theorem dX3_joyBy_23 : decode cX3_joyBy 23 = .ok (.aload_n 0, 1) := dk_42 (dk_at dksX3_joyBy_0 23 rfl rfl)
theorem dX3_joyBy_24 : decode cX3_joyBy 24 = .ok (.iload_n 3, 1) := dk_29 (dk_at dksX3_joyBy_1 0 rfl rfl)
theorem dX3_joyBy_25 : decode cX3_joyBy 25 = .ok (.invokevirtual 265, 3) := dk_182 1 9 (dk_at dksX3_joyBy_1 1 rfl rfl)
theorem dX3_joyBy_28 : decode cX3_joyBy 28 = .ok (.goto 4, 3) := dk_167 0 4 (dk_at dksX3_joyBy_1 4 rfl rfl)
theorem dX3_joyBy_31 : decode cX3_joyBy 31 = .ok (.iconst 0, 1) := dk_3 (dk_at dksX3_joyBy_1 7 rfl rfl)
theorem dX3_joyBy_32 : decode cX3_joyBy 32 = .ok (.iadd, 1) := dk_96 (dk_at dksX3_joyBy_1 8 rfl rfl)
theorem dX3_joyBy_33 : decode cX3_joyBy 33 = .ok (.istore_n 2, 1) := dk_61 (dk_at dksX3_joyBy_1 9 rfl rfl)
theorem dX3_joyBy_34 : decode cX3_joyBy 34 = .ok (.iinc 3 1, 3) := dk_132 3 1 (dk_at dksX3_joyBy_1 10 rfl rfl)
theorem dX3_joyBy_37 : decode cX3_joyBy 37 = .ok (.goto (-33), 3) := dk_167 255 223 (dk_at dksX3_joyBy_1 13 rfl rfl)
theorem dX3_joyBy_40 : decode cX3_joyBy 40 = .ok (.iload_n 2, 1) := dk_28 (dk_at dksX3_joyBy_1 16 rfl rfl)
theorem dX3_joyBy_41 : decode cX3_joyBy 41 = .ok (.ireturn, 1) := dk_172 (dk_at dksX3_joyBy_1 17 rfl rfl)
abbrev cX3_joyOf : ByteArray := prog_16_method_60_code
def yX3_joyOf : MethodName := ⟨RX3, "joyOf", "(I)I"⟩
def dkwX3_joyOf_3 : List UInt8 := [167, 255, 200, 28, 172]
abbrev dktX3_joyOf_3 : List UInt8 := dkwX3_joyOf_3 ++ []
def dkwX3_joyOf_2 : List UInt8 := [42, 180, 0, 58, 29, 46, 154, 0, 8, 16, 20, 167, 0, 4, 3, 100, 104, 96, 61, 132, 3, 1]
abbrev dktX3_joyOf_2 : List UInt8 := dkwX3_joyOf_2 ++ dktX3_joyOf_3
def dkwX3_joyOf_1 : List UInt8 := [180, 0, 52, 27, 50, 29, 46, 42, 180, 0, 39, 29, 50, 3, 46, 42, 180, 0, 39, 29, 50, 6, 46, 100]
abbrev dktX3_joyOf_1 : List UInt8 := dkwX3_joyOf_1 ++ dktX3_joyOf_2
def dkwX3_joyOf_0 : List UInt8 := [16, 226, 42, 180, 0, 55, 27, 46, 104, 61, 3, 62, 29, 42, 180, 0, 73, 162, 0, 54, 28, 42]
abbrev dktX3_joyOf_0 : List UInt8 := dkwX3_joyOf_0 ++ dktX3_joyOf_1
theorem dksX3_joyOf_0 : cX3_joyOf.data.toList.drop 0 = dktX3_joyOf_0 := by decide +kernel
theorem dksX3_joyOf_1 : cX3_joyOf.data.toList.drop 22 = dktX3_joyOf_1 := dk_seg dksX3_joyOf_0 22 rfl rfl
theorem dksX3_joyOf_2 : cX3_joyOf.data.toList.drop 46 = dktX3_joyOf_2 := dk_seg dksX3_joyOf_1 24 rfl rfl
theorem dksX3_joyOf_3 : cX3_joyOf.data.toList.drop 68 = dktX3_joyOf_3 := dk_seg dksX3_joyOf_2 22 rfl rfl
theorem dX3_joyOf_0 : decode cX3_joyOf 0 = .ok (.bipush (-30), 2) := dk_16 226 (dk_at dksX3_joyOf_0 0 rfl rfl)
theorem dX3_joyOf_2 : decode cX3_joyOf 2 = .ok (.aload_n 0, 1) := dk_42 (dk_at dksX3_joyOf_0 2 rfl rfl)
theorem dX3_joyOf_3 : decode cX3_joyOf 3 = .ok (.getfield 55, 3) := dk_180 0 55 (dk_at dksX3_joyOf_0 3 rfl rfl)
theorem dX3_joyOf_6 : decode cX3_joyOf 6 = .ok (.iload_n 1, 1) := dk_27 (dk_at dksX3_joyOf_0 6 rfl rfl)
theorem dX3_joyOf_7 : decode cX3_joyOf 7 = .ok (.iaload, 1) := dk_46 (dk_at dksX3_joyOf_0 7 rfl rfl)
theorem dX3_joyOf_8 : decode cX3_joyOf 8 = .ok (.imul, 1) := dk_104 (dk_at dksX3_joyOf_0 8 rfl rfl)
theorem dX3_joyOf_9 : decode cX3_joyOf 9 = .ok (.istore_n 2, 1) := dk_61 (dk_at dksX3_joyOf_0 9 rfl rfl)
theorem dX3_joyOf_10 : decode cX3_joyOf 10 = .ok (.iconst 0, 1) := dk_3 (dk_at dksX3_joyOf_0 10 rfl rfl)
theorem dX3_joyOf_11 : decode cX3_joyOf 11 = .ok (.istore_n 3, 1) := dk_62 (dk_at dksX3_joyOf_0 11 rfl rfl)
theorem dX3_joyOf_12 : decode cX3_joyOf 12 = .ok (.iload_n 3, 1) := dk_29 (dk_at dksX3_joyOf_0 12 rfl rfl)
theorem dX3_joyOf_13 : decode cX3_joyOf 13 = .ok (.aload_n 0, 1) := dk_42 (dk_at dksX3_joyOf_0 13 rfl rfl)
theorem dX3_joyOf_14 : decode cX3_joyOf 14 = .ok (.getfield 73, 3) := dk_180 0 73 (dk_at dksX3_joyOf_0 14 rfl rfl)
theorem dX3_joyOf_17 : decode cX3_joyOf 17 = .ok (.if_icmp .ge 54, 3) := dk_162 0 54 (dk_at dksX3_joyOf_0 17 rfl rfl)
theorem dX3_joyOf_20 : decode cX3_joyOf 20 = .ok (.iload_n 2, 1) := dk_28 (dk_at dksX3_joyOf_0 20 rfl rfl)
theorem dX3_joyOf_21 : decode cX3_joyOf 21 = .ok (.aload_n 0, 1) := dk_42 (dk_at dksX3_joyOf_0 21 rfl rfl)
theorem dX3_joyOf_22 : decode cX3_joyOf 22 = .ok (.getfield 52, 3) := dk_180 0 52 (dk_at dksX3_joyOf_1 0 rfl rfl)
theorem dX3_joyOf_25 : decode cX3_joyOf 25 = .ok (.iload_n 1, 1) := dk_27 (dk_at dksX3_joyOf_1 3 rfl rfl)
theorem dX3_joyOf_26 : decode cX3_joyOf 26 = .ok (.aaload, 1) := dk_50 (dk_at dksX3_joyOf_1 4 rfl rfl)
theorem dX3_joyOf_27 : decode cX3_joyOf 27 = .ok (.iload_n 3, 1) := dk_29 (dk_at dksX3_joyOf_1 5 rfl rfl)
theorem dX3_joyOf_28 : decode cX3_joyOf 28 = .ok (.iaload, 1) := dk_46 (dk_at dksX3_joyOf_1 6 rfl rfl)
theorem dX3_joyOf_29 : decode cX3_joyOf 29 = .ok (.aload_n 0, 1) := dk_42 (dk_at dksX3_joyOf_1 7 rfl rfl)
theorem dX3_joyOf_30 : decode cX3_joyOf 30 = .ok (.getfield 39, 3) := dk_180 0 39 (dk_at dksX3_joyOf_1 8 rfl rfl)
theorem dX3_joyOf_33 : decode cX3_joyOf 33 = .ok (.iload_n 3, 1) := dk_29 (dk_at dksX3_joyOf_1 11 rfl rfl)
theorem dX3_joyOf_34 : decode cX3_joyOf 34 = .ok (.aaload, 1) := dk_50 (dk_at dksX3_joyOf_1 12 rfl rfl)
theorem dX3_joyOf_35 : decode cX3_joyOf 35 = .ok (.iconst 0, 1) := dk_3 (dk_at dksX3_joyOf_1 13 rfl rfl)
theorem dX3_joyOf_36 : decode cX3_joyOf 36 = .ok (.iaload, 1) := dk_46 (dk_at dksX3_joyOf_1 14 rfl rfl)
theorem dX3_joyOf_37 : decode cX3_joyOf 37 = .ok (.aload_n 0, 1) := dk_42 (dk_at dksX3_joyOf_1 15 rfl rfl)
theorem dX3_joyOf_38 : decode cX3_joyOf 38 = .ok (.getfield 39, 3) := dk_180 0 39 (dk_at dksX3_joyOf_1 16 rfl rfl)
theorem dX3_joyOf_41 : decode cX3_joyOf 41 = .ok (.iload_n 3, 1) := dk_29 (dk_at dksX3_joyOf_1 19 rfl rfl)
theorem dX3_joyOf_42 : decode cX3_joyOf 42 = .ok (.aaload, 1) := dk_50 (dk_at dksX3_joyOf_1 20 rfl rfl)
theorem dX3_joyOf_43 : decode cX3_joyOf 43 = .ok (.iconst 3, 1) := dk_6 (dk_at dksX3_joyOf_1 21 rfl rfl)
theorem dX3_joyOf_44 : decode cX3_joyOf 44 = .ok (.iaload, 1) := dk_46 (dk_at dksX3_joyOf_1 22 rfl rfl)
theorem dX3_joyOf_45 : decode cX3_joyOf 45 = .ok (.isub, 1) := dk_100 (dk_at dksX3_joyOf_1 23 rfl rfl)
theorem dX3_joyOf_46 : decode cX3_joyOf 46 = .ok (.aload_n 0, 1) := dk_42 (dk_at dksX3_joyOf_2 0 rfl rfl)
theorem dX3_joyOf_47 : decode cX3_joyOf 47 = .ok (.getfield 58, 3) := dk_180 0 58 (dk_at dksX3_joyOf_2 1 rfl rfl)
theorem dX3_joyOf_50 : decode cX3_joyOf 50 = .ok (.iload_n 3, 1) := dk_29 (dk_at dksX3_joyOf_2 4 rfl rfl)
theorem dX3_joyOf_51 : decode cX3_joyOf 51 = .ok (.iaload, 1) := dk_46 (dk_at dksX3_joyOf_2 5 rfl rfl)
theorem dX3_joyOf_52 : decode cX3_joyOf 52 = .ok (.ifCond .ne 8, 3) := dk_154 0 8 (dk_at dksX3_joyOf_2 6 rfl rfl)
theorem dX3_joyOf_55 : decode cX3_joyOf 55 = .ok (.bipush 20, 2) := dk_16 20 (dk_at dksX3_joyOf_2 9 rfl rfl)
theorem dX3_joyOf_57 : decode cX3_joyOf 57 = .ok (.goto 4, 3) := dk_167 0 4 (dk_at dksX3_joyOf_2 11 rfl rfl)
theorem dX3_joyOf_60 : decode cX3_joyOf 60 = .ok (.iconst 0, 1) := dk_3 (dk_at dksX3_joyOf_2 14 rfl rfl)
theorem dX3_joyOf_61 : decode cX3_joyOf 61 = .ok (.isub, 1) := dk_100 (dk_at dksX3_joyOf_2 15 rfl rfl)
theorem dX3_joyOf_62 : decode cX3_joyOf 62 = .ok (.imul, 1) := dk_104 (dk_at dksX3_joyOf_2 16 rfl rfl)
theorem dX3_joyOf_63 : decode cX3_joyOf 63 = .ok (.iadd, 1) := dk_96 (dk_at dksX3_joyOf_2 17 rfl rfl)
theorem dX3_joyOf_64 : decode cX3_joyOf 64 = .ok (.istore_n 2, 1) := dk_61 (dk_at dksX3_joyOf_2 18 rfl rfl)
theorem dX3_joyOf_65 : decode cX3_joyOf 65 = .ok (.iinc 3 1, 3) := dk_132 3 1 (dk_at dksX3_joyOf_2 19 rfl rfl)
theorem dX3_joyOf_68 : decode cX3_joyOf 68 = .ok (.goto (-56), 3) := dk_167 255 200 (dk_at dksX3_joyOf_3 0 rfl rfl)
theorem dX3_joyOf_71 : decode cX3_joyOf 71 = .ok (.iload_n 2, 1) := dk_28 (dk_at dksX3_joyOf_3 3 rfl rfl)
theorem dX3_joyOf_72 : decode cX3_joyOf 72 = .ok (.ireturn, 1) := dk_172 (dk_at dksX3_joyOf_3 4 rfl rfl)
abbrev cX3_taken : ByteArray := prog_16_method_63_code
def yX3_taken : MethodName := ⟨RX3, "taken", "(I)I"⟩
def dkwX3_taken_1 : List UInt8 := [50, 6, 46, 42, 27, 182, 1, 6, 104, 172]
abbrev dktX3_taken_1 : List UInt8 := dkwX3_taken_1 ++ []
def dkwX3_taken_0 : List UInt8 := [42, 27, 182, 0, 127, 154, 0, 10, 42, 16, 254, 182, 0, 91, 172, 42, 182, 1, 3, 42, 180, 0, 39, 27]
abbrev dktX3_taken_0 : List UInt8 := dkwX3_taken_0 ++ dktX3_taken_1
theorem dksX3_taken_0 : cX3_taken.data.toList.drop 0 = dktX3_taken_0 := by decide +kernel
theorem dksX3_taken_1 : cX3_taken.data.toList.drop 24 = dktX3_taken_1 := dk_seg dksX3_taken_0 24 rfl rfl
theorem dX3_taken_0 : decode cX3_taken 0 = .ok (.aload_n 0, 1) := dk_42 (dk_at dksX3_taken_0 0 rfl rfl)
theorem dX3_taken_1 : decode cX3_taken 1 = .ok (.iload_n 1, 1) := dk_27 (dk_at dksX3_taken_0 1 rfl rfl)
theorem dX3_taken_2 : decode cX3_taken 2 = .ok (.invokevirtual 127, 3) := dk_182 0 127 (dk_at dksX3_taken_0 2 rfl rfl)
theorem dX3_taken_5 : decode cX3_taken 5 = .ok (.ifCond .ne 10, 3) := dk_154 0 10 (dk_at dksX3_taken_0 5 rfl rfl)
theorem dX3_taken_8 : decode cX3_taken 8 = .ok (.aload_n 0, 1) := dk_42 (dk_at dksX3_taken_0 8 rfl rfl)
theorem dX3_taken_9 : decode cX3_taken 9 = .ok (.bipush (-2), 2) := dk_16 254 (dk_at dksX3_taken_0 9 rfl rfl)
theorem dX3_taken_11 : decode cX3_taken 11 = .ok (.invokevirtual 91, 3) := dk_182 0 91 (dk_at dksX3_taken_0 11 rfl rfl)
theorem dX3_taken_14 : decode cX3_taken 14 = .ok (.ireturn, 1) := dk_172 (dk_at dksX3_taken_0 14 rfl rfl)
theorem dX3_taken_15 : decode cX3_taken 15 = .ok (.aload_n 0, 1) := dk_42 (dk_at dksX3_taken_0 15 rfl rfl)
theorem dX3_taken_16 : decode cX3_taken 16 = .ok (.invokevirtual 259, 3) := dk_182 1 3 (dk_at dksX3_taken_0 16 rfl rfl)
theorem dX3_taken_19 : decode cX3_taken 19 = .ok (.aload_n 0, 1) := dk_42 (dk_at dksX3_taken_0 19 rfl rfl)
theorem dX3_taken_20 : decode cX3_taken 20 = .ok (.getfield 39, 3) := dk_180 0 39 (dk_at dksX3_taken_0 20 rfl rfl)
theorem dX3_taken_23 : decode cX3_taken 23 = .ok (.iload_n 1, 1) := dk_27 (dk_at dksX3_taken_0 23 rfl rfl)
theorem dX3_taken_24 : decode cX3_taken 24 = .ok (.aaload, 1) := dk_50 (dk_at dksX3_taken_1 0 rfl rfl)
theorem dX3_taken_25 : decode cX3_taken 25 = .ok (.iconst 3, 1) := dk_6 (dk_at dksX3_taken_1 1 rfl rfl)
theorem dX3_taken_26 : decode cX3_taken 26 = .ok (.iaload, 1) := dk_46 (dk_at dksX3_taken_1 2 rfl rfl)
theorem dX3_taken_27 : decode cX3_taken 27 = .ok (.aload_n 0, 1) := dk_42 (dk_at dksX3_taken_1 3 rfl rfl)
theorem dX3_taken_28 : decode cX3_taken 28 = .ok (.iload_n 1, 1) := dk_27 (dk_at dksX3_taken_1 4 rfl rfl)
theorem dX3_taken_29 : decode cX3_taken 29 = .ok (.invokevirtual 262, 3) := dk_182 1 6 (dk_at dksX3_taken_1 5 rfl rfl)
theorem dX3_taken_32 : decode cX3_taken 32 = .ok (.imul, 1) := dk_104 (dk_at dksX3_taken_1 8 rfl rfl)
theorem dX3_taken_33 : decode cX3_taken 33 = .ok (.ireturn, 1) := dk_172 (dk_at dksX3_taken_1 9 rfl rfl)
abbrev cX3_crowd : ByteArray := prog_16_method_65_code
def yX3_crowd : MethodName := ⟨RX3, "crowd", "(I)I"⟩
def dkwX3_crowd_2 : List UInt8 := [180, 0, 42, 29, 50, 4, 46, 167, 0, 4, 3, 96, 61, 132, 3, 1, 167, 255, 213, 28, 172]
abbrev dktX3_crowd_2 : List UInt8 := dkwX3_crowd_2 ++ []
def dkwX3_crowd_1 : List UInt8 := [162, 0, 41, 28, 42, 29, 182, 1, 15, 153, 0, 23, 42, 29, 182, 0, 112, 27, 160, 0, 14, 42]
abbrev dktX3_crowd_1 : List UInt8 := dkwX3_crowd_1 ++ dktX3_crowd_2
def dkwX3_crowd_0 : List UInt8 := [42, 27, 182, 0, 127, 154, 0, 10, 42, 16, 254, 182, 0, 91, 172, 3, 61, 3, 62, 29, 42, 180, 0, 80]
abbrev dktX3_crowd_0 : List UInt8 := dkwX3_crowd_0 ++ dktX3_crowd_1
theorem dksX3_crowd_0 : cX3_crowd.data.toList.drop 0 = dktX3_crowd_0 := by decide +kernel
theorem dksX3_crowd_1 : cX3_crowd.data.toList.drop 24 = dktX3_crowd_1 := dk_seg dksX3_crowd_0 24 rfl rfl
theorem dksX3_crowd_2 : cX3_crowd.data.toList.drop 46 = dktX3_crowd_2 := dk_seg dksX3_crowd_1 22 rfl rfl
theorem dX3_crowd_0 : decode cX3_crowd 0 = .ok (.aload_n 0, 1) := dk_42 (dk_at dksX3_crowd_0 0 rfl rfl)
theorem dX3_crowd_1 : decode cX3_crowd 1 = .ok (.iload_n 1, 1) := dk_27 (dk_at dksX3_crowd_0 1 rfl rfl)
theorem dX3_crowd_2 : decode cX3_crowd 2 = .ok (.invokevirtual 127, 3) := dk_182 0 127 (dk_at dksX3_crowd_0 2 rfl rfl)
theorem dX3_crowd_5 : decode cX3_crowd 5 = .ok (.ifCond .ne 10, 3) := dk_154 0 10 (dk_at dksX3_crowd_0 5 rfl rfl)
theorem dX3_crowd_8 : decode cX3_crowd 8 = .ok (.aload_n 0, 1) := dk_42 (dk_at dksX3_crowd_0 8 rfl rfl)
theorem dX3_crowd_9 : decode cX3_crowd 9 = .ok (.bipush (-2), 2) := dk_16 254 (dk_at dksX3_crowd_0 9 rfl rfl)
theorem dX3_crowd_11 : decode cX3_crowd 11 = .ok (.invokevirtual 91, 3) := dk_182 0 91 (dk_at dksX3_crowd_0 11 rfl rfl)
theorem dX3_crowd_14 : decode cX3_crowd 14 = .ok (.ireturn, 1) := dk_172 (dk_at dksX3_crowd_0 14 rfl rfl)
theorem dX3_crowd_15 : decode cX3_crowd 15 = .ok (.iconst 0, 1) := dk_3 (dk_at dksX3_crowd_0 15 rfl rfl)
theorem dX3_crowd_16 : decode cX3_crowd 16 = .ok (.istore_n 2, 1) := dk_61 (dk_at dksX3_crowd_0 16 rfl rfl)
theorem dX3_crowd_17 : decode cX3_crowd 17 = .ok (.iconst 0, 1) := dk_3 (dk_at dksX3_crowd_0 17 rfl rfl)
theorem dX3_crowd_18 : decode cX3_crowd 18 = .ok (.istore_n 3, 1) := dk_62 (dk_at dksX3_crowd_0 18 rfl rfl)
theorem dX3_crowd_19 : decode cX3_crowd 19 = .ok (.iload_n 3, 1) := dk_29 (dk_at dksX3_crowd_0 19 rfl rfl)
theorem dX3_crowd_20 : decode cX3_crowd 20 = .ok (.aload_n 0, 1) := dk_42 (dk_at dksX3_crowd_0 20 rfl rfl)
theorem dX3_crowd_21 : decode cX3_crowd 21 = .ok (.getfield 80, 3) := dk_180 0 80 (dk_at dksX3_crowd_0 21 rfl rfl)
theorem dX3_crowd_24 : decode cX3_crowd 24 = .ok (.if_icmp .ge 41, 3) := dk_162 0 41 (dk_at dksX3_crowd_1 0 rfl rfl)
theorem dX3_crowd_27 : decode cX3_crowd 27 = .ok (.iload_n 2, 1) := dk_28 (dk_at dksX3_crowd_1 3 rfl rfl)
theorem dX3_crowd_28 : decode cX3_crowd 28 = .ok (.aload_n 0, 1) := dk_42 (dk_at dksX3_crowd_1 4 rfl rfl)
theorem dX3_crowd_29 : decode cX3_crowd 29 = .ok (.iload_n 3, 1) := dk_29 (dk_at dksX3_crowd_1 5 rfl rfl)
theorem dX3_crowd_30 : decode cX3_crowd 30 = .ok (.invokevirtual 271, 3) := dk_182 1 15 (dk_at dksX3_crowd_1 6 rfl rfl)
theorem dX3_crowd_33 : decode cX3_crowd 33 = .ok (.ifCond .eq 23, 3) := dk_153 0 23 (dk_at dksX3_crowd_1 9 rfl rfl)
theorem dX3_crowd_36 : decode cX3_crowd 36 = .ok (.aload_n 0, 1) := dk_42 (dk_at dksX3_crowd_1 12 rfl rfl)
theorem dX3_crowd_37 : decode cX3_crowd 37 = .ok (.iload_n 3, 1) := dk_29 (dk_at dksX3_crowd_1 13 rfl rfl)
theorem dX3_crowd_38 : decode cX3_crowd 38 = .ok (.invokevirtual 112, 3) := dk_182 0 112 (dk_at dksX3_crowd_1 14 rfl rfl)
theorem dX3_crowd_41 : decode cX3_crowd 41 = .ok (.iload_n 1, 1) := dk_27 (dk_at dksX3_crowd_1 17 rfl rfl)
theorem dX3_crowd_42 : decode cX3_crowd 42 = .ok (.if_icmp .ne 14, 3) := dk_160 0 14 (dk_at dksX3_crowd_1 18 rfl rfl)
theorem dX3_crowd_45 : decode cX3_crowd 45 = .ok (.aload_n 0, 1) := dk_42 (dk_at dksX3_crowd_1 21 rfl rfl)
theorem dX3_crowd_46 : decode cX3_crowd 46 = .ok (.getfield 42, 3) := dk_180 0 42 (dk_at dksX3_crowd_2 0 rfl rfl)
theorem dX3_crowd_49 : decode cX3_crowd 49 = .ok (.iload_n 3, 1) := dk_29 (dk_at dksX3_crowd_2 3 rfl rfl)
theorem dX3_crowd_50 : decode cX3_crowd 50 = .ok (.aaload, 1) := dk_50 (dk_at dksX3_crowd_2 4 rfl rfl)
theorem dX3_crowd_51 : decode cX3_crowd 51 = .ok (.iconst 1, 1) := dk_4 (dk_at dksX3_crowd_2 5 rfl rfl)
theorem dX3_crowd_52 : decode cX3_crowd 52 = .ok (.iaload, 1) := dk_46 (dk_at dksX3_crowd_2 6 rfl rfl)
theorem dX3_crowd_53 : decode cX3_crowd 53 = .ok (.goto 4, 3) := dk_167 0 4 (dk_at dksX3_crowd_2 7 rfl rfl)
theorem dX3_crowd_56 : decode cX3_crowd 56 = .ok (.iconst 0, 1) := dk_3 (dk_at dksX3_crowd_2 10 rfl rfl)
theorem dX3_crowd_57 : decode cX3_crowd 57 = .ok (.iadd, 1) := dk_96 (dk_at dksX3_crowd_2 11 rfl rfl)
theorem dX3_crowd_58 : decode cX3_crowd 58 = .ok (.istore_n 2, 1) := dk_61 (dk_at dksX3_crowd_2 12 rfl rfl)
theorem dX3_crowd_59 : decode cX3_crowd 59 = .ok (.iinc 3 1, 3) := dk_132 3 1 (dk_at dksX3_crowd_2 13 rfl rfl)
theorem dX3_crowd_62 : decode cX3_crowd 62 = .ok (.goto (-43), 3) := dk_167 255 213 (dk_at dksX3_crowd_2 16 rfl rfl)
theorem dX3_crowd_65 : decode cX3_crowd 65 = .ok (.iload_n 2, 1) := dk_28 (dk_at dksX3_crowd_2 19 rfl rfl)
theorem dX3_crowd_66 : decode cX3_crowd 66 = .ok (.ireturn, 1) := dk_172 (dk_at dksX3_crowd_2 20 rfl rfl)
abbrev cX3_isByBook : ByteArray := prog_16_method_64_code
def yX3_isByBook : MethodName := ⟨RX3, "isByBook", "(I)Z"⟩
def dkwX3_isByBook_1 : List UInt8 := [167, 0, 4, 3, 172]
abbrev dktX3_isByBook_1 : List UInt8 := dkwX3_isByBook_1 ++ []
def dkwX3_isByBook_0 : List UInt8 := [42, 180, 0, 42, 27, 50, 3, 46, 153, 0, 19, 42, 180, 0, 42, 27, 50, 3, 46, 6, 159, 0, 7, 4]
abbrev dktX3_isByBook_0 : List UInt8 := dkwX3_isByBook_0 ++ dktX3_isByBook_1
theorem dksX3_isByBook_0 : cX3_isByBook.data.toList.drop 0 = dktX3_isByBook_0 := by decide +kernel
theorem dksX3_isByBook_1 : cX3_isByBook.data.toList.drop 24 = dktX3_isByBook_1 := dk_seg dksX3_isByBook_0 24 rfl rfl
theorem dX3_isByBook_0 : decode cX3_isByBook 0 = .ok (.aload_n 0, 1) := dk_42 (dk_at dksX3_isByBook_0 0 rfl rfl)
theorem dX3_isByBook_1 : decode cX3_isByBook 1 = .ok (.getfield 42, 3) := dk_180 0 42 (dk_at dksX3_isByBook_0 1 rfl rfl)
theorem dX3_isByBook_4 : decode cX3_isByBook 4 = .ok (.iload_n 1, 1) := dk_27 (dk_at dksX3_isByBook_0 4 rfl rfl)
theorem dX3_isByBook_5 : decode cX3_isByBook 5 = .ok (.aaload, 1) := dk_50 (dk_at dksX3_isByBook_0 5 rfl rfl)
theorem dX3_isByBook_6 : decode cX3_isByBook 6 = .ok (.iconst 0, 1) := dk_3 (dk_at dksX3_isByBook_0 6 rfl rfl)
theorem dX3_isByBook_7 : decode cX3_isByBook 7 = .ok (.iaload, 1) := dk_46 (dk_at dksX3_isByBook_0 7 rfl rfl)
theorem dX3_isByBook_8 : decode cX3_isByBook 8 = .ok (.ifCond .eq 19, 3) := dk_153 0 19 (dk_at dksX3_isByBook_0 8 rfl rfl)
theorem dX3_isByBook_11 : decode cX3_isByBook 11 = .ok (.aload_n 0, 1) := dk_42 (dk_at dksX3_isByBook_0 11 rfl rfl)
theorem dX3_isByBook_12 : decode cX3_isByBook 12 = .ok (.getfield 42, 3) := dk_180 0 42 (dk_at dksX3_isByBook_0 12 rfl rfl)
theorem dX3_isByBook_15 : decode cX3_isByBook 15 = .ok (.iload_n 1, 1) := dk_27 (dk_at dksX3_isByBook_0 15 rfl rfl)
theorem dX3_isByBook_16 : decode cX3_isByBook 16 = .ok (.aaload, 1) := dk_50 (dk_at dksX3_isByBook_0 16 rfl rfl)
theorem dX3_isByBook_17 : decode cX3_isByBook 17 = .ok (.iconst 0, 1) := dk_3 (dk_at dksX3_isByBook_0 17 rfl rfl)
theorem dX3_isByBook_18 : decode cX3_isByBook 18 = .ok (.iaload, 1) := dk_46 (dk_at dksX3_isByBook_0 18 rfl rfl)
theorem dX3_isByBook_19 : decode cX3_isByBook 19 = .ok (.iconst 3, 1) := dk_6 (dk_at dksX3_isByBook_0 19 rfl rfl)
theorem dX3_isByBook_20 : decode cX3_isByBook 20 = .ok (.if_icmp .eq 7, 3) := dk_159 0 7 (dk_at dksX3_isByBook_0 20 rfl rfl)
theorem dX3_isByBook_23 : decode cX3_isByBook 23 = .ok (.iconst 1, 1) := dk_4 (dk_at dksX3_isByBook_0 23 rfl rfl)
theorem dX3_isByBook_24 : decode cX3_isByBook 24 = .ok (.goto 4, 3) := dk_167 0 4 (dk_at dksX3_isByBook_1 0 rfl rfl)
theorem dX3_isByBook_27 : decode cX3_isByBook 27 = .ok (.iconst 0, 1) := dk_3 (dk_at dksX3_isByBook_1 3 rfl rfl)
theorem dX3_isByBook_28 : decode cX3_isByBook 28 = .ok (.ireturn, 1) := dk_172 (dk_at dksX3_isByBook_1 4 rfl rfl)
abbrev cX3_lean : ByteArray := prog_16_method_66_code
def yX3_lean : MethodName := ⟨RX3, "lean", "(I)I"⟩
def dkwX3_lean_2 : List UInt8 := [16, 6, 46, 42, 180, 0, 39, 27, 50, 8, 46, 108, 42, 180, 0, 39, 27, 50, 3, 46, 100, 172]
abbrev dktX3_lean_2 : List UInt8 := dkwX3_lean_2 ++ []
def dkwX3_lean_1 : List UInt8 := [8, 46, 154, 0, 15, 18, 252, 42, 16, 251, 182, 0, 91, 96, 167, 0, 30, 42, 180, 0, 39, 27, 50]
abbrev dktX3_lean_1 : List UInt8 := dkwX3_lean_1 ++ dktX3_lean_2
def dkwX3_lean_0 : List UInt8 := [42, 27, 182, 0, 127, 154, 0, 13, 18, 252, 42, 16, 254, 182, 0, 91, 96, 172, 42, 180, 0, 39, 27, 50]
abbrev dktX3_lean_0 : List UInt8 := dkwX3_lean_0 ++ dktX3_lean_1
theorem dksX3_lean_0 : cX3_lean.data.toList.drop 0 = dktX3_lean_0 := by decide +kernel
theorem dksX3_lean_1 : cX3_lean.data.toList.drop 24 = dktX3_lean_1 := dk_seg dksX3_lean_0 24 rfl rfl
theorem dksX3_lean_2 : cX3_lean.data.toList.drop 47 = dktX3_lean_2 := dk_seg dksX3_lean_1 23 rfl rfl
theorem dX3_lean_0 : decode cX3_lean 0 = .ok (.aload_n 0, 1) := dk_42 (dk_at dksX3_lean_0 0 rfl rfl)
theorem dX3_lean_1 : decode cX3_lean 1 = .ok (.iload_n 1, 1) := dk_27 (dk_at dksX3_lean_0 1 rfl rfl)
theorem dX3_lean_2 : decode cX3_lean 2 = .ok (.invokevirtual 127, 3) := dk_182 0 127 (dk_at dksX3_lean_0 2 rfl rfl)
theorem dX3_lean_5 : decode cX3_lean 5 = .ok (.ifCond .ne 13, 3) := dk_154 0 13 (dk_at dksX3_lean_0 5 rfl rfl)
theorem dX3_lean_8 : decode cX3_lean 8 = .ok (.ldc 252, 2) := dk_18 252 (dk_at dksX3_lean_0 8 rfl rfl)
theorem dX3_lean_10 : decode cX3_lean 10 = .ok (.aload_n 0, 1) := dk_42 (dk_at dksX3_lean_0 10 rfl rfl)
theorem dX3_lean_11 : decode cX3_lean 11 = .ok (.bipush (-2), 2) := dk_16 254 (dk_at dksX3_lean_0 11 rfl rfl)
theorem dX3_lean_13 : decode cX3_lean 13 = .ok (.invokevirtual 91, 3) := dk_182 0 91 (dk_at dksX3_lean_0 13 rfl rfl)
theorem dX3_lean_16 : decode cX3_lean 16 = .ok (.iadd, 1) := dk_96 (dk_at dksX3_lean_0 16 rfl rfl)
theorem dX3_lean_17 : decode cX3_lean 17 = .ok (.ireturn, 1) := dk_172 (dk_at dksX3_lean_0 17 rfl rfl)
theorem dX3_lean_18 : decode cX3_lean 18 = .ok (.aload_n 0, 1) := dk_42 (dk_at dksX3_lean_0 18 rfl rfl)
theorem dX3_lean_19 : decode cX3_lean 19 = .ok (.getfield 39, 3) := dk_180 0 39 (dk_at dksX3_lean_0 19 rfl rfl)
theorem dX3_lean_22 : decode cX3_lean 22 = .ok (.iload_n 1, 1) := dk_27 (dk_at dksX3_lean_0 22 rfl rfl)
theorem dX3_lean_23 : decode cX3_lean 23 = .ok (.aaload, 1) := dk_50 (dk_at dksX3_lean_0 23 rfl rfl)
theorem dX3_lean_24 : decode cX3_lean 24 = .ok (.iconst 5, 1) := dk_8 (dk_at dksX3_lean_1 0 rfl rfl)
theorem dX3_lean_25 : decode cX3_lean 25 = .ok (.iaload, 1) := dk_46 (dk_at dksX3_lean_1 1 rfl rfl)
theorem dX3_lean_26 : decode cX3_lean 26 = .ok (.ifCond .ne 15, 3) := dk_154 0 15 (dk_at dksX3_lean_1 2 rfl rfl)
theorem dX3_lean_29 : decode cX3_lean 29 = .ok (.ldc 252, 2) := dk_18 252 (dk_at dksX3_lean_1 5 rfl rfl)
theorem dX3_lean_31 : decode cX3_lean 31 = .ok (.aload_n 0, 1) := dk_42 (dk_at dksX3_lean_1 7 rfl rfl)
theorem dX3_lean_32 : decode cX3_lean 32 = .ok (.bipush (-5), 2) := dk_16 251 (dk_at dksX3_lean_1 8 rfl rfl)
theorem dX3_lean_34 : decode cX3_lean 34 = .ok (.invokevirtual 91, 3) := dk_182 0 91 (dk_at dksX3_lean_1 10 rfl rfl)
theorem dX3_lean_37 : decode cX3_lean 37 = .ok (.iadd, 1) := dk_96 (dk_at dksX3_lean_1 13 rfl rfl)
theorem dX3_lean_38 : decode cX3_lean 38 = .ok (.goto 30, 3) := dk_167 0 30 (dk_at dksX3_lean_1 14 rfl rfl)
theorem dX3_lean_41 : decode cX3_lean 41 = .ok (.aload_n 0, 1) := dk_42 (dk_at dksX3_lean_1 17 rfl rfl)
theorem dX3_lean_42 : decode cX3_lean 42 = .ok (.getfield 39, 3) := dk_180 0 39 (dk_at dksX3_lean_1 18 rfl rfl)
theorem dX3_lean_45 : decode cX3_lean 45 = .ok (.iload_n 1, 1) := dk_27 (dk_at dksX3_lean_1 21 rfl rfl)
theorem dX3_lean_46 : decode cX3_lean 46 = .ok (.aaload, 1) := dk_50 (dk_at dksX3_lean_1 22 rfl rfl)
theorem dX3_lean_47 : decode cX3_lean 47 = .ok (.bipush 6, 2) := dk_16 6 (dk_at dksX3_lean_2 0 rfl rfl)
theorem dX3_lean_49 : decode cX3_lean 49 = .ok (.iaload, 1) := dk_46 (dk_at dksX3_lean_2 2 rfl rfl)
theorem dX3_lean_50 : decode cX3_lean 50 = .ok (.aload_n 0, 1) := dk_42 (dk_at dksX3_lean_2 3 rfl rfl)
theorem dX3_lean_51 : decode cX3_lean 51 = .ok (.getfield 39, 3) := dk_180 0 39 (dk_at dksX3_lean_2 4 rfl rfl)
theorem dX3_lean_54 : decode cX3_lean 54 = .ok (.iload_n 1, 1) := dk_27 (dk_at dksX3_lean_2 7 rfl rfl)
theorem dX3_lean_55 : decode cX3_lean 55 = .ok (.aaload, 1) := dk_50 (dk_at dksX3_lean_2 8 rfl rfl)
theorem dX3_lean_56 : decode cX3_lean 56 = .ok (.iconst 5, 1) := dk_8 (dk_at dksX3_lean_2 9 rfl rfl)
theorem dX3_lean_57 : decode cX3_lean 57 = .ok (.iaload, 1) := dk_46 (dk_at dksX3_lean_2 10 rfl rfl)
theorem dX3_lean_58 : decode cX3_lean 58 = .ok (.idiv, 1) := dk_108 (dk_at dksX3_lean_2 11 rfl rfl)
theorem dX3_lean_59 : decode cX3_lean 59 = .ok (.aload_n 0, 1) := dk_42 (dk_at dksX3_lean_2 12 rfl rfl)
theorem dX3_lean_60 : decode cX3_lean 60 = .ok (.getfield 39, 3) := dk_180 0 39 (dk_at dksX3_lean_2 13 rfl rfl)
theorem dX3_lean_63 : decode cX3_lean 63 = .ok (.iload_n 1, 1) := dk_27 (dk_at dksX3_lean_2 16 rfl rfl)
theorem dX3_lean_64 : decode cX3_lean 64 = .ok (.aaload, 1) := dk_50 (dk_at dksX3_lean_2 17 rfl rfl)
theorem dX3_lean_65 : decode cX3_lean 65 = .ok (.iconst 0, 1) := dk_3 (dk_at dksX3_lean_2 18 rfl rfl)
theorem dX3_lean_66 : decode cX3_lean 66 = .ok (.iaload, 1) := dk_46 (dk_at dksX3_lean_2 19 rfl rfl)
theorem dX3_lean_67 : decode cX3_lean 67 = .ok (.isub, 1) := dk_100 (dk_at dksX3_lean_2 20 rfl rfl)
theorem dX3_lean_68 : decode cX3_lean 68 = .ok (.ireturn, 1) := dk_172 (dk_at dksX3_lean_2 21 rfl rfl)
abbrev cX3_truest : ByteArray := prog_16_method_68_code
def yX3_truest : MethodName := ⟨RX3, "truest", "()I"⟩
def dkwX3_truest_0 : List UInt8 := [42, 182, 1, 18, 60, 27, 2, 160, 0, 12, 42, 16, 251, 182, 0, 91, 167, 0, 4, 27, 172]
abbrev dktX3_truest_0 : List UInt8 := dkwX3_truest_0 ++ []
theorem dksX3_truest_0 : cX3_truest.data.toList.drop 0 = dktX3_truest_0 := by decide +kernel
theorem dX3_truest_0 : decode cX3_truest 0 = .ok (.aload_n 0, 1) := dk_42 (dk_at dksX3_truest_0 0 rfl rfl)
theorem dX3_truest_1 : decode cX3_truest 1 = .ok (.invokevirtual 274, 3) := dk_182 1 18 (dk_at dksX3_truest_0 1 rfl rfl)
theorem dX3_truest_4 : decode cX3_truest 4 = .ok (.istore_n 1, 1) := dk_60 (dk_at dksX3_truest_0 4 rfl rfl)
theorem dX3_truest_5 : decode cX3_truest 5 = .ok (.iload_n 1, 1) := dk_27 (dk_at dksX3_truest_0 5 rfl rfl)
theorem dX3_truest_6 : decode cX3_truest 6 = .ok (.iconst (-1), 1) := dk_2 (dk_at dksX3_truest_0 6 rfl rfl)
theorem dX3_truest_7 : decode cX3_truest 7 = .ok (.if_icmp .ne 12, 3) := dk_160 0 12 (dk_at dksX3_truest_0 7 rfl rfl)
theorem dX3_truest_10 : decode cX3_truest 10 = .ok (.aload_n 0, 1) := dk_42 (dk_at dksX3_truest_0 10 rfl rfl)
theorem dX3_truest_11 : decode cX3_truest 11 = .ok (.bipush (-5), 2) := dk_16 251 (dk_at dksX3_truest_0 11 rfl rfl)
theorem dX3_truest_13 : decode cX3_truest 13 = .ok (.invokevirtual 91, 3) := dk_182 0 91 (dk_at dksX3_truest_0 13 rfl rfl)
theorem dX3_truest_16 : decode cX3_truest 16 = .ok (.goto 4, 3) := dk_167 0 4 (dk_at dksX3_truest_0 16 rfl rfl)
theorem dX3_truest_19 : decode cX3_truest 19 = .ok (.iload_n 1, 1) := dk_27 (dk_at dksX3_truest_0 19 rfl rfl)
theorem dX3_truest_20 : decode cX3_truest 20 = .ok (.ireturn, 1) := dk_172 (dk_at dksX3_truest_0 20 rfl rfl)
abbrev cX3_truestOf : ByteArray := prog_16_method_67_code
def yX3_truestOf : MethodName := ⟨RX3, "truestOf", "()I"⟩
def dkwX3_truestOf_2 : List UInt8 := [6, 46, 100, 164, 0, 7, 28, 167, 0, 4, 27, 60, 132, 2, 1, 167, 255, 197, 27, 172]
abbrev dktX3_truestOf_2 : List UInt8 := dkwX3_truestOf_2 ++ []
def dkwX3_truestOf_1 : List UInt8 := [46, 42, 180, 0, 39, 28, 50, 6, 46, 100, 42, 180, 0, 39, 27, 50, 3, 46, 42, 180, 0, 39, 27, 50]
abbrev dktX3_truestOf_1 : List UInt8 := dkwX3_truestOf_1 ++ dktX3_truestOf_2
def dkwX3_truestOf_0 : List UInt8 := [2, 60, 3, 61, 28, 42, 180, 0, 73, 162, 0, 57, 27, 2, 159, 0, 40, 42, 180, 0, 39, 28, 50, 3]
abbrev dktX3_truestOf_0 : List UInt8 := dkwX3_truestOf_0 ++ dktX3_truestOf_1
theorem dksX3_truestOf_0 : cX3_truestOf.data.toList.drop 0 = dktX3_truestOf_0 := by decide +kernel
theorem dksX3_truestOf_1 : cX3_truestOf.data.toList.drop 24 = dktX3_truestOf_1 := dk_seg dksX3_truestOf_0 24 rfl rfl
theorem dksX3_truestOf_2 : cX3_truestOf.data.toList.drop 48 = dktX3_truestOf_2 := dk_seg dksX3_truestOf_1 24 rfl rfl
theorem dX3_truestOf_0 : decode cX3_truestOf 0 = .ok (.iconst (-1), 1) := dk_2 (dk_at dksX3_truestOf_0 0 rfl rfl)
theorem dX3_truestOf_1 : decode cX3_truestOf 1 = .ok (.istore_n 1, 1) := dk_60 (dk_at dksX3_truestOf_0 1 rfl rfl)
theorem dX3_truestOf_2 : decode cX3_truestOf 2 = .ok (.iconst 0, 1) := dk_3 (dk_at dksX3_truestOf_0 2 rfl rfl)
theorem dX3_truestOf_3 : decode cX3_truestOf 3 = .ok (.istore_n 2, 1) := dk_61 (dk_at dksX3_truestOf_0 3 rfl rfl)
theorem dX3_truestOf_4 : decode cX3_truestOf 4 = .ok (.iload_n 2, 1) := dk_28 (dk_at dksX3_truestOf_0 4 rfl rfl)
theorem dX3_truestOf_5 : decode cX3_truestOf 5 = .ok (.aload_n 0, 1) := dk_42 (dk_at dksX3_truestOf_0 5 rfl rfl)
theorem dX3_truestOf_6 : decode cX3_truestOf 6 = .ok (.getfield 73, 3) := dk_180 0 73 (dk_at dksX3_truestOf_0 6 rfl rfl)
theorem dX3_truestOf_9 : decode cX3_truestOf 9 = .ok (.if_icmp .ge 57, 3) := dk_162 0 57 (dk_at dksX3_truestOf_0 9 rfl rfl)
theorem dX3_truestOf_12 : decode cX3_truestOf 12 = .ok (.iload_n 1, 1) := dk_27 (dk_at dksX3_truestOf_0 12 rfl rfl)
theorem dX3_truestOf_13 : decode cX3_truestOf 13 = .ok (.iconst (-1), 1) := dk_2 (dk_at dksX3_truestOf_0 13 rfl rfl)
theorem dX3_truestOf_14 : decode cX3_truestOf 14 = .ok (.if_icmp .eq 40, 3) := dk_159 0 40 (dk_at dksX3_truestOf_0 14 rfl rfl)
theorem dX3_truestOf_17 : decode cX3_truestOf 17 = .ok (.aload_n 0, 1) := dk_42 (dk_at dksX3_truestOf_0 17 rfl rfl)
theorem dX3_truestOf_18 : decode cX3_truestOf 18 = .ok (.getfield 39, 3) := dk_180 0 39 (dk_at dksX3_truestOf_0 18 rfl rfl)
theorem dX3_truestOf_21 : decode cX3_truestOf 21 = .ok (.iload_n 2, 1) := dk_28 (dk_at dksX3_truestOf_0 21 rfl rfl)
theorem dX3_truestOf_22 : decode cX3_truestOf 22 = .ok (.aaload, 1) := dk_50 (dk_at dksX3_truestOf_0 22 rfl rfl)
theorem dX3_truestOf_23 : decode cX3_truestOf 23 = .ok (.iconst 0, 1) := dk_3 (dk_at dksX3_truestOf_0 23 rfl rfl)
theorem dX3_truestOf_24 : decode cX3_truestOf 24 = .ok (.iaload, 1) := dk_46 (dk_at dksX3_truestOf_1 0 rfl rfl)
theorem dX3_truestOf_25 : decode cX3_truestOf 25 = .ok (.aload_n 0, 1) := dk_42 (dk_at dksX3_truestOf_1 1 rfl rfl)
theorem dX3_truestOf_26 : decode cX3_truestOf 26 = .ok (.getfield 39, 3) := dk_180 0 39 (dk_at dksX3_truestOf_1 2 rfl rfl)
theorem dX3_truestOf_29 : decode cX3_truestOf 29 = .ok (.iload_n 2, 1) := dk_28 (dk_at dksX3_truestOf_1 5 rfl rfl)
theorem dX3_truestOf_30 : decode cX3_truestOf 30 = .ok (.aaload, 1) := dk_50 (dk_at dksX3_truestOf_1 6 rfl rfl)
theorem dX3_truestOf_31 : decode cX3_truestOf 31 = .ok (.iconst 3, 1) := dk_6 (dk_at dksX3_truestOf_1 7 rfl rfl)
theorem dX3_truestOf_32 : decode cX3_truestOf 32 = .ok (.iaload, 1) := dk_46 (dk_at dksX3_truestOf_1 8 rfl rfl)
theorem dX3_truestOf_33 : decode cX3_truestOf 33 = .ok (.isub, 1) := dk_100 (dk_at dksX3_truestOf_1 9 rfl rfl)
theorem dX3_truestOf_34 : decode cX3_truestOf 34 = .ok (.aload_n 0, 1) := dk_42 (dk_at dksX3_truestOf_1 10 rfl rfl)
theorem dX3_truestOf_35 : decode cX3_truestOf 35 = .ok (.getfield 39, 3) := dk_180 0 39 (dk_at dksX3_truestOf_1 11 rfl rfl)
theorem dX3_truestOf_38 : decode cX3_truestOf 38 = .ok (.iload_n 1, 1) := dk_27 (dk_at dksX3_truestOf_1 14 rfl rfl)
theorem dX3_truestOf_39 : decode cX3_truestOf 39 = .ok (.aaload, 1) := dk_50 (dk_at dksX3_truestOf_1 15 rfl rfl)
theorem dX3_truestOf_40 : decode cX3_truestOf 40 = .ok (.iconst 0, 1) := dk_3 (dk_at dksX3_truestOf_1 16 rfl rfl)
theorem dX3_truestOf_41 : decode cX3_truestOf 41 = .ok (.iaload, 1) := dk_46 (dk_at dksX3_truestOf_1 17 rfl rfl)
theorem dX3_truestOf_42 : decode cX3_truestOf 42 = .ok (.aload_n 0, 1) := dk_42 (dk_at dksX3_truestOf_1 18 rfl rfl)
theorem dX3_truestOf_43 : decode cX3_truestOf 43 = .ok (.getfield 39, 3) := dk_180 0 39 (dk_at dksX3_truestOf_1 19 rfl rfl)
theorem dX3_truestOf_46 : decode cX3_truestOf 46 = .ok (.iload_n 1, 1) := dk_27 (dk_at dksX3_truestOf_1 22 rfl rfl)
theorem dX3_truestOf_47 : decode cX3_truestOf 47 = .ok (.aaload, 1) := dk_50 (dk_at dksX3_truestOf_1 23 rfl rfl)
theorem dX3_truestOf_48 : decode cX3_truestOf 48 = .ok (.iconst 3, 1) := dk_6 (dk_at dksX3_truestOf_2 0 rfl rfl)
theorem dX3_truestOf_49 : decode cX3_truestOf 49 = .ok (.iaload, 1) := dk_46 (dk_at dksX3_truestOf_2 1 rfl rfl)
theorem dX3_truestOf_50 : decode cX3_truestOf 50 = .ok (.isub, 1) := dk_100 (dk_at dksX3_truestOf_2 2 rfl rfl)
theorem dX3_truestOf_51 : decode cX3_truestOf 51 = .ok (.if_icmp .le 7, 3) := dk_164 0 7 (dk_at dksX3_truestOf_2 3 rfl rfl)
theorem dX3_truestOf_54 : decode cX3_truestOf 54 = .ok (.iload_n 2, 1) := dk_28 (dk_at dksX3_truestOf_2 6 rfl rfl)
theorem dX3_truestOf_55 : decode cX3_truestOf 55 = .ok (.goto 4, 3) := dk_167 0 4 (dk_at dksX3_truestOf_2 7 rfl rfl)
theorem dX3_truestOf_58 : decode cX3_truestOf 58 = .ok (.iload_n 1, 1) := dk_27 (dk_at dksX3_truestOf_2 10 rfl rfl)
theorem dX3_truestOf_59 : decode cX3_truestOf 59 = .ok (.istore_n 1, 1) := dk_60 (dk_at dksX3_truestOf_2 11 rfl rfl)
theorem dX3_truestOf_60 : decode cX3_truestOf 60 = .ok (.iinc 2 1, 3) := dk_132 2 1 (dk_at dksX3_truestOf_2 12 rfl rfl)
theorem dX3_truestOf_63 : decode cX3_truestOf 63 = .ok (.goto (-59), 3) := dk_167 255 197 (dk_at dksX3_truestOf_2 15 rfl rfl)
theorem dX3_truestOf_66 : decode cX3_truestOf 66 = .ok (.iload_n 1, 1) := dk_27 (dk_at dksX3_truestOf_2 18 rfl rfl)
theorem dX3_truestOf_67 : decode cX3_truestOf 67 = .ok (.ireturn, 1) := dk_172 (dk_at dksX3_truestOf_2 19 rfl rfl)
abbrev cX3_oldest : ByteArray := prog_16_method_70_code
def yX3_oldest : MethodName := ⟨RX3, "oldest", "()I"⟩
def dkwX3_oldest_2 : List UInt8 := [182, 1, 21, 164, 0, 7, 28, 167, 0, 4, 27, 60, 132, 2, 1, 167, 255, 199, 27, 172]
abbrev dktX3_oldest_2 : List UInt8 := dkwX3_oldest_2 ++ []
def dkwX3_oldest_1 : List UInt8 := [4, 167, 0, 4, 3, 62, 29, 153, 0, 25, 27, 2, 159, 0, 16, 42, 28, 182, 1, 21, 42, 27]
abbrev dktX3_oldest_1 : List UInt8 := dkwX3_oldest_1 ++ dktX3_oldest_2
def dkwX3_oldest_0 : List UInt8 := [2, 60, 3, 61, 28, 42, 180, 0, 73, 162, 0, 55, 42, 180, 0, 39, 28, 50, 7, 46, 2, 159, 0, 7]
abbrev dktX3_oldest_0 : List UInt8 := dkwX3_oldest_0 ++ dktX3_oldest_1
theorem dksX3_oldest_0 : cX3_oldest.data.toList.drop 0 = dktX3_oldest_0 := by decide +kernel
theorem dksX3_oldest_1 : cX3_oldest.data.toList.drop 24 = dktX3_oldest_1 := dk_seg dksX3_oldest_0 24 rfl rfl
theorem dksX3_oldest_2 : cX3_oldest.data.toList.drop 46 = dktX3_oldest_2 := dk_seg dksX3_oldest_1 22 rfl rfl
theorem dX3_oldest_0 : decode cX3_oldest 0 = .ok (.iconst (-1), 1) := dk_2 (dk_at dksX3_oldest_0 0 rfl rfl)
theorem dX3_oldest_1 : decode cX3_oldest 1 = .ok (.istore_n 1, 1) := dk_60 (dk_at dksX3_oldest_0 1 rfl rfl)
theorem dX3_oldest_2 : decode cX3_oldest 2 = .ok (.iconst 0, 1) := dk_3 (dk_at dksX3_oldest_0 2 rfl rfl)
theorem dX3_oldest_3 : decode cX3_oldest 3 = .ok (.istore_n 2, 1) := dk_61 (dk_at dksX3_oldest_0 3 rfl rfl)
theorem dX3_oldest_4 : decode cX3_oldest 4 = .ok (.iload_n 2, 1) := dk_28 (dk_at dksX3_oldest_0 4 rfl rfl)
theorem dX3_oldest_5 : decode cX3_oldest 5 = .ok (.aload_n 0, 1) := dk_42 (dk_at dksX3_oldest_0 5 rfl rfl)
theorem dX3_oldest_6 : decode cX3_oldest 6 = .ok (.getfield 73, 3) := dk_180 0 73 (dk_at dksX3_oldest_0 6 rfl rfl)
theorem dX3_oldest_9 : decode cX3_oldest 9 = .ok (.if_icmp .ge 55, 3) := dk_162 0 55 (dk_at dksX3_oldest_0 9 rfl rfl)
theorem dX3_oldest_12 : decode cX3_oldest 12 = .ok (.aload_n 0, 1) := dk_42 (dk_at dksX3_oldest_0 12 rfl rfl)
theorem dX3_oldest_13 : decode cX3_oldest 13 = .ok (.getfield 39, 3) := dk_180 0 39 (dk_at dksX3_oldest_0 13 rfl rfl)
theorem dX3_oldest_16 : decode cX3_oldest 16 = .ok (.iload_n 2, 1) := dk_28 (dk_at dksX3_oldest_0 16 rfl rfl)
theorem dX3_oldest_17 : decode cX3_oldest 17 = .ok (.aaload, 1) := dk_50 (dk_at dksX3_oldest_0 17 rfl rfl)
theorem dX3_oldest_18 : decode cX3_oldest 18 = .ok (.iconst 4, 1) := dk_7 (dk_at dksX3_oldest_0 18 rfl rfl)
theorem dX3_oldest_19 : decode cX3_oldest 19 = .ok (.iaload, 1) := dk_46 (dk_at dksX3_oldest_0 19 rfl rfl)
theorem dX3_oldest_20 : decode cX3_oldest 20 = .ok (.iconst (-1), 1) := dk_2 (dk_at dksX3_oldest_0 20 rfl rfl)
theorem dX3_oldest_21 : decode cX3_oldest 21 = .ok (.if_icmp .eq 7, 3) := dk_159 0 7 (dk_at dksX3_oldest_0 21 rfl rfl)
theorem dX3_oldest_24 : decode cX3_oldest 24 = .ok (.iconst 1, 1) := dk_4 (dk_at dksX3_oldest_1 0 rfl rfl)
theorem dX3_oldest_25 : decode cX3_oldest 25 = .ok (.goto 4, 3) := dk_167 0 4 (dk_at dksX3_oldest_1 1 rfl rfl)
theorem dX3_oldest_28 : decode cX3_oldest 28 = .ok (.iconst 0, 1) := dk_3 (dk_at dksX3_oldest_1 4 rfl rfl)
theorem dX3_oldest_29 : decode cX3_oldest 29 = .ok (.istore_n 3, 1) := dk_62 (dk_at dksX3_oldest_1 5 rfl rfl)
theorem dX3_oldest_30 : decode cX3_oldest 30 = .ok (.iload_n 3, 1) := dk_29 (dk_at dksX3_oldest_1 6 rfl rfl)
theorem dX3_oldest_31 : decode cX3_oldest 31 = .ok (.ifCond .eq 25, 3) := dk_153 0 25 (dk_at dksX3_oldest_1 7 rfl rfl)
theorem dX3_oldest_34 : decode cX3_oldest 34 = .ok (.iload_n 1, 1) := dk_27 (dk_at dksX3_oldest_1 10 rfl rfl)
theorem dX3_oldest_35 : decode cX3_oldest 35 = .ok (.iconst (-1), 1) := dk_2 (dk_at dksX3_oldest_1 11 rfl rfl)
theorem dX3_oldest_36 : decode cX3_oldest 36 = .ok (.if_icmp .eq 16, 3) := dk_159 0 16 (dk_at dksX3_oldest_1 12 rfl rfl)
theorem dX3_oldest_39 : decode cX3_oldest 39 = .ok (.aload_n 0, 1) := dk_42 (dk_at dksX3_oldest_1 15 rfl rfl)
theorem dX3_oldest_40 : decode cX3_oldest 40 = .ok (.iload_n 2, 1) := dk_28 (dk_at dksX3_oldest_1 16 rfl rfl)
theorem dX3_oldest_41 : decode cX3_oldest 41 = .ok (.invokevirtual 277, 3) := dk_182 1 21 (dk_at dksX3_oldest_1 17 rfl rfl)
theorem dX3_oldest_44 : decode cX3_oldest 44 = .ok (.aload_n 0, 1) := dk_42 (dk_at dksX3_oldest_1 20 rfl rfl)
theorem dX3_oldest_45 : decode cX3_oldest 45 = .ok (.iload_n 1, 1) := dk_27 (dk_at dksX3_oldest_1 21 rfl rfl)
theorem dX3_oldest_46 : decode cX3_oldest 46 = .ok (.invokevirtual 277, 3) := dk_182 1 21 (dk_at dksX3_oldest_2 0 rfl rfl)
theorem dX3_oldest_49 : decode cX3_oldest 49 = .ok (.if_icmp .le 7, 3) := dk_164 0 7 (dk_at dksX3_oldest_2 3 rfl rfl)
theorem dX3_oldest_52 : decode cX3_oldest 52 = .ok (.iload_n 2, 1) := dk_28 (dk_at dksX3_oldest_2 6 rfl rfl)
theorem dX3_oldest_53 : decode cX3_oldest 53 = .ok (.goto 4, 3) := dk_167 0 4 (dk_at dksX3_oldest_2 7 rfl rfl)
theorem dX3_oldest_56 : decode cX3_oldest 56 = .ok (.iload_n 1, 1) := dk_27 (dk_at dksX3_oldest_2 10 rfl rfl)
theorem dX3_oldest_57 : decode cX3_oldest 57 = .ok (.istore_n 1, 1) := dk_60 (dk_at dksX3_oldest_2 11 rfl rfl)
theorem dX3_oldest_58 : decode cX3_oldest 58 = .ok (.iinc 2 1, 3) := dk_132 2 1 (dk_at dksX3_oldest_2 12 rfl rfl)
theorem dX3_oldest_61 : decode cX3_oldest 61 = .ok (.goto (-57), 3) := dk_167 255 199 (dk_at dksX3_oldest_2 15 rfl rfl)
theorem dX3_oldest_64 : decode cX3_oldest 64 = .ok (.iload_n 1, 1) := dk_27 (dk_at dksX3_oldest_2 18 rfl rfl)
theorem dX3_oldest_65 : decode cX3_oldest 65 = .ok (.ireturn, 1) := dk_172 (dk_at dksX3_oldest_2 19 rfl rfl)
abbrev cX3_wrongBy : ByteArray := prog_16_method_69_code
def yX3_wrongBy : MethodName := ⟨RX3, "wrongBy", "(I)I"⟩
def dkwX3_wrongBy_1 : List UInt8 := [167, 0, 4, 28, 172]
abbrev dktX3_wrongBy_1 : List UInt8 := dkwX3_wrongBy_1 ++ []
def dkwX3_wrongBy_0 : List UInt8 := [42, 180, 0, 39, 27, 50, 7, 46, 42, 180, 0, 39, 27, 50, 3, 46, 100, 61, 28, 156, 0, 8, 28, 116]
abbrev dktX3_wrongBy_0 : List UInt8 := dkwX3_wrongBy_0 ++ dktX3_wrongBy_1
theorem dksX3_wrongBy_0 : cX3_wrongBy.data.toList.drop 0 = dktX3_wrongBy_0 := by decide +kernel
theorem dksX3_wrongBy_1 : cX3_wrongBy.data.toList.drop 24 = dktX3_wrongBy_1 := dk_seg dksX3_wrongBy_0 24 rfl rfl
theorem dX3_wrongBy_0 : decode cX3_wrongBy 0 = .ok (.aload_n 0, 1) := dk_42 (dk_at dksX3_wrongBy_0 0 rfl rfl)
theorem dX3_wrongBy_1 : decode cX3_wrongBy 1 = .ok (.getfield 39, 3) := dk_180 0 39 (dk_at dksX3_wrongBy_0 1 rfl rfl)
theorem dX3_wrongBy_4 : decode cX3_wrongBy 4 = .ok (.iload_n 1, 1) := dk_27 (dk_at dksX3_wrongBy_0 4 rfl rfl)
theorem dX3_wrongBy_5 : decode cX3_wrongBy 5 = .ok (.aaload, 1) := dk_50 (dk_at dksX3_wrongBy_0 5 rfl rfl)
theorem dX3_wrongBy_6 : decode cX3_wrongBy 6 = .ok (.iconst 4, 1) := dk_7 (dk_at dksX3_wrongBy_0 6 rfl rfl)
theorem dX3_wrongBy_7 : decode cX3_wrongBy 7 = .ok (.iaload, 1) := dk_46 (dk_at dksX3_wrongBy_0 7 rfl rfl)
theorem dX3_wrongBy_8 : decode cX3_wrongBy 8 = .ok (.aload_n 0, 1) := dk_42 (dk_at dksX3_wrongBy_0 8 rfl rfl)
theorem dX3_wrongBy_9 : decode cX3_wrongBy 9 = .ok (.getfield 39, 3) := dk_180 0 39 (dk_at dksX3_wrongBy_0 9 rfl rfl)
theorem dX3_wrongBy_12 : decode cX3_wrongBy 12 = .ok (.iload_n 1, 1) := dk_27 (dk_at dksX3_wrongBy_0 12 rfl rfl)
theorem dX3_wrongBy_13 : decode cX3_wrongBy 13 = .ok (.aaload, 1) := dk_50 (dk_at dksX3_wrongBy_0 13 rfl rfl)
theorem dX3_wrongBy_14 : decode cX3_wrongBy 14 = .ok (.iconst 0, 1) := dk_3 (dk_at dksX3_wrongBy_0 14 rfl rfl)
theorem dX3_wrongBy_15 : decode cX3_wrongBy 15 = .ok (.iaload, 1) := dk_46 (dk_at dksX3_wrongBy_0 15 rfl rfl)
theorem dX3_wrongBy_16 : decode cX3_wrongBy 16 = .ok (.isub, 1) := dk_100 (dk_at dksX3_wrongBy_0 16 rfl rfl)
theorem dX3_wrongBy_17 : decode cX3_wrongBy 17 = .ok (.istore_n 2, 1) := dk_61 (dk_at dksX3_wrongBy_0 17 rfl rfl)
theorem dX3_wrongBy_18 : decode cX3_wrongBy 18 = .ok (.iload_n 2, 1) := dk_28 (dk_at dksX3_wrongBy_0 18 rfl rfl)
theorem dX3_wrongBy_19 : decode cX3_wrongBy 19 = .ok (.ifCond .ge 8, 3) := dk_156 0 8 (dk_at dksX3_wrongBy_0 19 rfl rfl)
theorem dX3_wrongBy_22 : decode cX3_wrongBy 22 = .ok (.iload_n 2, 1) := dk_28 (dk_at dksX3_wrongBy_0 22 rfl rfl)
theorem dX3_wrongBy_23 : decode cX3_wrongBy 23 = .ok (.ineg, 1) := dk_116 (dk_at dksX3_wrongBy_0 23 rfl rfl)
theorem dX3_wrongBy_24 : decode cX3_wrongBy 24 = .ok (.goto 4, 3) := dk_167 0 4 (dk_at dksX3_wrongBy_1 0 rfl rfl)
theorem dX3_wrongBy_27 : decode cX3_wrongBy 27 = .ok (.iload_n 2, 1) := dk_28 (dk_at dksX3_wrongBy_1 3 rfl rfl)
theorem dX3_wrongBy_28 : decode cX3_wrongBy 28 = .ok (.ireturn, 1) := dk_172 (dk_at dksX3_wrongBy_1 4 rfl rfl)
abbrev cX3_enough : ByteArray := prog_16_method_71_code
def yX3_enough : MethodName := ⟨RX3, "enough", "(I)I"⟩
def dkwX3_enough_3 : List UInt8 := [132, 4, 1, 167, 255, 211, 42, 180, 0, 39, 27, 50, 5, 28, 79, 29, 172]
abbrev dktX3_enough_3 : List UInt8 := dkwX3_enough_3 ++ []
def dkwX3_enough_2 : List UInt8 := [21, 4, 79, 42, 182, 1, 3, 42, 180, 0, 58, 27, 46, 158, 0, 8, 21, 4, 167, 0, 4, 2, 62]
abbrev dktX3_enough_2 : List UInt8 := dkwX3_enough_2 ++ dktX3_enough_3
def dkwX3_enough_1 : List UInt8 := [2, 62, 4, 54, 4, 21, 4, 16, 20, 163, 0, 44, 29, 2, 160, 0, 39, 42, 180, 0, 39, 27, 50, 5]
abbrev dktX3_enough_1 : List UInt8 := dkwX3_enough_1 ++ dktX3_enough_2
def dkwX3_enough_0 : List UInt8 := [42, 27, 182, 0, 127, 154, 0, 10, 42, 16, 254, 182, 0, 91, 172, 42, 180, 0, 39, 27, 50, 5, 46, 61]
abbrev dktX3_enough_0 : List UInt8 := dkwX3_enough_0 ++ dktX3_enough_1
theorem dksX3_enough_0 : cX3_enough.data.toList.drop 0 = dktX3_enough_0 := by decide +kernel
theorem dksX3_enough_1 : cX3_enough.data.toList.drop 24 = dktX3_enough_1 := dk_seg dksX3_enough_0 24 rfl rfl
theorem dksX3_enough_2 : cX3_enough.data.toList.drop 48 = dktX3_enough_2 := dk_seg dksX3_enough_1 24 rfl rfl
theorem dksX3_enough_3 : cX3_enough.data.toList.drop 71 = dktX3_enough_3 := dk_seg dksX3_enough_2 23 rfl rfl
theorem dX3_enough_0 : decode cX3_enough 0 = .ok (.aload_n 0, 1) := dk_42 (dk_at dksX3_enough_0 0 rfl rfl)
theorem dX3_enough_1 : decode cX3_enough 1 = .ok (.iload_n 1, 1) := dk_27 (dk_at dksX3_enough_0 1 rfl rfl)
theorem dX3_enough_2 : decode cX3_enough 2 = .ok (.invokevirtual 127, 3) := dk_182 0 127 (dk_at dksX3_enough_0 2 rfl rfl)
theorem dX3_enough_5 : decode cX3_enough 5 = .ok (.ifCond .ne 10, 3) := dk_154 0 10 (dk_at dksX3_enough_0 5 rfl rfl)
theorem dX3_enough_8 : decode cX3_enough 8 = .ok (.aload_n 0, 1) := dk_42 (dk_at dksX3_enough_0 8 rfl rfl)
theorem dX3_enough_9 : decode cX3_enough 9 = .ok (.bipush (-2), 2) := dk_16 254 (dk_at dksX3_enough_0 9 rfl rfl)
theorem dX3_enough_11 : decode cX3_enough 11 = .ok (.invokevirtual 91, 3) := dk_182 0 91 (dk_at dksX3_enough_0 11 rfl rfl)
theorem dX3_enough_14 : decode cX3_enough 14 = .ok (.ireturn, 1) := dk_172 (dk_at dksX3_enough_0 14 rfl rfl)
theorem dX3_enough_15 : decode cX3_enough 15 = .ok (.aload_n 0, 1) := dk_42 (dk_at dksX3_enough_0 15 rfl rfl)
theorem dX3_enough_16 : decode cX3_enough 16 = .ok (.getfield 39, 3) := dk_180 0 39 (dk_at dksX3_enough_0 16 rfl rfl)
theorem dX3_enough_19 : decode cX3_enough 19 = .ok (.iload_n 1, 1) := dk_27 (dk_at dksX3_enough_0 19 rfl rfl)
theorem dX3_enough_20 : decode cX3_enough 20 = .ok (.aaload, 1) := dk_50 (dk_at dksX3_enough_0 20 rfl rfl)
theorem dX3_enough_21 : decode cX3_enough 21 = .ok (.iconst 2, 1) := dk_5 (dk_at dksX3_enough_0 21 rfl rfl)
theorem dX3_enough_22 : decode cX3_enough 22 = .ok (.iaload, 1) := dk_46 (dk_at dksX3_enough_0 22 rfl rfl)
theorem dX3_enough_23 : decode cX3_enough 23 = .ok (.istore_n 2, 1) := dk_61 (dk_at dksX3_enough_0 23 rfl rfl)
theorem dX3_enough_24 : decode cX3_enough 24 = .ok (.iconst (-1), 1) := dk_2 (dk_at dksX3_enough_1 0 rfl rfl)
theorem dX3_enough_25 : decode cX3_enough 25 = .ok (.istore_n 3, 1) := dk_62 (dk_at dksX3_enough_1 1 rfl rfl)
theorem dX3_enough_26 : decode cX3_enough 26 = .ok (.iconst 1, 1) := dk_4 (dk_at dksX3_enough_1 2 rfl rfl)
theorem dX3_enough_27 : decode cX3_enough 27 = .ok (.istore 4, 2) := dk_54 4 (dk_at dksX3_enough_1 3 rfl rfl)
theorem dX3_enough_29 : decode cX3_enough 29 = .ok (.iload 4, 2) := dk_21 4 (dk_at dksX3_enough_1 5 rfl rfl)
theorem dX3_enough_31 : decode cX3_enough 31 = .ok (.bipush 20, 2) := dk_16 20 (dk_at dksX3_enough_1 7 rfl rfl)
theorem dX3_enough_33 : decode cX3_enough 33 = .ok (.if_icmp .gt 44, 3) := dk_163 0 44 (dk_at dksX3_enough_1 9 rfl rfl)
theorem dX3_enough_36 : decode cX3_enough 36 = .ok (.iload_n 3, 1) := dk_29 (dk_at dksX3_enough_1 12 rfl rfl)
theorem dX3_enough_37 : decode cX3_enough 37 = .ok (.iconst (-1), 1) := dk_2 (dk_at dksX3_enough_1 13 rfl rfl)
theorem dX3_enough_38 : decode cX3_enough 38 = .ok (.if_icmp .ne 39, 3) := dk_160 0 39 (dk_at dksX3_enough_1 14 rfl rfl)
theorem dX3_enough_41 : decode cX3_enough 41 = .ok (.aload_n 0, 1) := dk_42 (dk_at dksX3_enough_1 17 rfl rfl)
theorem dX3_enough_42 : decode cX3_enough 42 = .ok (.getfield 39, 3) := dk_180 0 39 (dk_at dksX3_enough_1 18 rfl rfl)
theorem dX3_enough_45 : decode cX3_enough 45 = .ok (.iload_n 1, 1) := dk_27 (dk_at dksX3_enough_1 21 rfl rfl)
theorem dX3_enough_46 : decode cX3_enough 46 = .ok (.aaload, 1) := dk_50 (dk_at dksX3_enough_1 22 rfl rfl)
theorem dX3_enough_47 : decode cX3_enough 47 = .ok (.iconst 2, 1) := dk_5 (dk_at dksX3_enough_1 23 rfl rfl)
theorem dX3_enough_48 : decode cX3_enough 48 = .ok (.iload 4, 2) := dk_21 4 (dk_at dksX3_enough_2 0 rfl rfl)
theorem dX3_enough_50 : decode cX3_enough 50 = .ok (.iastore, 1) := dk_79 (dk_at dksX3_enough_2 2 rfl rfl)
theorem dX3_enough_51 : decode cX3_enough 51 = .ok (.aload_n 0, 1) := dk_42 (dk_at dksX3_enough_2 3 rfl rfl)
theorem dX3_enough_52 : decode cX3_enough 52 = .ok (.invokevirtual 259, 3) := dk_182 1 3 (dk_at dksX3_enough_2 4 rfl rfl)
theorem dX3_enough_55 : decode cX3_enough 55 = .ok (.aload_n 0, 1) := dk_42 (dk_at dksX3_enough_2 7 rfl rfl)
theorem dX3_enough_56 : decode cX3_enough 56 = .ok (.getfield 58, 3) := dk_180 0 58 (dk_at dksX3_enough_2 8 rfl rfl)
theorem dX3_enough_59 : decode cX3_enough 59 = .ok (.iload_n 1, 1) := dk_27 (dk_at dksX3_enough_2 11 rfl rfl)
theorem dX3_enough_60 : decode cX3_enough 60 = .ok (.iaload, 1) := dk_46 (dk_at dksX3_enough_2 12 rfl rfl)
theorem dX3_enough_61 : decode cX3_enough 61 = .ok (.ifCond .le 8, 3) := dk_158 0 8 (dk_at dksX3_enough_2 13 rfl rfl)
theorem dX3_enough_64 : decode cX3_enough 64 = .ok (.iload 4, 2) := dk_21 4 (dk_at dksX3_enough_2 16 rfl rfl)
theorem dX3_enough_66 : decode cX3_enough 66 = .ok (.goto 4, 3) := dk_167 0 4 (dk_at dksX3_enough_2 18 rfl rfl)
theorem dX3_enough_69 : decode cX3_enough 69 = .ok (.iconst (-1), 1) := dk_2 (dk_at dksX3_enough_2 21 rfl rfl)
theorem dX3_enough_70 : decode cX3_enough 70 = .ok (.istore_n 3, 1) := dk_62 (dk_at dksX3_enough_2 22 rfl rfl)
theorem dX3_enough_71 : decode cX3_enough 71 = .ok (.iinc 4 1, 3) := dk_132 4 1 (dk_at dksX3_enough_3 0 rfl rfl)
theorem dX3_enough_74 : decode cX3_enough 74 = .ok (.goto (-45), 3) := dk_167 255 211 (dk_at dksX3_enough_3 3 rfl rfl)
theorem dX3_enough_77 : decode cX3_enough 77 = .ok (.aload_n 0, 1) := dk_42 (dk_at dksX3_enough_3 6 rfl rfl)
theorem dX3_enough_78 : decode cX3_enough 78 = .ok (.getfield 39, 3) := dk_180 0 39 (dk_at dksX3_enough_3 7 rfl rfl)
theorem dX3_enough_81 : decode cX3_enough 81 = .ok (.iload_n 1, 1) := dk_27 (dk_at dksX3_enough_3 10 rfl rfl)
theorem dX3_enough_82 : decode cX3_enough 82 = .ok (.aaload, 1) := dk_50 (dk_at dksX3_enough_3 11 rfl rfl)
theorem dX3_enough_83 : decode cX3_enough 83 = .ok (.iconst 2, 1) := dk_5 (dk_at dksX3_enough_3 12 rfl rfl)
theorem dX3_enough_84 : decode cX3_enough 84 = .ok (.iload_n 2, 1) := dk_28 (dk_at dksX3_enough_3 13 rfl rfl)
theorem dX3_enough_85 : decode cX3_enough 85 = .ok (.iastore, 1) := dk_79 (dk_at dksX3_enough_3 14 rfl rfl)
theorem dX3_enough_86 : decode cX3_enough 86 = .ok (.iload_n 3, 1) := dk_29 (dk_at dksX3_enough_3 15 rfl rfl)
theorem dX3_enough_87 : decode cX3_enough 87 = .ok (.ireturn, 1) := dk_172 (dk_at dksX3_enough_3 16 rfl rfl)
abbrev cX3_better : ByteArray := prog_16_method_72_code
def yX3_better : MethodName := ⟨RX3, "better", "(I)I"⟩
def dkwX3_better_3 : List UInt8 := [21, 5, 62, 21, 6, 54, 4, 132, 5, 1, 167, 255, 207, 42, 180, 0, 42, 27, 50, 3, 28, 79, 29, 172]
abbrev dktX3_better_3 : List UInt8 := dkwX3_better_3 ++ []
def dkwX3_better_2 : List UInt8 := [42, 182, 1, 3, 42, 27, 182, 1, 9, 54, 6, 21, 5, 153, 0, 10, 21, 6, 21, 4, 164, 0, 10]
abbrev dktX3_better_2 : List UInt8 := dkwX3_better_2 ++ dktX3_better_3
def dkwX3_better_1 : List UInt8 := [3, 62, 3, 54, 4, 3, 54, 5, 21, 5, 8, 163, 0, 49, 42, 180, 0, 42, 27, 50, 3, 21, 5, 79]
abbrev dktX3_better_1 : List UInt8 := dkwX3_better_1 ++ dktX3_better_2
def dkwX3_better_0 : List UInt8 := [42, 27, 182, 0, 102, 154, 0, 10, 42, 16, 254, 182, 0, 91, 172, 42, 180, 0, 42, 27, 50, 3, 46, 61]
abbrev dktX3_better_0 : List UInt8 := dkwX3_better_0 ++ dktX3_better_1
theorem dksX3_better_0 : cX3_better.data.toList.drop 0 = dktX3_better_0 := by decide +kernel
theorem dksX3_better_1 : cX3_better.data.toList.drop 24 = dktX3_better_1 := dk_seg dksX3_better_0 24 rfl rfl
theorem dksX3_better_2 : cX3_better.data.toList.drop 48 = dktX3_better_2 := dk_seg dksX3_better_1 24 rfl rfl
theorem dksX3_better_3 : cX3_better.data.toList.drop 71 = dktX3_better_3 := dk_seg dksX3_better_2 23 rfl rfl
theorem dX3_better_0 : decode cX3_better 0 = .ok (.aload_n 0, 1) := dk_42 (dk_at dksX3_better_0 0 rfl rfl)
theorem dX3_better_1 : decode cX3_better 1 = .ok (.iload_n 1, 1) := dk_27 (dk_at dksX3_better_0 1 rfl rfl)
theorem dX3_better_2 : decode cX3_better 2 = .ok (.invokevirtual 102, 3) := dk_182 0 102 (dk_at dksX3_better_0 2 rfl rfl)
theorem dX3_better_5 : decode cX3_better 5 = .ok (.ifCond .ne 10, 3) := dk_154 0 10 (dk_at dksX3_better_0 5 rfl rfl)
theorem dX3_better_8 : decode cX3_better 8 = .ok (.aload_n 0, 1) := dk_42 (dk_at dksX3_better_0 8 rfl rfl)
theorem dX3_better_9 : decode cX3_better 9 = .ok (.bipush (-2), 2) := dk_16 254 (dk_at dksX3_better_0 9 rfl rfl)
theorem dX3_better_11 : decode cX3_better 11 = .ok (.invokevirtual 91, 3) := dk_182 0 91 (dk_at dksX3_better_0 11 rfl rfl)
theorem dX3_better_14 : decode cX3_better 14 = .ok (.ireturn, 1) := dk_172 (dk_at dksX3_better_0 14 rfl rfl)
theorem dX3_better_15 : decode cX3_better 15 = .ok (.aload_n 0, 1) := dk_42 (dk_at dksX3_better_0 15 rfl rfl)
theorem dX3_better_16 : decode cX3_better 16 = .ok (.getfield 42, 3) := dk_180 0 42 (dk_at dksX3_better_0 16 rfl rfl)
theorem dX3_better_19 : decode cX3_better 19 = .ok (.iload_n 1, 1) := dk_27 (dk_at dksX3_better_0 19 rfl rfl)
theorem dX3_better_20 : decode cX3_better 20 = .ok (.aaload, 1) := dk_50 (dk_at dksX3_better_0 20 rfl rfl)
theorem dX3_better_21 : decode cX3_better 21 = .ok (.iconst 0, 1) := dk_3 (dk_at dksX3_better_0 21 rfl rfl)
theorem dX3_better_22 : decode cX3_better 22 = .ok (.iaload, 1) := dk_46 (dk_at dksX3_better_0 22 rfl rfl)
theorem dX3_better_23 : decode cX3_better 23 = .ok (.istore_n 2, 1) := dk_61 (dk_at dksX3_better_0 23 rfl rfl)
theorem dX3_better_24 : decode cX3_better 24 = .ok (.iconst 0, 1) := dk_3 (dk_at dksX3_better_1 0 rfl rfl)
theorem dX3_better_25 : decode cX3_better 25 = .ok (.istore_n 3, 1) := dk_62 (dk_at dksX3_better_1 1 rfl rfl)
theorem dX3_better_26 : decode cX3_better 26 = .ok (.iconst 0, 1) := dk_3 (dk_at dksX3_better_1 2 rfl rfl)
theorem dX3_better_27 : decode cX3_better 27 = .ok (.istore 4, 2) := dk_54 4 (dk_at dksX3_better_1 3 rfl rfl)
theorem dX3_better_29 : decode cX3_better 29 = .ok (.iconst 0, 1) := dk_3 (dk_at dksX3_better_1 5 rfl rfl)
theorem dX3_better_30 : decode cX3_better 30 = .ok (.istore 5, 2) := dk_54 5 (dk_at dksX3_better_1 6 rfl rfl)
theorem dX3_better_32 : decode cX3_better 32 = .ok (.iload 5, 2) := dk_21 5 (dk_at dksX3_better_1 8 rfl rfl)
theorem dX3_better_34 : decode cX3_better 34 = .ok (.iconst 5, 1) := dk_8 (dk_at dksX3_better_1 10 rfl rfl)
theorem dX3_better_35 : decode cX3_better 35 = .ok (.if_icmp .gt 49, 3) := dk_163 0 49 (dk_at dksX3_better_1 11 rfl rfl)
theorem dX3_better_38 : decode cX3_better 38 = .ok (.aload_n 0, 1) := dk_42 (dk_at dksX3_better_1 14 rfl rfl)
theorem dX3_better_39 : decode cX3_better 39 = .ok (.getfield 42, 3) := dk_180 0 42 (dk_at dksX3_better_1 15 rfl rfl)
theorem dX3_better_42 : decode cX3_better 42 = .ok (.iload_n 1, 1) := dk_27 (dk_at dksX3_better_1 18 rfl rfl)
theorem dX3_better_43 : decode cX3_better 43 = .ok (.aaload, 1) := dk_50 (dk_at dksX3_better_1 19 rfl rfl)
theorem dX3_better_44 : decode cX3_better 44 = .ok (.iconst 0, 1) := dk_3 (dk_at dksX3_better_1 20 rfl rfl)
theorem dX3_better_45 : decode cX3_better 45 = .ok (.iload 5, 2) := dk_21 5 (dk_at dksX3_better_1 21 rfl rfl)
theorem dX3_better_47 : decode cX3_better 47 = .ok (.iastore, 1) := dk_79 (dk_at dksX3_better_1 23 rfl rfl)
theorem dX3_better_48 : decode cX3_better 48 = .ok (.aload_n 0, 1) := dk_42 (dk_at dksX3_better_2 0 rfl rfl)
theorem dX3_better_49 : decode cX3_better 49 = .ok (.invokevirtual 259, 3) := dk_182 1 3 (dk_at dksX3_better_2 1 rfl rfl)
theorem dX3_better_52 : decode cX3_better 52 = .ok (.aload_n 0, 1) := dk_42 (dk_at dksX3_better_2 4 rfl rfl)
theorem dX3_better_53 : decode cX3_better 53 = .ok (.iload_n 1, 1) := dk_27 (dk_at dksX3_better_2 5 rfl rfl)
theorem dX3_better_54 : decode cX3_better 54 = .ok (.invokevirtual 265, 3) := dk_182 1 9 (dk_at dksX3_better_2 6 rfl rfl)
theorem dX3_better_57 : decode cX3_better 57 = .ok (.istore 6, 2) := dk_54 6 (dk_at dksX3_better_2 9 rfl rfl)
theorem dX3_better_59 : decode cX3_better 59 = .ok (.iload 5, 2) := dk_21 5 (dk_at dksX3_better_2 11 rfl rfl)
theorem dX3_better_61 : decode cX3_better 61 = .ok (.ifCond .eq 10, 3) := dk_153 0 10 (dk_at dksX3_better_2 13 rfl rfl)
theorem dX3_better_64 : decode cX3_better 64 = .ok (.iload 6, 2) := dk_21 6 (dk_at dksX3_better_2 16 rfl rfl)
theorem dX3_better_66 : decode cX3_better 66 = .ok (.iload 4, 2) := dk_21 4 (dk_at dksX3_better_2 18 rfl rfl)
theorem dX3_better_68 : decode cX3_better 68 = .ok (.if_icmp .le 10, 3) := dk_164 0 10 (dk_at dksX3_better_2 20 rfl rfl)
theorem dX3_better_71 : decode cX3_better 71 = .ok (.iload 5, 2) := dk_21 5 (dk_at dksX3_better_3 0 rfl rfl)
theorem dX3_better_73 : decode cX3_better 73 = .ok (.istore_n 3, 1) := dk_62 (dk_at dksX3_better_3 2 rfl rfl)
theorem dX3_better_74 : decode cX3_better 74 = .ok (.iload 6, 2) := dk_21 6 (dk_at dksX3_better_3 3 rfl rfl)
theorem dX3_better_76 : decode cX3_better 76 = .ok (.istore 4, 2) := dk_54 4 (dk_at dksX3_better_3 5 rfl rfl)
theorem dX3_better_78 : decode cX3_better 78 = .ok (.iinc 5 1, 3) := dk_132 5 1 (dk_at dksX3_better_3 7 rfl rfl)
theorem dX3_better_81 : decode cX3_better 81 = .ok (.goto (-49), 3) := dk_167 255 207 (dk_at dksX3_better_3 10 rfl rfl)
theorem dX3_better_84 : decode cX3_better 84 = .ok (.aload_n 0, 1) := dk_42 (dk_at dksX3_better_3 13 rfl rfl)
theorem dX3_better_85 : decode cX3_better 85 = .ok (.getfield 42, 3) := dk_180 0 42 (dk_at dksX3_better_3 14 rfl rfl)
theorem dX3_better_88 : decode cX3_better 88 = .ok (.iload_n 1, 1) := dk_27 (dk_at dksX3_better_3 17 rfl rfl)
theorem dX3_better_89 : decode cX3_better 89 = .ok (.aaload, 1) := dk_50 (dk_at dksX3_better_3 18 rfl rfl)
theorem dX3_better_90 : decode cX3_better 90 = .ok (.iconst 0, 1) := dk_3 (dk_at dksX3_better_3 19 rfl rfl)
theorem dX3_better_91 : decode cX3_better 91 = .ok (.iload_n 2, 1) := dk_28 (dk_at dksX3_better_3 20 rfl rfl)
theorem dX3_better_92 : decode cX3_better 92 = .ok (.iastore, 1) := dk_79 (dk_at dksX3_better_3 21 rfl rfl)
theorem dX3_better_93 : decode cX3_better 93 = .ok (.iload_n 3, 1) := dk_29 (dk_at dksX3_better_3 22 rfl rfl)
theorem dX3_better_94 : decode cX3_better 94 = .ok (.ireturn, 1) := dk_172 (dk_at dksX3_better_3 23 rfl rfl)
abbrev cX3_trust : ByteArray := prog_16_method_74_code
def yX3_trust : MethodName := ⟨RX3, "trust", "(I)I"⟩
def dkwX3_trust_2 : List UInt8 := [153, 0, 8, 21, 4, 167, 0, 4, 2, 62, 132, 4, 255, 167, 255, 222, 42, 28, 181, 0, 132, 29, 172]
abbrev dktX3_trust_2 : List UInt8 := dkwX3_trust_2 ++ []
def dkwX3_trust_1 : List UInt8 := [54, 4, 21, 4, 155, 0, 35, 29, 2, 160, 0, 30, 42, 21, 4, 181, 0, 132, 42, 27, 182, 1, 24]
abbrev dktX3_trust_1 : List UInt8 := dkwX3_trust_1 ++ dktX3_trust_2
def dkwX3_trust_0 : List UInt8 := [42, 27, 182, 0, 127, 154, 0, 10, 42, 16, 254, 182, 0, 91, 172, 42, 180, 0, 132, 61, 2, 62, 16, 99]
abbrev dktX3_trust_0 : List UInt8 := dkwX3_trust_0 ++ dktX3_trust_1
theorem dksX3_trust_0 : cX3_trust.data.toList.drop 0 = dktX3_trust_0 := by decide +kernel
theorem dksX3_trust_1 : cX3_trust.data.toList.drop 24 = dktX3_trust_1 := dk_seg dksX3_trust_0 24 rfl rfl
theorem dksX3_trust_2 : cX3_trust.data.toList.drop 47 = dktX3_trust_2 := dk_seg dksX3_trust_1 23 rfl rfl
theorem dX3_trust_0 : decode cX3_trust 0 = .ok (.aload_n 0, 1) := dk_42 (dk_at dksX3_trust_0 0 rfl rfl)
theorem dX3_trust_1 : decode cX3_trust 1 = .ok (.iload_n 1, 1) := dk_27 (dk_at dksX3_trust_0 1 rfl rfl)
theorem dX3_trust_2 : decode cX3_trust 2 = .ok (.invokevirtual 127, 3) := dk_182 0 127 (dk_at dksX3_trust_0 2 rfl rfl)
theorem dX3_trust_5 : decode cX3_trust 5 = .ok (.ifCond .ne 10, 3) := dk_154 0 10 (dk_at dksX3_trust_0 5 rfl rfl)
theorem dX3_trust_8 : decode cX3_trust 8 = .ok (.aload_n 0, 1) := dk_42 (dk_at dksX3_trust_0 8 rfl rfl)
theorem dX3_trust_9 : decode cX3_trust 9 = .ok (.bipush (-2), 2) := dk_16 254 (dk_at dksX3_trust_0 9 rfl rfl)
theorem dX3_trust_11 : decode cX3_trust 11 = .ok (.invokevirtual 91, 3) := dk_182 0 91 (dk_at dksX3_trust_0 11 rfl rfl)
theorem dX3_trust_14 : decode cX3_trust 14 = .ok (.ireturn, 1) := dk_172 (dk_at dksX3_trust_0 14 rfl rfl)
theorem dX3_trust_15 : decode cX3_trust 15 = .ok (.aload_n 0, 1) := dk_42 (dk_at dksX3_trust_0 15 rfl rfl)
theorem dX3_trust_16 : decode cX3_trust 16 = .ok (.getfield 132, 3) := dk_180 0 132 (dk_at dksX3_trust_0 16 rfl rfl)
theorem dX3_trust_19 : decode cX3_trust 19 = .ok (.istore_n 2, 1) := dk_61 (dk_at dksX3_trust_0 19 rfl rfl)
theorem dX3_trust_20 : decode cX3_trust 20 = .ok (.iconst (-1), 1) := dk_2 (dk_at dksX3_trust_0 20 rfl rfl)
theorem dX3_trust_21 : decode cX3_trust 21 = .ok (.istore_n 3, 1) := dk_62 (dk_at dksX3_trust_0 21 rfl rfl)
theorem dX3_trust_22 : decode cX3_trust 22 = .ok (.bipush 99, 2) := dk_16 99 (dk_at dksX3_trust_0 22 rfl rfl)
theorem dX3_trust_24 : decode cX3_trust 24 = .ok (.istore 4, 2) := dk_54 4 (dk_at dksX3_trust_1 0 rfl rfl)
theorem dX3_trust_26 : decode cX3_trust 26 = .ok (.iload 4, 2) := dk_21 4 (dk_at dksX3_trust_1 2 rfl rfl)
theorem dX3_trust_28 : decode cX3_trust 28 = .ok (.ifCond .lt 35, 3) := dk_155 0 35 (dk_at dksX3_trust_1 4 rfl rfl)
theorem dX3_trust_31 : decode cX3_trust 31 = .ok (.iload_n 3, 1) := dk_29 (dk_at dksX3_trust_1 7 rfl rfl)
theorem dX3_trust_32 : decode cX3_trust 32 = .ok (.iconst (-1), 1) := dk_2 (dk_at dksX3_trust_1 8 rfl rfl)
theorem dX3_trust_33 : decode cX3_trust 33 = .ok (.if_icmp .ne 30, 3) := dk_160 0 30 (dk_at dksX3_trust_1 9 rfl rfl)
theorem dX3_trust_36 : decode cX3_trust 36 = .ok (.aload_n 0, 1) := dk_42 (dk_at dksX3_trust_1 12 rfl rfl)
theorem dX3_trust_37 : decode cX3_trust 37 = .ok (.iload 4, 2) := dk_21 4 (dk_at dksX3_trust_1 13 rfl rfl)
theorem dX3_trust_39 : decode cX3_trust 39 = .ok (.putfield 132, 3) := dk_181 0 132 (dk_at dksX3_trust_1 15 rfl rfl)
theorem dX3_trust_42 : decode cX3_trust 42 = .ok (.aload_n 0, 1) := dk_42 (dk_at dksX3_trust_1 18 rfl rfl)
theorem dX3_trust_43 : decode cX3_trust 43 = .ok (.iload_n 1, 1) := dk_27 (dk_at dksX3_trust_1 19 rfl rfl)
theorem dX3_trust_44 : decode cX3_trust 44 = .ok (.invokevirtual 280, 3) := dk_182 1 24 (dk_at dksX3_trust_1 20 rfl rfl)
theorem dX3_trust_47 : decode cX3_trust 47 = .ok (.ifCond .eq 8, 3) := dk_153 0 8 (dk_at dksX3_trust_2 0 rfl rfl)
theorem dX3_trust_50 : decode cX3_trust 50 = .ok (.iload 4, 2) := dk_21 4 (dk_at dksX3_trust_2 3 rfl rfl)
theorem dX3_trust_52 : decode cX3_trust 52 = .ok (.goto 4, 3) := dk_167 0 4 (dk_at dksX3_trust_2 5 rfl rfl)
theorem dX3_trust_55 : decode cX3_trust 55 = .ok (.iconst (-1), 1) := dk_2 (dk_at dksX3_trust_2 8 rfl rfl)
theorem dX3_trust_56 : decode cX3_trust 56 = .ok (.istore_n 3, 1) := dk_62 (dk_at dksX3_trust_2 9 rfl rfl)
theorem dX3_trust_57 : decode cX3_trust 57 = .ok (.iinc 4 (-1), 3) := dk_132 4 255 (dk_at dksX3_trust_2 10 rfl rfl)
theorem dX3_trust_60 : decode cX3_trust 60 = .ok (.goto (-34), 3) := dk_167 255 222 (dk_at dksX3_trust_2 13 rfl rfl)
theorem dX3_trust_63 : decode cX3_trust 63 = .ok (.aload_n 0, 1) := dk_42 (dk_at dksX3_trust_2 16 rfl rfl)
theorem dX3_trust_64 : decode cX3_trust 64 = .ok (.iload_n 2, 1) := dk_28 (dk_at dksX3_trust_2 17 rfl rfl)
theorem dX3_trust_65 : decode cX3_trust 65 = .ok (.putfield 132, 3) := dk_181 0 132 (dk_at dksX3_trust_2 18 rfl rfl)
theorem dX3_trust_68 : decode cX3_trust 68 = .ok (.iload_n 3, 1) := dk_29 (dk_at dksX3_trust_2 21 rfl rfl)
theorem dX3_trust_69 : decode cX3_trust 69 = .ok (.ireturn, 1) := dk_172 (dk_at dksX3_trust_2 22 rfl rfl)
abbrev cX3_isChoice : ByteArray := prog_16_method_73_code
def yX3_isChoice : MethodName := ⟨RX3, "isChoice", "(I)Z"⟩
def dkwX3_isChoice_1 : List UInt8 := [160, 0, 5, 4, 172, 132, 2, 1, 167, 255, 226, 3, 172]
abbrev dktX3_isChoice_1 : List UInt8 := dkwX3_isChoice_1 ++ []
def dkwX3_isChoice_0 : List UInt8 := [3, 61, 28, 42, 180, 0, 80, 162, 0, 28, 42, 28, 182, 1, 15, 153, 0, 14, 42, 28, 182, 0, 112, 27]
abbrev dktX3_isChoice_0 : List UInt8 := dkwX3_isChoice_0 ++ dktX3_isChoice_1
theorem dksX3_isChoice_0 : cX3_isChoice.data.toList.drop 0 = dktX3_isChoice_0 := by decide +kernel
theorem dksX3_isChoice_1 : cX3_isChoice.data.toList.drop 24 = dktX3_isChoice_1 := dk_seg dksX3_isChoice_0 24 rfl rfl
theorem dX3_isChoice_0 : decode cX3_isChoice 0 = .ok (.iconst 0, 1) := dk_3 (dk_at dksX3_isChoice_0 0 rfl rfl)
theorem dX3_isChoice_1 : decode cX3_isChoice 1 = .ok (.istore_n 2, 1) := dk_61 (dk_at dksX3_isChoice_0 1 rfl rfl)
theorem dX3_isChoice_2 : decode cX3_isChoice 2 = .ok (.iload_n 2, 1) := dk_28 (dk_at dksX3_isChoice_0 2 rfl rfl)
theorem dX3_isChoice_3 : decode cX3_isChoice 3 = .ok (.aload_n 0, 1) := dk_42 (dk_at dksX3_isChoice_0 3 rfl rfl)
theorem dX3_isChoice_4 : decode cX3_isChoice 4 = .ok (.getfield 80, 3) := dk_180 0 80 (dk_at dksX3_isChoice_0 4 rfl rfl)
theorem dX3_isChoice_7 : decode cX3_isChoice 7 = .ok (.if_icmp .ge 28, 3) := dk_162 0 28 (dk_at dksX3_isChoice_0 7 rfl rfl)
theorem dX3_isChoice_10 : decode cX3_isChoice 10 = .ok (.aload_n 0, 1) := dk_42 (dk_at dksX3_isChoice_0 10 rfl rfl)
theorem dX3_isChoice_11 : decode cX3_isChoice 11 = .ok (.iload_n 2, 1) := dk_28 (dk_at dksX3_isChoice_0 11 rfl rfl)
theorem dX3_isChoice_12 : decode cX3_isChoice 12 = .ok (.invokevirtual 271, 3) := dk_182 1 15 (dk_at dksX3_isChoice_0 12 rfl rfl)
theorem dX3_isChoice_15 : decode cX3_isChoice 15 = .ok (.ifCond .eq 14, 3) := dk_153 0 14 (dk_at dksX3_isChoice_0 15 rfl rfl)
theorem dX3_isChoice_18 : decode cX3_isChoice 18 = .ok (.aload_n 0, 1) := dk_42 (dk_at dksX3_isChoice_0 18 rfl rfl)
theorem dX3_isChoice_19 : decode cX3_isChoice 19 = .ok (.iload_n 2, 1) := dk_28 (dk_at dksX3_isChoice_0 19 rfl rfl)
theorem dX3_isChoice_20 : decode cX3_isChoice 20 = .ok (.invokevirtual 112, 3) := dk_182 0 112 (dk_at dksX3_isChoice_0 20 rfl rfl)
theorem dX3_isChoice_23 : decode cX3_isChoice 23 = .ok (.iload_n 1, 1) := dk_27 (dk_at dksX3_isChoice_0 23 rfl rfl)
theorem dX3_isChoice_24 : decode cX3_isChoice 24 = .ok (.if_icmp .ne 5, 3) := dk_160 0 5 (dk_at dksX3_isChoice_1 0 rfl rfl)
theorem dX3_isChoice_27 : decode cX3_isChoice 27 = .ok (.iconst 1, 1) := dk_4 (dk_at dksX3_isChoice_1 3 rfl rfl)
theorem dX3_isChoice_28 : decode cX3_isChoice 28 = .ok (.ireturn, 1) := dk_172 (dk_at dksX3_isChoice_1 4 rfl rfl)
theorem dX3_isChoice_29 : decode cX3_isChoice 29 = .ok (.iinc 2 1, 3) := dk_132 2 1 (dk_at dksX3_isChoice_1 5 rfl rfl)
theorem dX3_isChoice_32 : decode cX3_isChoice 32 = .ok (.goto (-30), 3) := dk_167 255 226 (dk_at dksX3_isChoice_1 8 rfl rfl)
theorem dX3_isChoice_35 : decode cX3_isChoice 35 = .ok (.iconst 0, 1) := dk_3 (dk_at dksX3_isChoice_1 11 rfl rfl)
theorem dX3_isChoice_36 : decode cX3_isChoice 36 = .ok (.ireturn, 1) := dk_172 (dk_at dksX3_isChoice_1 12 rfl rfl)
abbrev cX3_share : ByteArray := prog_16_method_75_code
def yX3_share : MethodName := ⟨RX3, "share", "(I)I"⟩
def dkwX3_share_2 : List UInt8 := [104, 42, 180, 0, 42, 27, 50, 4, 46, 108, 172]
abbrev dktX3_share_2 : List UInt8 := dkwX3_share_2 ++ []
def dkwX3_share_1 : List UInt8 := [160, 0, 10, 42, 16, 251, 182, 0, 91, 172, 42, 182, 1, 3, 16, 100, 42, 180, 0, 52, 27, 50, 28, 46]
abbrev dktX3_share_1 : List UInt8 := dkwX3_share_1 ++ dktX3_share_2
def dkwX3_share_0 : List UInt8 := [42, 27, 182, 0, 102, 154, 0, 10, 42, 16, 254, 182, 0, 91, 172, 42, 182, 1, 18, 61, 28, 2]
abbrev dktX3_share_0 : List UInt8 := dkwX3_share_0 ++ dktX3_share_1
theorem dksX3_share_0 : cX3_share.data.toList.drop 0 = dktX3_share_0 := by decide +kernel
theorem dksX3_share_1 : cX3_share.data.toList.drop 22 = dktX3_share_1 := dk_seg dksX3_share_0 22 rfl rfl
theorem dksX3_share_2 : cX3_share.data.toList.drop 46 = dktX3_share_2 := dk_seg dksX3_share_1 24 rfl rfl
theorem dX3_share_0 : decode cX3_share 0 = .ok (.aload_n 0, 1) := dk_42 (dk_at dksX3_share_0 0 rfl rfl)
theorem dX3_share_1 : decode cX3_share 1 = .ok (.iload_n 1, 1) := dk_27 (dk_at dksX3_share_0 1 rfl rfl)
theorem dX3_share_2 : decode cX3_share 2 = .ok (.invokevirtual 102, 3) := dk_182 0 102 (dk_at dksX3_share_0 2 rfl rfl)
theorem dX3_share_5 : decode cX3_share 5 = .ok (.ifCond .ne 10, 3) := dk_154 0 10 (dk_at dksX3_share_0 5 rfl rfl)
theorem dX3_share_8 : decode cX3_share 8 = .ok (.aload_n 0, 1) := dk_42 (dk_at dksX3_share_0 8 rfl rfl)
theorem dX3_share_9 : decode cX3_share 9 = .ok (.bipush (-2), 2) := dk_16 254 (dk_at dksX3_share_0 9 rfl rfl)
theorem dX3_share_11 : decode cX3_share 11 = .ok (.invokevirtual 91, 3) := dk_182 0 91 (dk_at dksX3_share_0 11 rfl rfl)
theorem dX3_share_14 : decode cX3_share 14 = .ok (.ireturn, 1) := dk_172 (dk_at dksX3_share_0 14 rfl rfl)
theorem dX3_share_15 : decode cX3_share 15 = .ok (.aload_n 0, 1) := dk_42 (dk_at dksX3_share_0 15 rfl rfl)
theorem dX3_share_16 : decode cX3_share 16 = .ok (.invokevirtual 274, 3) := dk_182 1 18 (dk_at dksX3_share_0 16 rfl rfl)
theorem dX3_share_19 : decode cX3_share 19 = .ok (.istore_n 2, 1) := dk_61 (dk_at dksX3_share_0 19 rfl rfl)
theorem dX3_share_20 : decode cX3_share 20 = .ok (.iload_n 2, 1) := dk_28 (dk_at dksX3_share_0 20 rfl rfl)
theorem dX3_share_21 : decode cX3_share 21 = .ok (.iconst (-1), 1) := dk_2 (dk_at dksX3_share_0 21 rfl rfl)
theorem dX3_share_22 : decode cX3_share 22 = .ok (.if_icmp .ne 10, 3) := dk_160 0 10 (dk_at dksX3_share_1 0 rfl rfl)
theorem dX3_share_25 : decode cX3_share 25 = .ok (.aload_n 0, 1) := dk_42 (dk_at dksX3_share_1 3 rfl rfl)
theorem dX3_share_26 : decode cX3_share 26 = .ok (.bipush (-5), 2) := dk_16 251 (dk_at dksX3_share_1 4 rfl rfl)
theorem dX3_share_28 : decode cX3_share 28 = .ok (.invokevirtual 91, 3) := dk_182 0 91 (dk_at dksX3_share_1 6 rfl rfl)
theorem dX3_share_31 : decode cX3_share 31 = .ok (.ireturn, 1) := dk_172 (dk_at dksX3_share_1 9 rfl rfl)
theorem dX3_share_32 : decode cX3_share 32 = .ok (.aload_n 0, 1) := dk_42 (dk_at dksX3_share_1 10 rfl rfl)
theorem dX3_share_33 : decode cX3_share 33 = .ok (.invokevirtual 259, 3) := dk_182 1 3 (dk_at dksX3_share_1 11 rfl rfl)
theorem dX3_share_36 : decode cX3_share 36 = .ok (.bipush 100, 2) := dk_16 100 (dk_at dksX3_share_1 14 rfl rfl)
theorem dX3_share_38 : decode cX3_share 38 = .ok (.aload_n 0, 1) := dk_42 (dk_at dksX3_share_1 16 rfl rfl)
theorem dX3_share_39 : decode cX3_share 39 = .ok (.getfield 52, 3) := dk_180 0 52 (dk_at dksX3_share_1 17 rfl rfl)
theorem dX3_share_42 : decode cX3_share 42 = .ok (.iload_n 1, 1) := dk_27 (dk_at dksX3_share_1 20 rfl rfl)
theorem dX3_share_43 : decode cX3_share 43 = .ok (.aaload, 1) := dk_50 (dk_at dksX3_share_1 21 rfl rfl)
theorem dX3_share_44 : decode cX3_share 44 = .ok (.iload_n 2, 1) := dk_28 (dk_at dksX3_share_1 22 rfl rfl)
theorem dX3_share_45 : decode cX3_share 45 = .ok (.iaload, 1) := dk_46 (dk_at dksX3_share_1 23 rfl rfl)
theorem dX3_share_46 : decode cX3_share 46 = .ok (.imul, 1) := dk_104 (dk_at dksX3_share_2 0 rfl rfl)
theorem dX3_share_47 : decode cX3_share 47 = .ok (.aload_n 0, 1) := dk_42 (dk_at dksX3_share_2 1 rfl rfl)
theorem dX3_share_48 : decode cX3_share 48 = .ok (.getfield 42, 3) := dk_180 0 42 (dk_at dksX3_share_2 2 rfl rfl)
theorem dX3_share_51 : decode cX3_share 51 = .ok (.iload_n 1, 1) := dk_27 (dk_at dksX3_share_2 5 rfl rfl)
theorem dX3_share_52 : decode cX3_share 52 = .ok (.aaload, 1) := dk_50 (dk_at dksX3_share_2 6 rfl rfl)
theorem dX3_share_53 : decode cX3_share 53 = .ok (.iconst 1, 1) := dk_4 (dk_at dksX3_share_2 7 rfl rfl)
theorem dX3_share_54 : decode cX3_share 54 = .ok (.iaload, 1) := dk_46 (dk_at dksX3_share_2 8 rfl rfl)
theorem dX3_share_55 : decode cX3_share 55 = .ok (.idiv, 1) := dk_108 (dk_at dksX3_share_2 9 rfl rfl)
theorem dX3_share_56 : decode cX3_share 56 = .ok (.ireturn, 1) := dk_172 (dk_at dksX3_share_2 10 rfl rfl)
abbrev cX3_nine : ByteArray := prog_16_method_76_code
def yX3_nine : MethodName := ⟨RX3, "nine", "(III)I"⟩
def dkwX3_nine_3 : List UInt8 := [50, 3, 46, 100, 172]
abbrev dktX3_nine_3 : List UInt8 := dkwX3_nine_3 ++ []
def dkwX3_nine_2 : List UInt8 := [50, 16, 6, 46, 28, 29, 104, 96, 42, 180, 0, 39, 27, 50, 8, 46, 28, 96, 108, 42, 180, 0, 39, 27]
abbrev dktX3_nine_2 : List UInt8 := dkwX3_nine_2 ++ dktX3_nine_3
def dkwX3_nine_1 : List UInt8 := [20, 0, 115, 184, 0, 76, 154, 0, 13, 18, 252, 42, 16, 254, 182, 0, 91, 96, 172, 42, 180, 0, 39, 27]
abbrev dktX3_nine_1 : List UInt8 := dkwX3_nine_1 ++ dktX3_nine_2
def dkwX3_nine_0 : List UInt8 := [42, 27, 182, 0, 127, 153, 0, 27, 28, 133, 10, 20, 0, 89, 184, 0, 76, 153, 0, 15, 29, 133, 9]
abbrev dktX3_nine_0 : List UInt8 := dkwX3_nine_0 ++ dktX3_nine_1
theorem dksX3_nine_0 : cX3_nine.data.toList.drop 0 = dktX3_nine_0 := by decide +kernel
theorem dksX3_nine_1 : cX3_nine.data.toList.drop 23 = dktX3_nine_1 := dk_seg dksX3_nine_0 23 rfl rfl
theorem dksX3_nine_2 : cX3_nine.data.toList.drop 47 = dktX3_nine_2 := dk_seg dksX3_nine_1 24 rfl rfl
theorem dksX3_nine_3 : cX3_nine.data.toList.drop 71 = dktX3_nine_3 := dk_seg dksX3_nine_2 24 rfl rfl
theorem dX3_nine_0 : decode cX3_nine 0 = .ok (.aload_n 0, 1) := dk_42 (dk_at dksX3_nine_0 0 rfl rfl)
theorem dX3_nine_1 : decode cX3_nine 1 = .ok (.iload_n 1, 1) := dk_27 (dk_at dksX3_nine_0 1 rfl rfl)
theorem dX3_nine_2 : decode cX3_nine 2 = .ok (.invokevirtual 127, 3) := dk_182 0 127 (dk_at dksX3_nine_0 2 rfl rfl)
theorem dX3_nine_5 : decode cX3_nine 5 = .ok (.ifCond .eq 27, 3) := dk_153 0 27 (dk_at dksX3_nine_0 5 rfl rfl)
theorem dX3_nine_8 : decode cX3_nine 8 = .ok (.iload_n 2, 1) := dk_28 (dk_at dksX3_nine_0 8 rfl rfl)
theorem dX3_nine_9 : decode cX3_nine 9 = .ok (.i2l, 1) := dk_133 (dk_at dksX3_nine_0 9 rfl rfl)
theorem dX3_nine_10 : decode cX3_nine 10 = .ok (.lconst 1, 1) := dk_10 (dk_at dksX3_nine_0 10 rfl rfl)
theorem dX3_nine_11 : decode cX3_nine 11 = .ok (.ldc2_w 89, 3) := dk_20 0 89 (dk_at dksX3_nine_0 11 rfl rfl)
theorem dX3_nine_14 : decode cX3_nine 14 = .ok (.invokestatic 76, 3) := dk_184 0 76 (dk_at dksX3_nine_0 14 rfl rfl)
theorem dX3_nine_17 : decode cX3_nine 17 = .ok (.ifCond .eq 15, 3) := dk_153 0 15 (dk_at dksX3_nine_0 17 rfl rfl)
theorem dX3_nine_20 : decode cX3_nine 20 = .ok (.iload_n 3, 1) := dk_29 (dk_at dksX3_nine_0 20 rfl rfl)
theorem dX3_nine_21 : decode cX3_nine 21 = .ok (.i2l, 1) := dk_133 (dk_at dksX3_nine_0 21 rfl rfl)
theorem dX3_nine_22 : decode cX3_nine 22 = .ok (.lconst 0, 1) := dk_9 (dk_at dksX3_nine_0 22 rfl rfl)
theorem dX3_nine_23 : decode cX3_nine 23 = .ok (.ldc2_w 115, 3) := dk_20 0 115 (dk_at dksX3_nine_1 0 rfl rfl)
theorem dX3_nine_26 : decode cX3_nine 26 = .ok (.invokestatic 76, 3) := dk_184 0 76 (dk_at dksX3_nine_1 3 rfl rfl)
theorem dX3_nine_29 : decode cX3_nine 29 = .ok (.ifCond .ne 13, 3) := dk_154 0 13 (dk_at dksX3_nine_1 6 rfl rfl)
theorem dX3_nine_32 : decode cX3_nine 32 = .ok (.ldc 252, 2) := dk_18 252 (dk_at dksX3_nine_1 9 rfl rfl)
theorem dX3_nine_34 : decode cX3_nine 34 = .ok (.aload_n 0, 1) := dk_42 (dk_at dksX3_nine_1 11 rfl rfl)
theorem dX3_nine_35 : decode cX3_nine 35 = .ok (.bipush (-2), 2) := dk_16 254 (dk_at dksX3_nine_1 12 rfl rfl)
theorem dX3_nine_37 : decode cX3_nine 37 = .ok (.invokevirtual 91, 3) := dk_182 0 91 (dk_at dksX3_nine_1 14 rfl rfl)
theorem dX3_nine_40 : decode cX3_nine 40 = .ok (.iadd, 1) := dk_96 (dk_at dksX3_nine_1 17 rfl rfl)
theorem dX3_nine_41 : decode cX3_nine 41 = .ok (.ireturn, 1) := dk_172 (dk_at dksX3_nine_1 18 rfl rfl)
theorem dX3_nine_42 : decode cX3_nine 42 = .ok (.aload_n 0, 1) := dk_42 (dk_at dksX3_nine_1 19 rfl rfl)
theorem dX3_nine_43 : decode cX3_nine 43 = .ok (.getfield 39, 3) := dk_180 0 39 (dk_at dksX3_nine_1 20 rfl rfl)
theorem dX3_nine_46 : decode cX3_nine 46 = .ok (.iload_n 1, 1) := dk_27 (dk_at dksX3_nine_1 23 rfl rfl)
theorem dX3_nine_47 : decode cX3_nine 47 = .ok (.aaload, 1) := dk_50 (dk_at dksX3_nine_2 0 rfl rfl)
theorem dX3_nine_48 : decode cX3_nine 48 = .ok (.bipush 6, 2) := dk_16 6 (dk_at dksX3_nine_2 1 rfl rfl)
theorem dX3_nine_50 : decode cX3_nine 50 = .ok (.iaload, 1) := dk_46 (dk_at dksX3_nine_2 3 rfl rfl)
theorem dX3_nine_51 : decode cX3_nine 51 = .ok (.iload_n 2, 1) := dk_28 (dk_at dksX3_nine_2 4 rfl rfl)
theorem dX3_nine_52 : decode cX3_nine 52 = .ok (.iload_n 3, 1) := dk_29 (dk_at dksX3_nine_2 5 rfl rfl)
theorem dX3_nine_53 : decode cX3_nine 53 = .ok (.imul, 1) := dk_104 (dk_at dksX3_nine_2 6 rfl rfl)
theorem dX3_nine_54 : decode cX3_nine 54 = .ok (.iadd, 1) := dk_96 (dk_at dksX3_nine_2 7 rfl rfl)
theorem dX3_nine_55 : decode cX3_nine 55 = .ok (.aload_n 0, 1) := dk_42 (dk_at dksX3_nine_2 8 rfl rfl)
theorem dX3_nine_56 : decode cX3_nine 56 = .ok (.getfield 39, 3) := dk_180 0 39 (dk_at dksX3_nine_2 9 rfl rfl)
theorem dX3_nine_59 : decode cX3_nine 59 = .ok (.iload_n 1, 1) := dk_27 (dk_at dksX3_nine_2 12 rfl rfl)
theorem dX3_nine_60 : decode cX3_nine 60 = .ok (.aaload, 1) := dk_50 (dk_at dksX3_nine_2 13 rfl rfl)
theorem dX3_nine_61 : decode cX3_nine 61 = .ok (.iconst 5, 1) := dk_8 (dk_at dksX3_nine_2 14 rfl rfl)
theorem dX3_nine_62 : decode cX3_nine 62 = .ok (.iaload, 1) := dk_46 (dk_at dksX3_nine_2 15 rfl rfl)
theorem dX3_nine_63 : decode cX3_nine 63 = .ok (.iload_n 2, 1) := dk_28 (dk_at dksX3_nine_2 16 rfl rfl)
theorem dX3_nine_64 : decode cX3_nine 64 = .ok (.iadd, 1) := dk_96 (dk_at dksX3_nine_2 17 rfl rfl)
theorem dX3_nine_65 : decode cX3_nine 65 = .ok (.idiv, 1) := dk_108 (dk_at dksX3_nine_2 18 rfl rfl)
theorem dX3_nine_66 : decode cX3_nine 66 = .ok (.aload_n 0, 1) := dk_42 (dk_at dksX3_nine_2 19 rfl rfl)
theorem dX3_nine_67 : decode cX3_nine 67 = .ok (.getfield 39, 3) := dk_180 0 39 (dk_at dksX3_nine_2 20 rfl rfl)
theorem dX3_nine_70 : decode cX3_nine 70 = .ok (.iload_n 1, 1) := dk_27 (dk_at dksX3_nine_2 23 rfl rfl)
theorem dX3_nine_71 : decode cX3_nine 71 = .ok (.aaload, 1) := dk_50 (dk_at dksX3_nine_3 0 rfl rfl)
theorem dX3_nine_72 : decode cX3_nine 72 = .ok (.iconst 0, 1) := dk_3 (dk_at dksX3_nine_3 1 rfl rfl)
theorem dX3_nine_73 : decode cX3_nine 73 = .ok (.iaload, 1) := dk_46 (dk_at dksX3_nine_3 2 rfl rfl)
theorem dX3_nine_74 : decode cX3_nine 74 = .ok (.isub, 1) := dk_100 (dk_at dksX3_nine_3 3 rfl rfl)
theorem dX3_nine_75 : decode cX3_nine 75 = .ok (.ireturn, 1) := dk_172 (dk_at dksX3_nine_3 4 rfl rfl)
abbrev cX3_two : ByteArray := prog_16_method_77_code
def yX3_two : MethodName := ⟨RX3, "two", "(II)I"⟩
def dkwX3_two_7 : List UInt8 := [132, 4, 1, 167, 255, 135, 45, 2, 182, 1, 12, 172]
abbrev dktX3_two_7 : List UInt8 := dkwX3_two_7 ++ []
def dkwX3_two_6 : List UInt8 := [182, 1, 0, 45, 28, 182, 1, 27, 45, 21, 5, 21, 6, 182, 1, 0, 132, 5, 1, 167, 255, 150]
abbrev dktX3_two_6 : List UInt8 := dkwX3_two_6 ++ dktX3_two_7
def dkwX3_two_5 : List UInt8 := [54, 6, 45, 27, 182, 1, 27, 45, 21, 5, 42, 180, 0, 42, 21, 5, 50, 4, 46, 21, 6, 100]
abbrev dktX3_two_5 : List UInt8 := dkwX3_two_5 ++ dktX3_two_6
def dkwX3_two_4 : List UInt8 := [21, 5, 182, 1, 15, 153, 0, 17, 42, 180, 0, 42, 21, 5, 50, 4, 46, 5, 108, 167, 0, 4, 3]
abbrev dktX3_two_4 : List UInt8 := dkwX3_two_4 ++ dktX3_two_5
def dkwX3_two_3 : List UInt8 := [8, 160, 0, 7, 4, 167, 0, 4, 3, 21, 4, 4, 160, 0, 7, 4, 167, 0, 4, 3, 160, 0, 65, 42]
abbrev dktX3_two_3 : List UInt8 := dkwX3_two_3 ++ dktX3_two_4
def dkwX3_two_2 : List UInt8 := [162, 0, 121, 3, 54, 5, 21, 5, 42, 180, 0, 80, 162, 0, 103, 42, 180, 0, 42, 21, 5, 50, 3, 46]
abbrev dktX3_two_2 : List UInt8 := dkwX3_two_2 ++ dktX3_two_3
def dkwX3_two_1 : List UInt8 := [96, 172, 42, 182, 0, 227, 78, 45, 3, 181, 0, 132, 45, 182, 0, 253, 3, 54, 4, 21, 4, 5]
abbrev dktX3_two_1 : List UInt8 := dkwX3_two_1 ++ dktX3_two_2
def dkwX3_two_0 : List UInt8 := [42, 27, 182, 0, 135, 153, 0, 11, 42, 28, 182, 0, 135, 154, 0, 13, 18, 252, 42, 16, 254, 182, 0, 91]
abbrev dktX3_two_0 : List UInt8 := dkwX3_two_0 ++ dktX3_two_1
theorem dksX3_two_0 : cX3_two.data.toList.drop 0 = dktX3_two_0 := by decide +kernel
theorem dksX3_two_1 : cX3_two.data.toList.drop 24 = dktX3_two_1 := dk_seg dksX3_two_0 24 rfl rfl
theorem dksX3_two_2 : cX3_two.data.toList.drop 46 = dktX3_two_2 := dk_seg dksX3_two_1 22 rfl rfl
theorem dksX3_two_3 : cX3_two.data.toList.drop 70 = dktX3_two_3 := dk_seg dksX3_two_2 24 rfl rfl
theorem dksX3_two_4 : cX3_two.data.toList.drop 94 = dktX3_two_4 := dk_seg dksX3_two_3 24 rfl rfl
theorem dksX3_two_5 : cX3_two.data.toList.drop 117 = dktX3_two_5 := dk_seg dksX3_two_4 23 rfl rfl
theorem dksX3_two_6 : cX3_two.data.toList.drop 139 = dktX3_two_6 := dk_seg dksX3_two_5 22 rfl rfl
theorem dksX3_two_7 : cX3_two.data.toList.drop 161 = dktX3_two_7 := dk_seg dksX3_two_6 22 rfl rfl
theorem dX3_two_0 : decode cX3_two 0 = .ok (.aload_n 0, 1) := dk_42 (dk_at dksX3_two_0 0 rfl rfl)
theorem dX3_two_1 : decode cX3_two 1 = .ok (.iload_n 1, 1) := dk_27 (dk_at dksX3_two_0 1 rfl rfl)
theorem dX3_two_2 : decode cX3_two 2 = .ok (.invokevirtual 135, 3) := dk_182 0 135 (dk_at dksX3_two_0 2 rfl rfl)
theorem dX3_two_5 : decode cX3_two 5 = .ok (.ifCond .eq 11, 3) := dk_153 0 11 (dk_at dksX3_two_0 5 rfl rfl)
theorem dX3_two_8 : decode cX3_two 8 = .ok (.aload_n 0, 1) := dk_42 (dk_at dksX3_two_0 8 rfl rfl)
theorem dX3_two_9 : decode cX3_two 9 = .ok (.iload_n 2, 1) := dk_28 (dk_at dksX3_two_0 9 rfl rfl)
theorem dX3_two_10 : decode cX3_two 10 = .ok (.invokevirtual 135, 3) := dk_182 0 135 (dk_at dksX3_two_0 10 rfl rfl)
theorem dX3_two_13 : decode cX3_two 13 = .ok (.ifCond .ne 13, 3) := dk_154 0 13 (dk_at dksX3_two_0 13 rfl rfl)
theorem dX3_two_16 : decode cX3_two 16 = .ok (.ldc 252, 2) := dk_18 252 (dk_at dksX3_two_0 16 rfl rfl)
theorem dX3_two_18 : decode cX3_two 18 = .ok (.aload_n 0, 1) := dk_42 (dk_at dksX3_two_0 18 rfl rfl)
theorem dX3_two_19 : decode cX3_two 19 = .ok (.bipush (-2), 2) := dk_16 254 (dk_at dksX3_two_0 19 rfl rfl)
theorem dX3_two_21 : decode cX3_two 21 = .ok (.invokevirtual 91, 3) := dk_182 0 91 (dk_at dksX3_two_0 21 rfl rfl)
theorem dX3_two_24 : decode cX3_two 24 = .ok (.iadd, 1) := dk_96 (dk_at dksX3_two_1 0 rfl rfl)
theorem dX3_two_25 : decode cX3_two 25 = .ok (.ireturn, 1) := dk_172 (dk_at dksX3_two_1 1 rfl rfl)
theorem dX3_two_26 : decode cX3_two 26 = .ok (.aload_n 0, 1) := dk_42 (dk_at dksX3_two_1 2 rfl rfl)
theorem dX3_two_27 : decode cX3_two 27 = .ok (.invokevirtual 227, 3) := dk_182 0 227 (dk_at dksX3_two_1 3 rfl rfl)
theorem dX3_two_30 : decode cX3_two 30 = .ok (.astore_n 3, 1) := dk_78 (dk_at dksX3_two_1 6 rfl rfl)
theorem dX3_two_31 : decode cX3_two 31 = .ok (.aload_n 3, 1) := dk_45 (dk_at dksX3_two_1 7 rfl rfl)
theorem dX3_two_32 : decode cX3_two 32 = .ok (.iconst 0, 1) := dk_3 (dk_at dksX3_two_1 8 rfl rfl)
theorem dX3_two_33 : decode cX3_two 33 = .ok (.putfield 132, 3) := dk_181 0 132 (dk_at dksX3_two_1 9 rfl rfl)
theorem dX3_two_36 : decode cX3_two 36 = .ok (.aload_n 3, 1) := dk_45 (dk_at dksX3_two_1 12 rfl rfl)
theorem dX3_two_37 : decode cX3_two 37 = .ok (.invokevirtual 253, 3) := dk_182 0 253 (dk_at dksX3_two_1 13 rfl rfl)
theorem dX3_two_40 : decode cX3_two 40 = .ok (.iconst 0, 1) := dk_3 (dk_at dksX3_two_1 16 rfl rfl)
theorem dX3_two_41 : decode cX3_two 41 = .ok (.istore 4, 2) := dk_54 4 (dk_at dksX3_two_1 17 rfl rfl)
theorem dX3_two_43 : decode cX3_two 43 = .ok (.iload 4, 2) := dk_21 4 (dk_at dksX3_two_1 19 rfl rfl)
theorem dX3_two_45 : decode cX3_two 45 = .ok (.iconst 2, 1) := dk_5 (dk_at dksX3_two_1 21 rfl rfl)
theorem dX3_two_46 : decode cX3_two 46 = .ok (.if_icmp .ge 121, 3) := dk_162 0 121 (dk_at dksX3_two_2 0 rfl rfl)
theorem dX3_two_49 : decode cX3_two 49 = .ok (.iconst 0, 1) := dk_3 (dk_at dksX3_two_2 3 rfl rfl)
theorem dX3_two_50 : decode cX3_two 50 = .ok (.istore 5, 2) := dk_54 5 (dk_at dksX3_two_2 4 rfl rfl)
theorem dX3_two_52 : decode cX3_two 52 = .ok (.iload 5, 2) := dk_21 5 (dk_at dksX3_two_2 6 rfl rfl)
theorem dX3_two_54 : decode cX3_two 54 = .ok (.aload_n 0, 1) := dk_42 (dk_at dksX3_two_2 8 rfl rfl)
theorem dX3_two_55 : decode cX3_two 55 = .ok (.getfield 80, 3) := dk_180 0 80 (dk_at dksX3_two_2 9 rfl rfl)
theorem dX3_two_58 : decode cX3_two 58 = .ok (.if_icmp .ge 103, 3) := dk_162 0 103 (dk_at dksX3_two_2 12 rfl rfl)
theorem dX3_two_61 : decode cX3_two 61 = .ok (.aload_n 0, 1) := dk_42 (dk_at dksX3_two_2 15 rfl rfl)
theorem dX3_two_62 : decode cX3_two 62 = .ok (.getfield 42, 3) := dk_180 0 42 (dk_at dksX3_two_2 16 rfl rfl)
theorem dX3_two_65 : decode cX3_two 65 = .ok (.iload 5, 2) := dk_21 5 (dk_at dksX3_two_2 19 rfl rfl)
theorem dX3_two_67 : decode cX3_two 67 = .ok (.aaload, 1) := dk_50 (dk_at dksX3_two_2 21 rfl rfl)
theorem dX3_two_68 : decode cX3_two 68 = .ok (.iconst 0, 1) := dk_3 (dk_at dksX3_two_2 22 rfl rfl)
theorem dX3_two_69 : decode cX3_two 69 = .ok (.iaload, 1) := dk_46 (dk_at dksX3_two_2 23 rfl rfl)
theorem dX3_two_70 : decode cX3_two 70 = .ok (.iconst 5, 1) := dk_8 (dk_at dksX3_two_3 0 rfl rfl)
theorem dX3_two_71 : decode cX3_two 71 = .ok (.if_icmp .ne 7, 3) := dk_160 0 7 (dk_at dksX3_two_3 1 rfl rfl)
theorem dX3_two_74 : decode cX3_two 74 = .ok (.iconst 1, 1) := dk_4 (dk_at dksX3_two_3 4 rfl rfl)
theorem dX3_two_75 : decode cX3_two 75 = .ok (.goto 4, 3) := dk_167 0 4 (dk_at dksX3_two_3 5 rfl rfl)
theorem dX3_two_78 : decode cX3_two 78 = .ok (.iconst 0, 1) := dk_3 (dk_at dksX3_two_3 8 rfl rfl)
theorem dX3_two_79 : decode cX3_two 79 = .ok (.iload 4, 2) := dk_21 4 (dk_at dksX3_two_3 9 rfl rfl)
theorem dX3_two_81 : decode cX3_two 81 = .ok (.iconst 1, 1) := dk_4 (dk_at dksX3_two_3 11 rfl rfl)
theorem dX3_two_82 : decode cX3_two 82 = .ok (.if_icmp .ne 7, 3) := dk_160 0 7 (dk_at dksX3_two_3 12 rfl rfl)
theorem dX3_two_85 : decode cX3_two 85 = .ok (.iconst 1, 1) := dk_4 (dk_at dksX3_two_3 15 rfl rfl)
theorem dX3_two_86 : decode cX3_two 86 = .ok (.goto 4, 3) := dk_167 0 4 (dk_at dksX3_two_3 16 rfl rfl)
theorem dX3_two_89 : decode cX3_two 89 = .ok (.iconst 0, 1) := dk_3 (dk_at dksX3_two_3 19 rfl rfl)
theorem dX3_two_90 : decode cX3_two 90 = .ok (.if_icmp .ne 65, 3) := dk_160 0 65 (dk_at dksX3_two_3 20 rfl rfl)
theorem dX3_two_93 : decode cX3_two 93 = .ok (.aload_n 0, 1) := dk_42 (dk_at dksX3_two_3 23 rfl rfl)
theorem dX3_two_94 : decode cX3_two 94 = .ok (.iload 5, 2) := dk_21 5 (dk_at dksX3_two_4 0 rfl rfl)
theorem dX3_two_96 : decode cX3_two 96 = .ok (.invokevirtual 271, 3) := dk_182 1 15 (dk_at dksX3_two_4 2 rfl rfl)
theorem dX3_two_99 : decode cX3_two 99 = .ok (.ifCond .eq 17, 3) := dk_153 0 17 (dk_at dksX3_two_4 5 rfl rfl)
theorem dX3_two_102 : decode cX3_two 102 = .ok (.aload_n 0, 1) := dk_42 (dk_at dksX3_two_4 8 rfl rfl)
theorem dX3_two_103 : decode cX3_two 103 = .ok (.getfield 42, 3) := dk_180 0 42 (dk_at dksX3_two_4 9 rfl rfl)
theorem dX3_two_106 : decode cX3_two 106 = .ok (.iload 5, 2) := dk_21 5 (dk_at dksX3_two_4 12 rfl rfl)
theorem dX3_two_108 : decode cX3_two 108 = .ok (.aaload, 1) := dk_50 (dk_at dksX3_two_4 14 rfl rfl)
theorem dX3_two_109 : decode cX3_two 109 = .ok (.iconst 1, 1) := dk_4 (dk_at dksX3_two_4 15 rfl rfl)
theorem dX3_two_110 : decode cX3_two 110 = .ok (.iaload, 1) := dk_46 (dk_at dksX3_two_4 16 rfl rfl)
theorem dX3_two_111 : decode cX3_two 111 = .ok (.iconst 2, 1) := dk_5 (dk_at dksX3_two_4 17 rfl rfl)
theorem dX3_two_112 : decode cX3_two 112 = .ok (.idiv, 1) := dk_108 (dk_at dksX3_two_4 18 rfl rfl)
theorem dX3_two_113 : decode cX3_two 113 = .ok (.goto 4, 3) := dk_167 0 4 (dk_at dksX3_two_4 19 rfl rfl)
theorem dX3_two_116 : decode cX3_two 116 = .ok (.iconst 0, 1) := dk_3 (dk_at dksX3_two_4 22 rfl rfl)
theorem dX3_two_117 : decode cX3_two 117 = .ok (.istore 6, 2) := dk_54 6 (dk_at dksX3_two_5 0 rfl rfl)
theorem dX3_two_119 : decode cX3_two 119 = .ok (.aload_n 3, 1) := dk_45 (dk_at dksX3_two_5 2 rfl rfl)
theorem dX3_two_120 : decode cX3_two 120 = .ok (.iload_n 1, 1) := dk_27 (dk_at dksX3_two_5 3 rfl rfl)
theorem dX3_two_121 : decode cX3_two 121 = .ok (.invokevirtual 283, 3) := dk_182 1 27 (dk_at dksX3_two_5 4 rfl rfl)
theorem dX3_two_124 : decode cX3_two 124 = .ok (.aload_n 3, 1) := dk_45 (dk_at dksX3_two_5 7 rfl rfl)
theorem dX3_two_125 : decode cX3_two 125 = .ok (.iload 5, 2) := dk_21 5 (dk_at dksX3_two_5 8 rfl rfl)
theorem dX3_two_127 : decode cX3_two 127 = .ok (.aload_n 0, 1) := dk_42 (dk_at dksX3_two_5 10 rfl rfl)
theorem dX3_two_128 : decode cX3_two 128 = .ok (.getfield 42, 3) := dk_180 0 42 (dk_at dksX3_two_5 11 rfl rfl)
theorem dX3_two_131 : decode cX3_two 131 = .ok (.iload 5, 2) := dk_21 5 (dk_at dksX3_two_5 14 rfl rfl)
theorem dX3_two_133 : decode cX3_two 133 = .ok (.aaload, 1) := dk_50 (dk_at dksX3_two_5 16 rfl rfl)
theorem dX3_two_134 : decode cX3_two 134 = .ok (.iconst 1, 1) := dk_4 (dk_at dksX3_two_5 17 rfl rfl)
theorem dX3_two_135 : decode cX3_two 135 = .ok (.iaload, 1) := dk_46 (dk_at dksX3_two_5 18 rfl rfl)
theorem dX3_two_136 : decode cX3_two 136 = .ok (.iload 6, 2) := dk_21 6 (dk_at dksX3_two_5 19 rfl rfl)
theorem dX3_two_138 : decode cX3_two 138 = .ok (.isub, 1) := dk_100 (dk_at dksX3_two_5 21 rfl rfl)
theorem dX3_two_139 : decode cX3_two 139 = .ok (.invokevirtual 256, 3) := dk_182 1 0 (dk_at dksX3_two_6 0 rfl rfl)
theorem dX3_two_142 : decode cX3_two 142 = .ok (.aload_n 3, 1) := dk_45 (dk_at dksX3_two_6 3 rfl rfl)
theorem dX3_two_143 : decode cX3_two 143 = .ok (.iload_n 2, 1) := dk_28 (dk_at dksX3_two_6 4 rfl rfl)
theorem dX3_two_144 : decode cX3_two 144 = .ok (.invokevirtual 283, 3) := dk_182 1 27 (dk_at dksX3_two_6 5 rfl rfl)
theorem dX3_two_147 : decode cX3_two 147 = .ok (.aload_n 3, 1) := dk_45 (dk_at dksX3_two_6 8 rfl rfl)
theorem dX3_two_148 : decode cX3_two 148 = .ok (.iload 5, 2) := dk_21 5 (dk_at dksX3_two_6 9 rfl rfl)
theorem dX3_two_150 : decode cX3_two 150 = .ok (.iload 6, 2) := dk_21 6 (dk_at dksX3_two_6 11 rfl rfl)
theorem dX3_two_152 : decode cX3_two 152 = .ok (.invokevirtual 256, 3) := dk_182 1 0 (dk_at dksX3_two_6 13 rfl rfl)
theorem dX3_two_155 : decode cX3_two 155 = .ok (.iinc 5 1, 3) := dk_132 5 1 (dk_at dksX3_two_6 16 rfl rfl)
theorem dX3_two_158 : decode cX3_two 158 = .ok (.goto (-106), 3) := dk_167 255 150 (dk_at dksX3_two_6 19 rfl rfl)
theorem dX3_two_161 : decode cX3_two 161 = .ok (.iinc 4 1, 3) := dk_132 4 1 (dk_at dksX3_two_7 0 rfl rfl)
theorem dX3_two_164 : decode cX3_two 164 = .ok (.goto (-121), 3) := dk_167 255 135 (dk_at dksX3_two_7 3 rfl rfl)
theorem dX3_two_167 : decode cX3_two 167 = .ok (.aload_n 3, 1) := dk_45 (dk_at dksX3_two_7 6 rfl rfl)
theorem dX3_two_168 : decode cX3_two 168 = .ok (.iconst (-1), 1) := dk_2 (dk_at dksX3_two_7 7 rfl rfl)
theorem dX3_two_169 : decode cX3_two 169 = .ok (.invokevirtual 268, 3) := dk_182 1 12 (dk_at dksX3_two_7 8 rfl rfl)
theorem dX3_two_172 : decode cX3_two 172 = .ok (.ireturn, 1) := dk_172 (dk_at dksX3_two_7 11 rfl rfl)
abbrev cX3_readBook : ByteArray := prog_16_method_78_code
def yX3_readBook : MethodName := ⟨RX3, "readBook", "(I)V"⟩
def dkwX3_readBook_1 : List UInt8 := [180, 0, 39, 28, 50, 3, 46, 167, 0, 4, 2, 79, 132, 2, 1, 167, 255, 219, 177]
abbrev dktX3_readBook_1 : List UInt8 := dkwX3_readBook_1 ++ []
def dkwX3_readBook_0 : List UInt8 := [3, 61, 28, 42, 180, 0, 73, 162, 0, 35, 42, 180, 0, 61, 28, 27, 28, 122, 4, 126, 153, 0, 14, 42]
abbrev dktX3_readBook_0 : List UInt8 := dkwX3_readBook_0 ++ dktX3_readBook_1
theorem dksX3_readBook_0 : cX3_readBook.data.toList.drop 0 = dktX3_readBook_0 := by decide +kernel
theorem dksX3_readBook_1 : cX3_readBook.data.toList.drop 24 = dktX3_readBook_1 := dk_seg dksX3_readBook_0 24 rfl rfl
theorem dX3_readBook_0 : decode cX3_readBook 0 = .ok (.iconst 0, 1) := dk_3 (dk_at dksX3_readBook_0 0 rfl rfl)
theorem dX3_readBook_1 : decode cX3_readBook 1 = .ok (.istore_n 2, 1) := dk_61 (dk_at dksX3_readBook_0 1 rfl rfl)
theorem dX3_readBook_2 : decode cX3_readBook 2 = .ok (.iload_n 2, 1) := dk_28 (dk_at dksX3_readBook_0 2 rfl rfl)
theorem dX3_readBook_3 : decode cX3_readBook 3 = .ok (.aload_n 0, 1) := dk_42 (dk_at dksX3_readBook_0 3 rfl rfl)
theorem dX3_readBook_4 : decode cX3_readBook 4 = .ok (.getfield 73, 3) := dk_180 0 73 (dk_at dksX3_readBook_0 4 rfl rfl)
theorem dX3_readBook_7 : decode cX3_readBook 7 = .ok (.if_icmp .ge 35, 3) := dk_162 0 35 (dk_at dksX3_readBook_0 7 rfl rfl)
theorem dX3_readBook_10 : decode cX3_readBook 10 = .ok (.aload_n 0, 1) := dk_42 (dk_at dksX3_readBook_0 10 rfl rfl)
theorem dX3_readBook_11 : decode cX3_readBook 11 = .ok (.getfield 61, 3) := dk_180 0 61 (dk_at dksX3_readBook_0 11 rfl rfl)
theorem dX3_readBook_14 : decode cX3_readBook 14 = .ok (.iload_n 2, 1) := dk_28 (dk_at dksX3_readBook_0 14 rfl rfl)
theorem dX3_readBook_15 : decode cX3_readBook 15 = .ok (.iload_n 1, 1) := dk_27 (dk_at dksX3_readBook_0 15 rfl rfl)
theorem dX3_readBook_16 : decode cX3_readBook 16 = .ok (.iload_n 2, 1) := dk_28 (dk_at dksX3_readBook_0 16 rfl rfl)
theorem dX3_readBook_17 : decode cX3_readBook 17 = .ok (.ishr, 1) := dk_122 (dk_at dksX3_readBook_0 17 rfl rfl)
theorem dX3_readBook_18 : decode cX3_readBook 18 = .ok (.iconst 1, 1) := dk_4 (dk_at dksX3_readBook_0 18 rfl rfl)
theorem dX3_readBook_19 : decode cX3_readBook 19 = .ok (.iand, 1) := dk_126 (dk_at dksX3_readBook_0 19 rfl rfl)
theorem dX3_readBook_20 : decode cX3_readBook 20 = .ok (.ifCond .eq 14, 3) := dk_153 0 14 (dk_at dksX3_readBook_0 20 rfl rfl)
theorem dX3_readBook_23 : decode cX3_readBook 23 = .ok (.aload_n 0, 1) := dk_42 (dk_at dksX3_readBook_0 23 rfl rfl)
theorem dX3_readBook_24 : decode cX3_readBook 24 = .ok (.getfield 39, 3) := dk_180 0 39 (dk_at dksX3_readBook_1 0 rfl rfl)
theorem dX3_readBook_27 : decode cX3_readBook 27 = .ok (.iload_n 2, 1) := dk_28 (dk_at dksX3_readBook_1 3 rfl rfl)
theorem dX3_readBook_28 : decode cX3_readBook 28 = .ok (.aaload, 1) := dk_50 (dk_at dksX3_readBook_1 4 rfl rfl)
theorem dX3_readBook_29 : decode cX3_readBook 29 = .ok (.iconst 0, 1) := dk_3 (dk_at dksX3_readBook_1 5 rfl rfl)
theorem dX3_readBook_30 : decode cX3_readBook 30 = .ok (.iaload, 1) := dk_46 (dk_at dksX3_readBook_1 6 rfl rfl)
theorem dX3_readBook_31 : decode cX3_readBook 31 = .ok (.goto 4, 3) := dk_167 0 4 (dk_at dksX3_readBook_1 7 rfl rfl)
theorem dX3_readBook_34 : decode cX3_readBook 34 = .ok (.iconst (-1), 1) := dk_2 (dk_at dksX3_readBook_1 10 rfl rfl)
theorem dX3_readBook_35 : decode cX3_readBook 35 = .ok (.iastore, 1) := dk_79 (dk_at dksX3_readBook_1 11 rfl rfl)
theorem dX3_readBook_36 : decode cX3_readBook 36 = .ok (.iinc 2 1, 3) := dk_132 2 1 (dk_at dksX3_readBook_1 12 rfl rfl)
theorem dX3_readBook_39 : decode cX3_readBook 39 = .ok (.goto (-37), 3) := dk_167 255 219 (dk_at dksX3_readBook_1 15 rfl rfl)
theorem dX3_readBook_42 : decode cX3_readBook 42 = .ok (.return_, 1) := dk_177 (dk_at dksX3_readBook_1 18 rfl rfl)
abbrev cX3_judge : ByteArray := prog_16_method_79_code
def yX3_judge : MethodName := ⟨RX3, "judge", "(I)I"⟩
def dkwX3_judge_4 : List UInt8 := [167, 255, 207, 2, 172]
abbrev dktX3_judge_4 : List UInt8 := dkwX3_judge_4 ++ []
def dkwX3_judge_3 : List UInt8 := [42, 180, 0, 73, 108, 50, 29, 42, 180, 0, 73, 112, 46, 133, 148, 153, 0, 5, 29, 172, 132, 3, 1]
abbrev dktX3_judge_3 : List UInt8 := dkwX3_judge_3 ++ dktX3_judge_4
def dkwX3_judge_2 : List UInt8 := [180, 0, 80, 42, 180, 0, 73, 104, 162, 0, 42, 42, 180, 0, 21, 27, 50, 29, 47, 42, 180, 0, 52, 29]
abbrev dktX3_judge_2 : List UInt8 := dkwX3_judge_2 ++ dktX3_judge_3
def dkwX3_judge_1 : List UInt8 := [180, 0, 73, 104, 162, 0, 10, 42, 16, 254, 182, 0, 91, 172, 42, 182, 1, 3, 3, 62, 29, 42]
abbrev dktX3_judge_1 : List UInt8 := dkwX3_judge_1 ++ dktX3_judge_2
def dkwX3_judge_0 : List UInt8 := [42, 27, 182, 0, 95, 61, 28, 153, 0, 5, 28, 172, 42, 180, 0, 16, 27, 46, 42, 180, 0, 80, 42]
abbrev dktX3_judge_0 : List UInt8 := dkwX3_judge_0 ++ dktX3_judge_1
theorem dksX3_judge_0 : cX3_judge.data.toList.drop 0 = dktX3_judge_0 := by decide +kernel
theorem dksX3_judge_1 : cX3_judge.data.toList.drop 23 = dktX3_judge_1 := dk_seg dksX3_judge_0 23 rfl rfl
theorem dksX3_judge_2 : cX3_judge.data.toList.drop 45 = dktX3_judge_2 := dk_seg dksX3_judge_1 22 rfl rfl
theorem dksX3_judge_3 : cX3_judge.data.toList.drop 69 = dktX3_judge_3 := dk_seg dksX3_judge_2 24 rfl rfl
theorem dksX3_judge_4 : cX3_judge.data.toList.drop 92 = dktX3_judge_4 := dk_seg dksX3_judge_3 23 rfl rfl
theorem dX3_judge_0 : decode cX3_judge 0 = .ok (.aload_n 0, 1) := dk_42 (dk_at dksX3_judge_0 0 rfl rfl)
theorem dX3_judge_1 : decode cX3_judge 1 = .ok (.iload_n 1, 1) := dk_27 (dk_at dksX3_judge_0 1 rfl rfl)
theorem dX3_judge_2 : decode cX3_judge 2 = .ok (.invokevirtual 95, 3) := dk_182 0 95 (dk_at dksX3_judge_0 2 rfl rfl)
theorem dX3_judge_5 : decode cX3_judge 5 = .ok (.istore_n 2, 1) := dk_61 (dk_at dksX3_judge_0 5 rfl rfl)
theorem dX3_judge_6 : decode cX3_judge 6 = .ok (.iload_n 2, 1) := dk_28 (dk_at dksX3_judge_0 6 rfl rfl)
theorem dX3_judge_7 : decode cX3_judge 7 = .ok (.ifCond .eq 5, 3) := dk_153 0 5 (dk_at dksX3_judge_0 7 rfl rfl)
theorem dX3_judge_10 : decode cX3_judge 10 = .ok (.iload_n 2, 1) := dk_28 (dk_at dksX3_judge_0 10 rfl rfl)
theorem dX3_judge_11 : decode cX3_judge 11 = .ok (.ireturn, 1) := dk_172 (dk_at dksX3_judge_0 11 rfl rfl)
theorem dX3_judge_12 : decode cX3_judge 12 = .ok (.aload_n 0, 1) := dk_42 (dk_at dksX3_judge_0 12 rfl rfl)
theorem dX3_judge_13 : decode cX3_judge 13 = .ok (.getfield 16, 3) := dk_180 0 16 (dk_at dksX3_judge_0 13 rfl rfl)
theorem dX3_judge_16 : decode cX3_judge 16 = .ok (.iload_n 1, 1) := dk_27 (dk_at dksX3_judge_0 16 rfl rfl)
theorem dX3_judge_17 : decode cX3_judge 17 = .ok (.iaload, 1) := dk_46 (dk_at dksX3_judge_0 17 rfl rfl)
theorem dX3_judge_18 : decode cX3_judge 18 = .ok (.aload_n 0, 1) := dk_42 (dk_at dksX3_judge_0 18 rfl rfl)
theorem dX3_judge_19 : decode cX3_judge 19 = .ok (.getfield 80, 3) := dk_180 0 80 (dk_at dksX3_judge_0 19 rfl rfl)
theorem dX3_judge_22 : decode cX3_judge 22 = .ok (.aload_n 0, 1) := dk_42 (dk_at dksX3_judge_0 22 rfl rfl)
theorem dX3_judge_23 : decode cX3_judge 23 = .ok (.getfield 73, 3) := dk_180 0 73 (dk_at dksX3_judge_1 0 rfl rfl)
theorem dX3_judge_26 : decode cX3_judge 26 = .ok (.imul, 1) := dk_104 (dk_at dksX3_judge_1 3 rfl rfl)
theorem dX3_judge_27 : decode cX3_judge 27 = .ok (.if_icmp .ge 10, 3) := dk_162 0 10 (dk_at dksX3_judge_1 4 rfl rfl)
theorem dX3_judge_30 : decode cX3_judge 30 = .ok (.aload_n 0, 1) := dk_42 (dk_at dksX3_judge_1 7 rfl rfl)
theorem dX3_judge_31 : decode cX3_judge 31 = .ok (.bipush (-2), 2) := dk_16 254 (dk_at dksX3_judge_1 8 rfl rfl)
theorem dX3_judge_33 : decode cX3_judge 33 = .ok (.invokevirtual 91, 3) := dk_182 0 91 (dk_at dksX3_judge_1 10 rfl rfl)
theorem dX3_judge_36 : decode cX3_judge 36 = .ok (.ireturn, 1) := dk_172 (dk_at dksX3_judge_1 13 rfl rfl)
theorem dX3_judge_37 : decode cX3_judge 37 = .ok (.aload_n 0, 1) := dk_42 (dk_at dksX3_judge_1 14 rfl rfl)
theorem dX3_judge_38 : decode cX3_judge 38 = .ok (.invokevirtual 259, 3) := dk_182 1 3 (dk_at dksX3_judge_1 15 rfl rfl)
theorem dX3_judge_41 : decode cX3_judge 41 = .ok (.iconst 0, 1) := dk_3 (dk_at dksX3_judge_1 18 rfl rfl)
theorem dX3_judge_42 : decode cX3_judge 42 = .ok (.istore_n 3, 1) := dk_62 (dk_at dksX3_judge_1 19 rfl rfl)
theorem dX3_judge_43 : decode cX3_judge 43 = .ok (.iload_n 3, 1) := dk_29 (dk_at dksX3_judge_1 20 rfl rfl)
theorem dX3_judge_44 : decode cX3_judge 44 = .ok (.aload_n 0, 1) := dk_42 (dk_at dksX3_judge_1 21 rfl rfl)
theorem dX3_judge_45 : decode cX3_judge 45 = .ok (.getfield 80, 3) := dk_180 0 80 (dk_at dksX3_judge_2 0 rfl rfl)
theorem dX3_judge_48 : decode cX3_judge 48 = .ok (.aload_n 0, 1) := dk_42 (dk_at dksX3_judge_2 3 rfl rfl)
theorem dX3_judge_49 : decode cX3_judge 49 = .ok (.getfield 73, 3) := dk_180 0 73 (dk_at dksX3_judge_2 4 rfl rfl)
theorem dX3_judge_52 : decode cX3_judge 52 = .ok (.imul, 1) := dk_104 (dk_at dksX3_judge_2 7 rfl rfl)
theorem dX3_judge_53 : decode cX3_judge 53 = .ok (.if_icmp .ge 42, 3) := dk_162 0 42 (dk_at dksX3_judge_2 8 rfl rfl)
theorem dX3_judge_56 : decode cX3_judge 56 = .ok (.aload_n 0, 1) := dk_42 (dk_at dksX3_judge_2 11 rfl rfl)
theorem dX3_judge_57 : decode cX3_judge 57 = .ok (.getfield 21, 3) := dk_180 0 21 (dk_at dksX3_judge_2 12 rfl rfl)
theorem dX3_judge_60 : decode cX3_judge 60 = .ok (.iload_n 1, 1) := dk_27 (dk_at dksX3_judge_2 15 rfl rfl)
theorem dX3_judge_61 : decode cX3_judge 61 = .ok (.aaload, 1) := dk_50 (dk_at dksX3_judge_2 16 rfl rfl)
theorem dX3_judge_62 : decode cX3_judge 62 = .ok (.iload_n 3, 1) := dk_29 (dk_at dksX3_judge_2 17 rfl rfl)
theorem dX3_judge_63 : decode cX3_judge 63 = .ok (.laload, 1) := dk_47 (dk_at dksX3_judge_2 18 rfl rfl)
theorem dX3_judge_64 : decode cX3_judge 64 = .ok (.aload_n 0, 1) := dk_42 (dk_at dksX3_judge_2 19 rfl rfl)
theorem dX3_judge_65 : decode cX3_judge 65 = .ok (.getfield 52, 3) := dk_180 0 52 (dk_at dksX3_judge_2 20 rfl rfl)
theorem dX3_judge_68 : decode cX3_judge 68 = .ok (.iload_n 3, 1) := dk_29 (dk_at dksX3_judge_2 23 rfl rfl)
theorem dX3_judge_69 : decode cX3_judge 69 = .ok (.aload_n 0, 1) := dk_42 (dk_at dksX3_judge_3 0 rfl rfl)
theorem dX3_judge_70 : decode cX3_judge 70 = .ok (.getfield 73, 3) := dk_180 0 73 (dk_at dksX3_judge_3 1 rfl rfl)
theorem dX3_judge_73 : decode cX3_judge 73 = .ok (.idiv, 1) := dk_108 (dk_at dksX3_judge_3 4 rfl rfl)
theorem dX3_judge_74 : decode cX3_judge 74 = .ok (.aaload, 1) := dk_50 (dk_at dksX3_judge_3 5 rfl rfl)
theorem dX3_judge_75 : decode cX3_judge 75 = .ok (.iload_n 3, 1) := dk_29 (dk_at dksX3_judge_3 6 rfl rfl)
theorem dX3_judge_76 : decode cX3_judge 76 = .ok (.aload_n 0, 1) := dk_42 (dk_at dksX3_judge_3 7 rfl rfl)
theorem dX3_judge_77 : decode cX3_judge 77 = .ok (.getfield 73, 3) := dk_180 0 73 (dk_at dksX3_judge_3 8 rfl rfl)
theorem dX3_judge_80 : decode cX3_judge 80 = .ok (.irem, 1) := dk_112 (dk_at dksX3_judge_3 11 rfl rfl)
theorem dX3_judge_81 : decode cX3_judge 81 = .ok (.iaload, 1) := dk_46 (dk_at dksX3_judge_3 12 rfl rfl)
theorem dX3_judge_82 : decode cX3_judge 82 = .ok (.i2l, 1) := dk_133 (dk_at dksX3_judge_3 13 rfl rfl)
theorem dX3_judge_83 : decode cX3_judge 83 = .ok (.lcmp, 1) := dk_148 (dk_at dksX3_judge_3 14 rfl rfl)
theorem dX3_judge_84 : decode cX3_judge 84 = .ok (.ifCond .eq 5, 3) := dk_153 0 5 (dk_at dksX3_judge_3 15 rfl rfl)
theorem dX3_judge_87 : decode cX3_judge 87 = .ok (.iload_n 3, 1) := dk_29 (dk_at dksX3_judge_3 18 rfl rfl)
theorem dX3_judge_88 : decode cX3_judge 88 = .ok (.ireturn, 1) := dk_172 (dk_at dksX3_judge_3 19 rfl rfl)
theorem dX3_judge_89 : decode cX3_judge 89 = .ok (.iinc 3 1, 3) := dk_132 3 1 (dk_at dksX3_judge_3 20 rfl rfl)
theorem dX3_judge_92 : decode cX3_judge 92 = .ok (.goto (-49), 3) := dk_167 255 207 (dk_at dksX3_judge_4 0 rfl rfl)
theorem dX3_judge_95 : decode cX3_judge 95 = .ok (.iconst (-1), 1) := dk_2 (dk_at dksX3_judge_4 3 rfl rfl)
theorem dX3_judge_96 : decode cX3_judge 96 = .ok (.ireturn, 1) := dk_172 (dk_at dksX3_judge_4 4 rfl rfl)
abbrev cX3_years : ByteArray := prog_16_method_82_code
def yX3_years : MethodName := ⟨RX3, "years", "(II)I"⟩
def dkwX3_years_1 : List UInt8 := [16, 254, 182, 0, 91, 96, 172, 42, 182, 0, 227, 27, 28, 182, 1, 46, 172]
abbrev dktX3_years_1 : List UInt8 := dkwX3_years_1 ++ []
def dkwX3_years_0 : List UInt8 := [27, 184, 1, 43, 153, 0, 16, 28, 2, 159, 0, 21, 42, 28, 182, 0, 102, 154, 0, 13, 18, 252, 42]
abbrev dktX3_years_0 : List UInt8 := dkwX3_years_0 ++ dktX3_years_1
theorem dksX3_years_0 : cX3_years.data.toList.drop 0 = dktX3_years_0 := by decide +kernel
theorem dksX3_years_1 : cX3_years.data.toList.drop 23 = dktX3_years_1 := dk_seg dksX3_years_0 23 rfl rfl
theorem dX3_years_0 : decode cX3_years 0 = .ok (.iload_n 1, 1) := dk_27 (dk_at dksX3_years_0 0 rfl rfl)
theorem dX3_years_1 : decode cX3_years 1 = .ok (.invokestatic 299, 3) := dk_184 1 43 (dk_at dksX3_years_0 1 rfl rfl)
theorem dX3_years_4 : decode cX3_years 4 = .ok (.ifCond .eq 16, 3) := dk_153 0 16 (dk_at dksX3_years_0 4 rfl rfl)
theorem dX3_years_7 : decode cX3_years 7 = .ok (.iload_n 2, 1) := dk_28 (dk_at dksX3_years_0 7 rfl rfl)
theorem dX3_years_8 : decode cX3_years 8 = .ok (.iconst (-1), 1) := dk_2 (dk_at dksX3_years_0 8 rfl rfl)
theorem dX3_years_9 : decode cX3_years 9 = .ok (.if_icmp .eq 21, 3) := dk_159 0 21 (dk_at dksX3_years_0 9 rfl rfl)
theorem dX3_years_12 : decode cX3_years 12 = .ok (.aload_n 0, 1) := dk_42 (dk_at dksX3_years_0 12 rfl rfl)
theorem dX3_years_13 : decode cX3_years 13 = .ok (.iload_n 2, 1) := dk_28 (dk_at dksX3_years_0 13 rfl rfl)
theorem dX3_years_14 : decode cX3_years 14 = .ok (.invokevirtual 102, 3) := dk_182 0 102 (dk_at dksX3_years_0 14 rfl rfl)
theorem dX3_years_17 : decode cX3_years 17 = .ok (.ifCond .ne 13, 3) := dk_154 0 13 (dk_at dksX3_years_0 17 rfl rfl)
theorem dX3_years_20 : decode cX3_years 20 = .ok (.ldc 252, 2) := dk_18 252 (dk_at dksX3_years_0 20 rfl rfl)
theorem dX3_years_22 : decode cX3_years 22 = .ok (.aload_n 0, 1) := dk_42 (dk_at dksX3_years_0 22 rfl rfl)
theorem dX3_years_23 : decode cX3_years 23 = .ok (.bipush (-2), 2) := dk_16 254 (dk_at dksX3_years_1 0 rfl rfl)
theorem dX3_years_25 : decode cX3_years 25 = .ok (.invokevirtual 91, 3) := dk_182 0 91 (dk_at dksX3_years_1 2 rfl rfl)
theorem dX3_years_28 : decode cX3_years 28 = .ok (.iadd, 1) := dk_96 (dk_at dksX3_years_1 5 rfl rfl)
theorem dX3_years_29 : decode cX3_years 29 = .ok (.ireturn, 1) := dk_172 (dk_at dksX3_years_1 6 rfl rfl)
theorem dX3_years_30 : decode cX3_years 30 = .ok (.aload_n 0, 1) := dk_42 (dk_at dksX3_years_1 7 rfl rfl)
theorem dX3_years_31 : decode cX3_years 31 = .ok (.invokevirtual 227, 3) := dk_182 0 227 (dk_at dksX3_years_1 8 rfl rfl)
theorem dX3_years_34 : decode cX3_years 34 = .ok (.iload_n 1, 1) := dk_27 (dk_at dksX3_years_1 11 rfl rfl)
theorem dX3_years_35 : decode cX3_years 35 = .ok (.iload_n 2, 1) := dk_28 (dk_at dksX3_years_1 12 rfl rfl)
theorem dX3_years_36 : decode cX3_years 36 = .ok (.invokevirtual 302, 3) := dk_182 1 46 (dk_at dksX3_years_1 13 rfl rfl)
theorem dX3_years_39 : decode cX3_years 39 = .ok (.ireturn, 1) := dk_172 (dk_at dksX3_years_1 16 rfl rfl)
abbrev cX3_isYears : ByteArray := prog_16_method_7_code
def yX3_isYears : MethodName := ⟨RX3, "isYears", "(I)Z"⟩
def dkwX3_isYears_0 : List UInt8 := [26, 133, 10, 20, 0, 83, 184, 0, 76, 172]
abbrev dktX3_isYears_0 : List UInt8 := dkwX3_isYears_0 ++ []
theorem dksX3_isYears_0 : cX3_isYears.data.toList.drop 0 = dktX3_isYears_0 := by decide +kernel
theorem dX3_isYears_0 : decode cX3_isYears 0 = .ok (.iload_n 0, 1) := dk_26 (dk_at dksX3_isYears_0 0 rfl rfl)
theorem dX3_isYears_1 : decode cX3_isYears 1 = .ok (.i2l, 1) := dk_133 (dk_at dksX3_isYears_0 1 rfl rfl)
theorem dX3_isYears_2 : decode cX3_isYears 2 = .ok (.lconst 1, 1) := dk_10 (dk_at dksX3_isYears_0 2 rfl rfl)
theorem dX3_isYears_3 : decode cX3_isYears 3 = .ok (.ldc2_w 83, 3) := dk_20 0 83 (dk_at dksX3_isYears_0 3 rfl rfl)
theorem dX3_isYears_6 : decode cX3_isYears 6 = .ok (.invokestatic 76, 3) := dk_184 0 76 (dk_at dksX3_isYears_0 6 rfl rfl)
theorem dX3_isYears_9 : decode cX3_isYears 9 = .ok (.ireturn, 1) := dk_172 (dk_at dksX3_isYears_0 9 rfl rfl)
abbrev cX3_joyIn : ByteArray := prog_16_method_81_code
def yX3_joyIn : MethodName := ⟨RX3, "joyIn", "(II)I"⟩
def dkwX3_joyIn_1 : List UInt8 := [180, 1, 31, 167, 0, 9, 42, 180, 0, 64, 28, 46, 96, 62, 132, 4, 1, 167, 255, 222, 29, 172]
abbrev dktX3_joyIn_1 : List UInt8 := dkwX3_joyIn_1 ++ []
def dkwX3_joyIn_0 : List UInt8 := [3, 62, 3, 54, 4, 21, 4, 27, 162, 0, 34, 42, 182, 1, 40, 29, 28, 2, 160, 0, 10, 42]
abbrev dktX3_joyIn_0 : List UInt8 := dkwX3_joyIn_0 ++ dktX3_joyIn_1
theorem dksX3_joyIn_0 : cX3_joyIn.data.toList.drop 0 = dktX3_joyIn_0 := by decide +kernel
theorem dksX3_joyIn_1 : cX3_joyIn.data.toList.drop 22 = dktX3_joyIn_1 := dk_seg dksX3_joyIn_0 22 rfl rfl
theorem dX3_joyIn_0 : decode cX3_joyIn 0 = .ok (.iconst 0, 1) := dk_3 (dk_at dksX3_joyIn_0 0 rfl rfl)
theorem dX3_joyIn_1 : decode cX3_joyIn 1 = .ok (.istore_n 3, 1) := dk_62 (dk_at dksX3_joyIn_0 1 rfl rfl)
theorem dX3_joyIn_2 : decode cX3_joyIn 2 = .ok (.iconst 0, 1) := dk_3 (dk_at dksX3_joyIn_0 2 rfl rfl)
theorem dX3_joyIn_3 : decode cX3_joyIn 3 = .ok (.istore 4, 2) := dk_54 4 (dk_at dksX3_joyIn_0 3 rfl rfl)
theorem dX3_joyIn_5 : decode cX3_joyIn 5 = .ok (.iload 4, 2) := dk_21 4 (dk_at dksX3_joyIn_0 5 rfl rfl)
theorem dX3_joyIn_7 : decode cX3_joyIn 7 = .ok (.iload_n 1, 1) := dk_27 (dk_at dksX3_joyIn_0 7 rfl rfl)
theorem dX3_joyIn_8 : decode cX3_joyIn 8 = .ok (.if_icmp .ge 34, 3) := dk_162 0 34 (dk_at dksX3_joyIn_0 8 rfl rfl)
theorem dX3_joyIn_11 : decode cX3_joyIn 11 = .ok (.aload_n 0, 1) := dk_42 (dk_at dksX3_joyIn_0 11 rfl rfl)
theorem dX3_joyIn_12 : decode cX3_joyIn 12 = .ok (.invokevirtual 296, 3) := dk_182 1 40 (dk_at dksX3_joyIn_0 12 rfl rfl)
theorem dX3_joyIn_15 : decode cX3_joyIn 15 = .ok (.iload_n 3, 1) := dk_29 (dk_at dksX3_joyIn_0 15 rfl rfl)
theorem dX3_joyIn_16 : decode cX3_joyIn 16 = .ok (.iload_n 2, 1) := dk_28 (dk_at dksX3_joyIn_0 16 rfl rfl)
theorem dX3_joyIn_17 : decode cX3_joyIn 17 = .ok (.iconst (-1), 1) := dk_2 (dk_at dksX3_joyIn_0 17 rfl rfl)
theorem dX3_joyIn_18 : decode cX3_joyIn 18 = .ok (.if_icmp .ne 10, 3) := dk_160 0 10 (dk_at dksX3_joyIn_0 18 rfl rfl)
theorem dX3_joyIn_21 : decode cX3_joyIn 21 = .ok (.aload_n 0, 1) := dk_42 (dk_at dksX3_joyIn_0 21 rfl rfl)
theorem dX3_joyIn_22 : decode cX3_joyIn 22 = .ok (.getfield 287, 3) := dk_180 1 31 (dk_at dksX3_joyIn_1 0 rfl rfl)
theorem dX3_joyIn_25 : decode cX3_joyIn 25 = .ok (.goto 9, 3) := dk_167 0 9 (dk_at dksX3_joyIn_1 3 rfl rfl)
theorem dX3_joyIn_28 : decode cX3_joyIn 28 = .ok (.aload_n 0, 1) := dk_42 (dk_at dksX3_joyIn_1 6 rfl rfl)
theorem dX3_joyIn_29 : decode cX3_joyIn 29 = .ok (.getfield 64, 3) := dk_180 0 64 (dk_at dksX3_joyIn_1 7 rfl rfl)
theorem dX3_joyIn_32 : decode cX3_joyIn 32 = .ok (.iload_n 2, 1) := dk_28 (dk_at dksX3_joyIn_1 10 rfl rfl)
theorem dX3_joyIn_33 : decode cX3_joyIn 33 = .ok (.iaload, 1) := dk_46 (dk_at dksX3_joyIn_1 11 rfl rfl)
theorem dX3_joyIn_34 : decode cX3_joyIn 34 = .ok (.iadd, 1) := dk_96 (dk_at dksX3_joyIn_1 12 rfl rfl)
theorem dX3_joyIn_35 : decode cX3_joyIn 35 = .ok (.istore_n 3, 1) := dk_62 (dk_at dksX3_joyIn_1 13 rfl rfl)
theorem dX3_joyIn_36 : decode cX3_joyIn 36 = .ok (.iinc 4 1, 3) := dk_132 4 1 (dk_at dksX3_joyIn_1 14 rfl rfl)
theorem dX3_joyIn_39 : decode cX3_joyIn 39 = .ok (.goto (-34), 3) := dk_167 255 222 (dk_at dksX3_joyIn_1 17 rfl rfl)
theorem dX3_joyIn_42 : decode cX3_joyIn 42 = .ok (.iload_n 3, 1) := dk_29 (dk_at dksX3_joyIn_1 20 rfl rfl)
theorem dX3_joyIn_43 : decode cX3_joyIn 43 = .ok (.ireturn, 1) := dk_172 (dk_at dksX3_joyIn_1 21 rfl rfl)
abbrev cX3_yearGoesBy : ByteArray := prog_16_method_80_code
def yX3_yearGoesBy : MethodName := ⟨RX3, "yearGoesBy", "()V"⟩
def dkwX3_yearGoesBy_12 : List UInt8 := [181, 0, 132, 42, 89, 180, 1, 37, 4, 96, 181, 1, 37, 177]
abbrev dktX3_yearGoesBy_12 : List UInt8 := dkwX3_yearGoesBy_12 ++ []
def dkwX3_yearGoesBy_11 : List UInt8 := [184, 1, 34, 79, 132, 1, 1, 167, 255, 125, 42, 42, 180, 0, 132, 4, 96, 16, 99, 184, 1, 34]
abbrev dktX3_yearGoesBy_11 : List UInt8 := dkwX3_yearGoesBy_11 ++ dktX3_yearGoesBy_12
def dkwX3_yearGoesBy_10 : List UInt8 := [44, 4, 46, 164, 0, 9, 44, 3, 46, 167, 0, 4, 29, 79, 44, 6, 44, 6, 46, 4, 100, 16, 99]
abbrev dktX3_yearGoesBy_10 : List UInt8 := dkwX3_yearGoesBy_10 ++ dktX3_yearGoesBy_11
def dkwX3_yearGoesBy_9 : List UInt8 := [96, 44, 4, 46, 164, 0, 9, 44, 4, 46, 167, 0, 8, 44, 3, 46, 6, 96, 62, 44, 3, 44, 3, 46]
abbrev dktX3_yearGoesBy_9 : List UInt8 := dkwX3_yearGoesBy_9 ++ dktX3_yearGoesBy_10
def dkwX3_yearGoesBy_8 : List UInt8 := [184, 1, 34, 79, 167, 0, 71, 5, 42, 27, 182, 1, 6, 104, 44, 5, 46, 162, 0, 58, 44, 3, 46, 6]
abbrev dktX3_yearGoesBy_8 : List UInt8 := dkwX3_yearGoesBy_8 ++ dktX3_yearGoesBy_9
def dkwX3_yearGoesBy_7 : List UInt8 := [16, 6, 100, 16, 100, 184, 1, 34, 79, 44, 6, 44, 6, 46, 44, 6, 46, 7, 108, 96, 4, 96, 16, 99]
abbrev dktX3_yearGoesBy_7 : List UInt8 := dkwX3_yearGoesBy_7 ++ dktX3_yearGoesBy_8
def dkwX3_yearGoesBy_6 : List UInt8 := [162, 0, 129, 42, 180, 0, 39, 27, 50, 77, 42, 180, 0, 58, 27, 46, 154, 0, 39, 44, 3, 44, 3, 46]
abbrev dktX3_yearGoesBy_6 : List UInt8 := dkwX3_yearGoesBy_6 ++ dktX3_yearGoesBy_7
def dkwX3_yearGoesBy_5 : List UInt8 := [180, 0, 64, 27, 42, 27, 182, 1, 9, 79, 132, 1, 1, 167, 255, 234, 3, 60, 27, 42, 180, 0, 73]
abbrev dktX3_yearGoesBy_5 : List UInt8 := dkwX3_yearGoesBy_5 ++ dktX3_yearGoesBy_6
def dkwX3_yearGoesBy_4 : List UInt8 := [167, 255, 171, 42, 42, 2, 182, 1, 12, 181, 1, 31, 3, 60, 27, 42, 180, 0, 80, 162, 0, 20, 42]
abbrev dktX3_yearGoesBy_4 : List UInt8 := dkwX3_yearGoesBy_4 ++ dktX3_yearGoesBy_5
def dkwX3_yearGoesBy_3 : List UInt8 := [167, 0, 5, 21, 4, 182, 0, 141, 42, 180, 0, 67, 27, 29, 44, 6, 46, 104, 79, 132, 1, 1]
abbrev dktX3_yearGoesBy_3 : List UInt8 := dkwX3_yearGoesBy_3 ++ dktX3_yearGoesBy_4
def dkwX3_yearGoesBy_2 : List UInt8 := [44, 3, 46, 16, 10, 100, 167, 0, 6, 44, 3, 46, 54, 4, 42, 27, 21, 4, 156, 0, 7, 3]
abbrev dktX3_yearGoesBy_2 : List UInt8 := dkwX3_yearGoesBy_2 ++ dktX3_yearGoesBy_3
def dkwX3_yearGoesBy_1 : List UInt8 := [182, 1, 6, 62, 29, 158, 0, 49, 44, 7, 46, 2, 159, 0, 21, 44, 3, 46, 44, 7, 46, 162, 0, 12]
abbrev dktX3_yearGoesBy_1 : List UInt8 := dkwX3_yearGoesBy_1 ++ dktX3_yearGoesBy_2
def dkwX3_yearGoesBy_0 : List UInt8 := [42, 182, 1, 3, 3, 60, 27, 42, 180, 0, 73, 162, 0, 83, 42, 180, 0, 39, 27, 50, 77, 42, 27]
abbrev dktX3_yearGoesBy_0 : List UInt8 := dkwX3_yearGoesBy_0 ++ dktX3_yearGoesBy_1
theorem dksX3_yearGoesBy_0 : cX3_yearGoesBy.data.toList.drop 0 = dktX3_yearGoesBy_0 := by decide +kernel
theorem dksX3_yearGoesBy_1 : cX3_yearGoesBy.data.toList.drop 23 = dktX3_yearGoesBy_1 := dk_seg dksX3_yearGoesBy_0 23 rfl rfl
theorem dksX3_yearGoesBy_2 : cX3_yearGoesBy.data.toList.drop 47 = dktX3_yearGoesBy_2 := dk_seg dksX3_yearGoesBy_1 24 rfl rfl
theorem dksX3_yearGoesBy_3 : cX3_yearGoesBy.data.toList.drop 69 = dktX3_yearGoesBy_3 := dk_seg dksX3_yearGoesBy_2 22 rfl rfl
theorem dksX3_yearGoesBy_4 : cX3_yearGoesBy.data.toList.drop 91 = dktX3_yearGoesBy_4 := dk_seg dksX3_yearGoesBy_3 22 rfl rfl
theorem dksX3_yearGoesBy_5 : cX3_yearGoesBy.data.toList.drop 114 = dktX3_yearGoesBy_5 := dk_seg dksX3_yearGoesBy_4 23 rfl rfl
theorem dksX3_yearGoesBy_6 : cX3_yearGoesBy.data.toList.drop 137 = dktX3_yearGoesBy_6 := dk_seg dksX3_yearGoesBy_5 23 rfl rfl
theorem dksX3_yearGoesBy_7 : cX3_yearGoesBy.data.toList.drop 161 = dktX3_yearGoesBy_7 := dk_seg dksX3_yearGoesBy_6 24 rfl rfl
theorem dksX3_yearGoesBy_8 : cX3_yearGoesBy.data.toList.drop 185 = dktX3_yearGoesBy_8 := dk_seg dksX3_yearGoesBy_7 24 rfl rfl
theorem dksX3_yearGoesBy_9 : cX3_yearGoesBy.data.toList.drop 209 = dktX3_yearGoesBy_9 := dk_seg dksX3_yearGoesBy_8 24 rfl rfl
theorem dksX3_yearGoesBy_10 : cX3_yearGoesBy.data.toList.drop 233 = dktX3_yearGoesBy_10 := dk_seg dksX3_yearGoesBy_9 24 rfl rfl
theorem dksX3_yearGoesBy_11 : cX3_yearGoesBy.data.toList.drop 256 = dktX3_yearGoesBy_11 := dk_seg dksX3_yearGoesBy_10 23 rfl rfl
theorem dksX3_yearGoesBy_12 : cX3_yearGoesBy.data.toList.drop 278 = dktX3_yearGoesBy_12 := dk_seg dksX3_yearGoesBy_11 22 rfl rfl
theorem dX3_yearGoesBy_0 : decode cX3_yearGoesBy 0 = .ok (.aload_n 0, 1) := dk_42 (dk_at dksX3_yearGoesBy_0 0 rfl rfl)
theorem dX3_yearGoesBy_1 : decode cX3_yearGoesBy 1 = .ok (.invokevirtual 259, 3) := dk_182 1 3 (dk_at dksX3_yearGoesBy_0 1 rfl rfl)
theorem dX3_yearGoesBy_4 : decode cX3_yearGoesBy 4 = .ok (.iconst 0, 1) := dk_3 (dk_at dksX3_yearGoesBy_0 4 rfl rfl)
theorem dX3_yearGoesBy_5 : decode cX3_yearGoesBy 5 = .ok (.istore_n 1, 1) := dk_60 (dk_at dksX3_yearGoesBy_0 5 rfl rfl)
theorem dX3_yearGoesBy_6 : decode cX3_yearGoesBy 6 = .ok (.iload_n 1, 1) := dk_27 (dk_at dksX3_yearGoesBy_0 6 rfl rfl)
theorem dX3_yearGoesBy_7 : decode cX3_yearGoesBy 7 = .ok (.aload_n 0, 1) := dk_42 (dk_at dksX3_yearGoesBy_0 7 rfl rfl)
theorem dX3_yearGoesBy_8 : decode cX3_yearGoesBy 8 = .ok (.getfield 73, 3) := dk_180 0 73 (dk_at dksX3_yearGoesBy_0 8 rfl rfl)
theorem dX3_yearGoesBy_11 : decode cX3_yearGoesBy 11 = .ok (.if_icmp .ge 83, 3) := dk_162 0 83 (dk_at dksX3_yearGoesBy_0 11 rfl rfl)
theorem dX3_yearGoesBy_14 : decode cX3_yearGoesBy 14 = .ok (.aload_n 0, 1) := dk_42 (dk_at dksX3_yearGoesBy_0 14 rfl rfl)
theorem dX3_yearGoesBy_15 : decode cX3_yearGoesBy 15 = .ok (.getfield 39, 3) := dk_180 0 39 (dk_at dksX3_yearGoesBy_0 15 rfl rfl)
theorem dX3_yearGoesBy_18 : decode cX3_yearGoesBy 18 = .ok (.iload_n 1, 1) := dk_27 (dk_at dksX3_yearGoesBy_0 18 rfl rfl)
theorem dX3_yearGoesBy_19 : decode cX3_yearGoesBy 19 = .ok (.aaload, 1) := dk_50 (dk_at dksX3_yearGoesBy_0 19 rfl rfl)
theorem dX3_yearGoesBy_20 : decode cX3_yearGoesBy 20 = .ok (.astore_n 2, 1) := dk_77 (dk_at dksX3_yearGoesBy_0 20 rfl rfl)
theorem dX3_yearGoesBy_21 : decode cX3_yearGoesBy 21 = .ok (.aload_n 0, 1) := dk_42 (dk_at dksX3_yearGoesBy_0 21 rfl rfl)
theorem dX3_yearGoesBy_22 : decode cX3_yearGoesBy 22 = .ok (.iload_n 1, 1) := dk_27 (dk_at dksX3_yearGoesBy_0 22 rfl rfl)
theorem dX3_yearGoesBy_23 : decode cX3_yearGoesBy 23 = .ok (.invokevirtual 262, 3) := dk_182 1 6 (dk_at dksX3_yearGoesBy_1 0 rfl rfl)
theorem dX3_yearGoesBy_26 : decode cX3_yearGoesBy 26 = .ok (.istore_n 3, 1) := dk_62 (dk_at dksX3_yearGoesBy_1 3 rfl rfl)
theorem dX3_yearGoesBy_27 : decode cX3_yearGoesBy 27 = .ok (.iload_n 3, 1) := dk_29 (dk_at dksX3_yearGoesBy_1 4 rfl rfl)
theorem dX3_yearGoesBy_28 : decode cX3_yearGoesBy 28 = .ok (.ifCond .le 49, 3) := dk_158 0 49 (dk_at dksX3_yearGoesBy_1 5 rfl rfl)
theorem dX3_yearGoesBy_31 : decode cX3_yearGoesBy 31 = .ok (.aload_n 2, 1) := dk_44 (dk_at dksX3_yearGoesBy_1 8 rfl rfl)
theorem dX3_yearGoesBy_32 : decode cX3_yearGoesBy 32 = .ok (.iconst 4, 1) := dk_7 (dk_at dksX3_yearGoesBy_1 9 rfl rfl)
theorem dX3_yearGoesBy_33 : decode cX3_yearGoesBy 33 = .ok (.iaload, 1) := dk_46 (dk_at dksX3_yearGoesBy_1 10 rfl rfl)
theorem dX3_yearGoesBy_34 : decode cX3_yearGoesBy 34 = .ok (.iconst (-1), 1) := dk_2 (dk_at dksX3_yearGoesBy_1 11 rfl rfl)
theorem dX3_yearGoesBy_35 : decode cX3_yearGoesBy 35 = .ok (.if_icmp .eq 21, 3) := dk_159 0 21 (dk_at dksX3_yearGoesBy_1 12 rfl rfl)
theorem dX3_yearGoesBy_38 : decode cX3_yearGoesBy 38 = .ok (.aload_n 2, 1) := dk_44 (dk_at dksX3_yearGoesBy_1 15 rfl rfl)
theorem dX3_yearGoesBy_39 : decode cX3_yearGoesBy 39 = .ok (.iconst 0, 1) := dk_3 (dk_at dksX3_yearGoesBy_1 16 rfl rfl)
theorem dX3_yearGoesBy_40 : decode cX3_yearGoesBy 40 = .ok (.iaload, 1) := dk_46 (dk_at dksX3_yearGoesBy_1 17 rfl rfl)
theorem dX3_yearGoesBy_41 : decode cX3_yearGoesBy 41 = .ok (.aload_n 2, 1) := dk_44 (dk_at dksX3_yearGoesBy_1 18 rfl rfl)
theorem dX3_yearGoesBy_42 : decode cX3_yearGoesBy 42 = .ok (.iconst 4, 1) := dk_7 (dk_at dksX3_yearGoesBy_1 19 rfl rfl)
theorem dX3_yearGoesBy_43 : decode cX3_yearGoesBy 43 = .ok (.iaload, 1) := dk_46 (dk_at dksX3_yearGoesBy_1 20 rfl rfl)
theorem dX3_yearGoesBy_44 : decode cX3_yearGoesBy 44 = .ok (.if_icmp .ge 12, 3) := dk_162 0 12 (dk_at dksX3_yearGoesBy_1 21 rfl rfl)
theorem dX3_yearGoesBy_47 : decode cX3_yearGoesBy 47 = .ok (.aload_n 2, 1) := dk_44 (dk_at dksX3_yearGoesBy_2 0 rfl rfl)
theorem dX3_yearGoesBy_48 : decode cX3_yearGoesBy 48 = .ok (.iconst 0, 1) := dk_3 (dk_at dksX3_yearGoesBy_2 1 rfl rfl)
theorem dX3_yearGoesBy_49 : decode cX3_yearGoesBy 49 = .ok (.iaload, 1) := dk_46 (dk_at dksX3_yearGoesBy_2 2 rfl rfl)
theorem dX3_yearGoesBy_50 : decode cX3_yearGoesBy 50 = .ok (.bipush 10, 2) := dk_16 10 (dk_at dksX3_yearGoesBy_2 3 rfl rfl)
theorem dX3_yearGoesBy_52 : decode cX3_yearGoesBy 52 = .ok (.isub, 1) := dk_100 (dk_at dksX3_yearGoesBy_2 5 rfl rfl)
theorem dX3_yearGoesBy_53 : decode cX3_yearGoesBy 53 = .ok (.goto 6, 3) := dk_167 0 6 (dk_at dksX3_yearGoesBy_2 6 rfl rfl)
theorem dX3_yearGoesBy_56 : decode cX3_yearGoesBy 56 = .ok (.aload_n 2, 1) := dk_44 (dk_at dksX3_yearGoesBy_2 9 rfl rfl)
theorem dX3_yearGoesBy_57 : decode cX3_yearGoesBy 57 = .ok (.iconst 0, 1) := dk_3 (dk_at dksX3_yearGoesBy_2 10 rfl rfl)
theorem dX3_yearGoesBy_58 : decode cX3_yearGoesBy 58 = .ok (.iaload, 1) := dk_46 (dk_at dksX3_yearGoesBy_2 11 rfl rfl)
theorem dX3_yearGoesBy_59 : decode cX3_yearGoesBy 59 = .ok (.istore 4, 2) := dk_54 4 (dk_at dksX3_yearGoesBy_2 12 rfl rfl)
theorem dX3_yearGoesBy_61 : decode cX3_yearGoesBy 61 = .ok (.aload_n 0, 1) := dk_42 (dk_at dksX3_yearGoesBy_2 14 rfl rfl)
theorem dX3_yearGoesBy_62 : decode cX3_yearGoesBy 62 = .ok (.iload_n 1, 1) := dk_27 (dk_at dksX3_yearGoesBy_2 15 rfl rfl)
theorem dX3_yearGoesBy_63 : decode cX3_yearGoesBy 63 = .ok (.iload 4, 2) := dk_21 4 (dk_at dksX3_yearGoesBy_2 16 rfl rfl)
theorem dX3_yearGoesBy_65 : decode cX3_yearGoesBy 65 = .ok (.ifCond .ge 7, 3) := dk_156 0 7 (dk_at dksX3_yearGoesBy_2 18 rfl rfl)
theorem dX3_yearGoesBy_68 : decode cX3_yearGoesBy 68 = .ok (.iconst 0, 1) := dk_3 (dk_at dksX3_yearGoesBy_2 21 rfl rfl)
theorem dX3_yearGoesBy_69 : decode cX3_yearGoesBy 69 = .ok (.goto 5, 3) := dk_167 0 5 (dk_at dksX3_yearGoesBy_3 0 rfl rfl)
theorem dX3_yearGoesBy_72 : decode cX3_yearGoesBy 72 = .ok (.iload 4, 2) := dk_21 4 (dk_at dksX3_yearGoesBy_3 3 rfl rfl)
theorem dX3_yearGoesBy_74 : decode cX3_yearGoesBy 74 = .ok (.invokevirtual 141, 3) := dk_182 0 141 (dk_at dksX3_yearGoesBy_3 5 rfl rfl)
theorem dX3_yearGoesBy_77 : decode cX3_yearGoesBy 77 = .ok (.aload_n 0, 1) := dk_42 (dk_at dksX3_yearGoesBy_3 8 rfl rfl)
theorem dX3_yearGoesBy_78 : decode cX3_yearGoesBy 78 = .ok (.getfield 67, 3) := dk_180 0 67 (dk_at dksX3_yearGoesBy_3 9 rfl rfl)
theorem dX3_yearGoesBy_81 : decode cX3_yearGoesBy 81 = .ok (.iload_n 1, 1) := dk_27 (dk_at dksX3_yearGoesBy_3 12 rfl rfl)
theorem dX3_yearGoesBy_82 : decode cX3_yearGoesBy 82 = .ok (.iload_n 3, 1) := dk_29 (dk_at dksX3_yearGoesBy_3 13 rfl rfl)
theorem dX3_yearGoesBy_83 : decode cX3_yearGoesBy 83 = .ok (.aload_n 2, 1) := dk_44 (dk_at dksX3_yearGoesBy_3 14 rfl rfl)
theorem dX3_yearGoesBy_84 : decode cX3_yearGoesBy 84 = .ok (.iconst 3, 1) := dk_6 (dk_at dksX3_yearGoesBy_3 15 rfl rfl)
theorem dX3_yearGoesBy_85 : decode cX3_yearGoesBy 85 = .ok (.iaload, 1) := dk_46 (dk_at dksX3_yearGoesBy_3 16 rfl rfl)
theorem dX3_yearGoesBy_86 : decode cX3_yearGoesBy 86 = .ok (.imul, 1) := dk_104 (dk_at dksX3_yearGoesBy_3 17 rfl rfl)
theorem dX3_yearGoesBy_87 : decode cX3_yearGoesBy 87 = .ok (.iastore, 1) := dk_79 (dk_at dksX3_yearGoesBy_3 18 rfl rfl)
theorem dX3_yearGoesBy_88 : decode cX3_yearGoesBy 88 = .ok (.iinc 1 1, 3) := dk_132 1 1 (dk_at dksX3_yearGoesBy_3 19 rfl rfl)
theorem dX3_yearGoesBy_91 : decode cX3_yearGoesBy 91 = .ok (.goto (-85), 3) := dk_167 255 171 (dk_at dksX3_yearGoesBy_4 0 rfl rfl)
theorem dX3_yearGoesBy_94 : decode cX3_yearGoesBy 94 = .ok (.aload_n 0, 1) := dk_42 (dk_at dksX3_yearGoesBy_4 3 rfl rfl)
theorem dX3_yearGoesBy_95 : decode cX3_yearGoesBy 95 = .ok (.aload_n 0, 1) := dk_42 (dk_at dksX3_yearGoesBy_4 4 rfl rfl)
theorem dX3_yearGoesBy_96 : decode cX3_yearGoesBy 96 = .ok (.iconst (-1), 1) := dk_2 (dk_at dksX3_yearGoesBy_4 5 rfl rfl)
theorem dX3_yearGoesBy_97 : decode cX3_yearGoesBy 97 = .ok (.invokevirtual 268, 3) := dk_182 1 12 (dk_at dksX3_yearGoesBy_4 6 rfl rfl)
theorem dX3_yearGoesBy_100 : decode cX3_yearGoesBy 100 = .ok (.putfield 287, 3) := dk_181 1 31 (dk_at dksX3_yearGoesBy_4 9 rfl rfl)
theorem dX3_yearGoesBy_103 : decode cX3_yearGoesBy 103 = .ok (.iconst 0, 1) := dk_3 (dk_at dksX3_yearGoesBy_4 12 rfl rfl)
theorem dX3_yearGoesBy_104 : decode cX3_yearGoesBy 104 = .ok (.istore_n 1, 1) := dk_60 (dk_at dksX3_yearGoesBy_4 13 rfl rfl)
theorem dX3_yearGoesBy_105 : decode cX3_yearGoesBy 105 = .ok (.iload_n 1, 1) := dk_27 (dk_at dksX3_yearGoesBy_4 14 rfl rfl)
theorem dX3_yearGoesBy_106 : decode cX3_yearGoesBy 106 = .ok (.aload_n 0, 1) := dk_42 (dk_at dksX3_yearGoesBy_4 15 rfl rfl)
theorem dX3_yearGoesBy_107 : decode cX3_yearGoesBy 107 = .ok (.getfield 80, 3) := dk_180 0 80 (dk_at dksX3_yearGoesBy_4 16 rfl rfl)
theorem dX3_yearGoesBy_110 : decode cX3_yearGoesBy 110 = .ok (.if_icmp .ge 20, 3) := dk_162 0 20 (dk_at dksX3_yearGoesBy_4 19 rfl rfl)
theorem dX3_yearGoesBy_113 : decode cX3_yearGoesBy 113 = .ok (.aload_n 0, 1) := dk_42 (dk_at dksX3_yearGoesBy_4 22 rfl rfl)
theorem dX3_yearGoesBy_114 : decode cX3_yearGoesBy 114 = .ok (.getfield 64, 3) := dk_180 0 64 (dk_at dksX3_yearGoesBy_5 0 rfl rfl)
theorem dX3_yearGoesBy_117 : decode cX3_yearGoesBy 117 = .ok (.iload_n 1, 1) := dk_27 (dk_at dksX3_yearGoesBy_5 3 rfl rfl)
theorem dX3_yearGoesBy_118 : decode cX3_yearGoesBy 118 = .ok (.aload_n 0, 1) := dk_42 (dk_at dksX3_yearGoesBy_5 4 rfl rfl)
theorem dX3_yearGoesBy_119 : decode cX3_yearGoesBy 119 = .ok (.iload_n 1, 1) := dk_27 (dk_at dksX3_yearGoesBy_5 5 rfl rfl)
theorem dX3_yearGoesBy_120 : decode cX3_yearGoesBy 120 = .ok (.invokevirtual 265, 3) := dk_182 1 9 (dk_at dksX3_yearGoesBy_5 6 rfl rfl)
theorem dX3_yearGoesBy_123 : decode cX3_yearGoesBy 123 = .ok (.iastore, 1) := dk_79 (dk_at dksX3_yearGoesBy_5 9 rfl rfl)
theorem dX3_yearGoesBy_124 : decode cX3_yearGoesBy 124 = .ok (.iinc 1 1, 3) := dk_132 1 1 (dk_at dksX3_yearGoesBy_5 10 rfl rfl)
theorem dX3_yearGoesBy_127 : decode cX3_yearGoesBy 127 = .ok (.goto (-22), 3) := dk_167 255 234 (dk_at dksX3_yearGoesBy_5 13 rfl rfl)
theorem dX3_yearGoesBy_130 : decode cX3_yearGoesBy 130 = .ok (.iconst 0, 1) := dk_3 (dk_at dksX3_yearGoesBy_5 16 rfl rfl)
theorem dX3_yearGoesBy_131 : decode cX3_yearGoesBy 131 = .ok (.istore_n 1, 1) := dk_60 (dk_at dksX3_yearGoesBy_5 17 rfl rfl)
theorem dX3_yearGoesBy_132 : decode cX3_yearGoesBy 132 = .ok (.iload_n 1, 1) := dk_27 (dk_at dksX3_yearGoesBy_5 18 rfl rfl)
theorem dX3_yearGoesBy_133 : decode cX3_yearGoesBy 133 = .ok (.aload_n 0, 1) := dk_42 (dk_at dksX3_yearGoesBy_5 19 rfl rfl)
theorem dX3_yearGoesBy_134 : decode cX3_yearGoesBy 134 = .ok (.getfield 73, 3) := dk_180 0 73 (dk_at dksX3_yearGoesBy_5 20 rfl rfl)
theorem dX3_yearGoesBy_137 : decode cX3_yearGoesBy 137 = .ok (.if_icmp .ge 129, 3) := dk_162 0 129 (dk_at dksX3_yearGoesBy_6 0 rfl rfl)
theorem dX3_yearGoesBy_140 : decode cX3_yearGoesBy 140 = .ok (.aload_n 0, 1) := dk_42 (dk_at dksX3_yearGoesBy_6 3 rfl rfl)
theorem dX3_yearGoesBy_141 : decode cX3_yearGoesBy 141 = .ok (.getfield 39, 3) := dk_180 0 39 (dk_at dksX3_yearGoesBy_6 4 rfl rfl)
theorem dX3_yearGoesBy_144 : decode cX3_yearGoesBy 144 = .ok (.iload_n 1, 1) := dk_27 (dk_at dksX3_yearGoesBy_6 7 rfl rfl)
theorem dX3_yearGoesBy_145 : decode cX3_yearGoesBy 145 = .ok (.aaload, 1) := dk_50 (dk_at dksX3_yearGoesBy_6 8 rfl rfl)
theorem dX3_yearGoesBy_146 : decode cX3_yearGoesBy 146 = .ok (.astore_n 2, 1) := dk_77 (dk_at dksX3_yearGoesBy_6 9 rfl rfl)
theorem dX3_yearGoesBy_147 : decode cX3_yearGoesBy 147 = .ok (.aload_n 0, 1) := dk_42 (dk_at dksX3_yearGoesBy_6 10 rfl rfl)
theorem dX3_yearGoesBy_148 : decode cX3_yearGoesBy 148 = .ok (.getfield 58, 3) := dk_180 0 58 (dk_at dksX3_yearGoesBy_6 11 rfl rfl)
theorem dX3_yearGoesBy_151 : decode cX3_yearGoesBy 151 = .ok (.iload_n 1, 1) := dk_27 (dk_at dksX3_yearGoesBy_6 14 rfl rfl)
theorem dX3_yearGoesBy_152 : decode cX3_yearGoesBy 152 = .ok (.iaload, 1) := dk_46 (dk_at dksX3_yearGoesBy_6 15 rfl rfl)
theorem dX3_yearGoesBy_153 : decode cX3_yearGoesBy 153 = .ok (.ifCond .ne 39, 3) := dk_154 0 39 (dk_at dksX3_yearGoesBy_6 16 rfl rfl)
theorem dX3_yearGoesBy_156 : decode cX3_yearGoesBy 156 = .ok (.aload_n 2, 1) := dk_44 (dk_at dksX3_yearGoesBy_6 19 rfl rfl)
theorem dX3_yearGoesBy_157 : decode cX3_yearGoesBy 157 = .ok (.iconst 0, 1) := dk_3 (dk_at dksX3_yearGoesBy_6 20 rfl rfl)
theorem dX3_yearGoesBy_158 : decode cX3_yearGoesBy 158 = .ok (.aload_n 2, 1) := dk_44 (dk_at dksX3_yearGoesBy_6 21 rfl rfl)
theorem dX3_yearGoesBy_159 : decode cX3_yearGoesBy 159 = .ok (.iconst 0, 1) := dk_3 (dk_at dksX3_yearGoesBy_6 22 rfl rfl)
theorem dX3_yearGoesBy_160 : decode cX3_yearGoesBy 160 = .ok (.iaload, 1) := dk_46 (dk_at dksX3_yearGoesBy_6 23 rfl rfl)
theorem dX3_yearGoesBy_161 : decode cX3_yearGoesBy 161 = .ok (.bipush 6, 2) := dk_16 6 (dk_at dksX3_yearGoesBy_7 0 rfl rfl)
theorem dX3_yearGoesBy_163 : decode cX3_yearGoesBy 163 = .ok (.isub, 1) := dk_100 (dk_at dksX3_yearGoesBy_7 2 rfl rfl)
theorem dX3_yearGoesBy_164 : decode cX3_yearGoesBy 164 = .ok (.bipush 100, 2) := dk_16 100 (dk_at dksX3_yearGoesBy_7 3 rfl rfl)
theorem dX3_yearGoesBy_166 : decode cX3_yearGoesBy 166 = .ok (.invokestatic 290, 3) := dk_184 1 34 (dk_at dksX3_yearGoesBy_7 5 rfl rfl)
theorem dX3_yearGoesBy_169 : decode cX3_yearGoesBy 169 = .ok (.iastore, 1) := dk_79 (dk_at dksX3_yearGoesBy_7 8 rfl rfl)
theorem dX3_yearGoesBy_170 : decode cX3_yearGoesBy 170 = .ok (.aload_n 2, 1) := dk_44 (dk_at dksX3_yearGoesBy_7 9 rfl rfl)
theorem dX3_yearGoesBy_171 : decode cX3_yearGoesBy 171 = .ok (.iconst 3, 1) := dk_6 (dk_at dksX3_yearGoesBy_7 10 rfl rfl)
theorem dX3_yearGoesBy_172 : decode cX3_yearGoesBy 172 = .ok (.aload_n 2, 1) := dk_44 (dk_at dksX3_yearGoesBy_7 11 rfl rfl)
theorem dX3_yearGoesBy_173 : decode cX3_yearGoesBy 173 = .ok (.iconst 3, 1) := dk_6 (dk_at dksX3_yearGoesBy_7 12 rfl rfl)
theorem dX3_yearGoesBy_174 : decode cX3_yearGoesBy 174 = .ok (.iaload, 1) := dk_46 (dk_at dksX3_yearGoesBy_7 13 rfl rfl)
theorem dX3_yearGoesBy_175 : decode cX3_yearGoesBy 175 = .ok (.aload_n 2, 1) := dk_44 (dk_at dksX3_yearGoesBy_7 14 rfl rfl)
theorem dX3_yearGoesBy_176 : decode cX3_yearGoesBy 176 = .ok (.iconst 3, 1) := dk_6 (dk_at dksX3_yearGoesBy_7 15 rfl rfl)
theorem dX3_yearGoesBy_177 : decode cX3_yearGoesBy 177 = .ok (.iaload, 1) := dk_46 (dk_at dksX3_yearGoesBy_7 16 rfl rfl)
theorem dX3_yearGoesBy_178 : decode cX3_yearGoesBy 178 = .ok (.iconst 4, 1) := dk_7 (dk_at dksX3_yearGoesBy_7 17 rfl rfl)
theorem dX3_yearGoesBy_179 : decode cX3_yearGoesBy 179 = .ok (.idiv, 1) := dk_108 (dk_at dksX3_yearGoesBy_7 18 rfl rfl)
theorem dX3_yearGoesBy_180 : decode cX3_yearGoesBy 180 = .ok (.iadd, 1) := dk_96 (dk_at dksX3_yearGoesBy_7 19 rfl rfl)
theorem dX3_yearGoesBy_181 : decode cX3_yearGoesBy 181 = .ok (.iconst 1, 1) := dk_4 (dk_at dksX3_yearGoesBy_7 20 rfl rfl)
theorem dX3_yearGoesBy_182 : decode cX3_yearGoesBy 182 = .ok (.iadd, 1) := dk_96 (dk_at dksX3_yearGoesBy_7 21 rfl rfl)
theorem dX3_yearGoesBy_183 : decode cX3_yearGoesBy 183 = .ok (.bipush 99, 2) := dk_16 99 (dk_at dksX3_yearGoesBy_7 22 rfl rfl)
theorem dX3_yearGoesBy_185 : decode cX3_yearGoesBy 185 = .ok (.invokestatic 290, 3) := dk_184 1 34 (dk_at dksX3_yearGoesBy_8 0 rfl rfl)
theorem dX3_yearGoesBy_188 : decode cX3_yearGoesBy 188 = .ok (.iastore, 1) := dk_79 (dk_at dksX3_yearGoesBy_8 3 rfl rfl)
theorem dX3_yearGoesBy_189 : decode cX3_yearGoesBy 189 = .ok (.goto 71, 3) := dk_167 0 71 (dk_at dksX3_yearGoesBy_8 4 rfl rfl)
theorem dX3_yearGoesBy_192 : decode cX3_yearGoesBy 192 = .ok (.iconst 2, 1) := dk_5 (dk_at dksX3_yearGoesBy_8 7 rfl rfl)
theorem dX3_yearGoesBy_193 : decode cX3_yearGoesBy 193 = .ok (.aload_n 0, 1) := dk_42 (dk_at dksX3_yearGoesBy_8 8 rfl rfl)
theorem dX3_yearGoesBy_194 : decode cX3_yearGoesBy 194 = .ok (.iload_n 1, 1) := dk_27 (dk_at dksX3_yearGoesBy_8 9 rfl rfl)
theorem dX3_yearGoesBy_195 : decode cX3_yearGoesBy 195 = .ok (.invokevirtual 262, 3) := dk_182 1 6 (dk_at dksX3_yearGoesBy_8 10 rfl rfl)
theorem dX3_yearGoesBy_198 : decode cX3_yearGoesBy 198 = .ok (.imul, 1) := dk_104 (dk_at dksX3_yearGoesBy_8 13 rfl rfl)
theorem dX3_yearGoesBy_199 : decode cX3_yearGoesBy 199 = .ok (.aload_n 2, 1) := dk_44 (dk_at dksX3_yearGoesBy_8 14 rfl rfl)
theorem dX3_yearGoesBy_200 : decode cX3_yearGoesBy 200 = .ok (.iconst 2, 1) := dk_5 (dk_at dksX3_yearGoesBy_8 15 rfl rfl)
theorem dX3_yearGoesBy_201 : decode cX3_yearGoesBy 201 = .ok (.iaload, 1) := dk_46 (dk_at dksX3_yearGoesBy_8 16 rfl rfl)
theorem dX3_yearGoesBy_202 : decode cX3_yearGoesBy 202 = .ok (.if_icmp .ge 58, 3) := dk_162 0 58 (dk_at dksX3_yearGoesBy_8 17 rfl rfl)
theorem dX3_yearGoesBy_205 : decode cX3_yearGoesBy 205 = .ok (.aload_n 2, 1) := dk_44 (dk_at dksX3_yearGoesBy_8 20 rfl rfl)
theorem dX3_yearGoesBy_206 : decode cX3_yearGoesBy 206 = .ok (.iconst 0, 1) := dk_3 (dk_at dksX3_yearGoesBy_8 21 rfl rfl)
theorem dX3_yearGoesBy_207 : decode cX3_yearGoesBy 207 = .ok (.iaload, 1) := dk_46 (dk_at dksX3_yearGoesBy_8 22 rfl rfl)
theorem dX3_yearGoesBy_208 : decode cX3_yearGoesBy 208 = .ok (.iconst 3, 1) := dk_6 (dk_at dksX3_yearGoesBy_8 23 rfl rfl)
theorem dX3_yearGoesBy_209 : decode cX3_yearGoesBy 209 = .ok (.iadd, 1) := dk_96 (dk_at dksX3_yearGoesBy_9 0 rfl rfl)
theorem dX3_yearGoesBy_210 : decode cX3_yearGoesBy 210 = .ok (.aload_n 2, 1) := dk_44 (dk_at dksX3_yearGoesBy_9 1 rfl rfl)
theorem dX3_yearGoesBy_211 : decode cX3_yearGoesBy 211 = .ok (.iconst 1, 1) := dk_4 (dk_at dksX3_yearGoesBy_9 2 rfl rfl)
theorem dX3_yearGoesBy_212 : decode cX3_yearGoesBy 212 = .ok (.iaload, 1) := dk_46 (dk_at dksX3_yearGoesBy_9 3 rfl rfl)
theorem dX3_yearGoesBy_213 : decode cX3_yearGoesBy 213 = .ok (.if_icmp .le 9, 3) := dk_164 0 9 (dk_at dksX3_yearGoesBy_9 4 rfl rfl)
theorem dX3_yearGoesBy_216 : decode cX3_yearGoesBy 216 = .ok (.aload_n 2, 1) := dk_44 (dk_at dksX3_yearGoesBy_9 7 rfl rfl)
theorem dX3_yearGoesBy_217 : decode cX3_yearGoesBy 217 = .ok (.iconst 1, 1) := dk_4 (dk_at dksX3_yearGoesBy_9 8 rfl rfl)
theorem dX3_yearGoesBy_218 : decode cX3_yearGoesBy 218 = .ok (.iaload, 1) := dk_46 (dk_at dksX3_yearGoesBy_9 9 rfl rfl)
theorem dX3_yearGoesBy_219 : decode cX3_yearGoesBy 219 = .ok (.goto 8, 3) := dk_167 0 8 (dk_at dksX3_yearGoesBy_9 10 rfl rfl)
theorem dX3_yearGoesBy_222 : decode cX3_yearGoesBy 222 = .ok (.aload_n 2, 1) := dk_44 (dk_at dksX3_yearGoesBy_9 13 rfl rfl)
theorem dX3_yearGoesBy_223 : decode cX3_yearGoesBy 223 = .ok (.iconst 0, 1) := dk_3 (dk_at dksX3_yearGoesBy_9 14 rfl rfl)
theorem dX3_yearGoesBy_224 : decode cX3_yearGoesBy 224 = .ok (.iaload, 1) := dk_46 (dk_at dksX3_yearGoesBy_9 15 rfl rfl)
theorem dX3_yearGoesBy_225 : decode cX3_yearGoesBy 225 = .ok (.iconst 3, 1) := dk_6 (dk_at dksX3_yearGoesBy_9 16 rfl rfl)
theorem dX3_yearGoesBy_226 : decode cX3_yearGoesBy 226 = .ok (.iadd, 1) := dk_96 (dk_at dksX3_yearGoesBy_9 17 rfl rfl)
theorem dX3_yearGoesBy_227 : decode cX3_yearGoesBy 227 = .ok (.istore_n 3, 1) := dk_62 (dk_at dksX3_yearGoesBy_9 18 rfl rfl)
theorem dX3_yearGoesBy_228 : decode cX3_yearGoesBy 228 = .ok (.aload_n 2, 1) := dk_44 (dk_at dksX3_yearGoesBy_9 19 rfl rfl)
theorem dX3_yearGoesBy_229 : decode cX3_yearGoesBy 229 = .ok (.iconst 0, 1) := dk_3 (dk_at dksX3_yearGoesBy_9 20 rfl rfl)
theorem dX3_yearGoesBy_230 : decode cX3_yearGoesBy 230 = .ok (.aload_n 2, 1) := dk_44 (dk_at dksX3_yearGoesBy_9 21 rfl rfl)
theorem dX3_yearGoesBy_231 : decode cX3_yearGoesBy 231 = .ok (.iconst 0, 1) := dk_3 (dk_at dksX3_yearGoesBy_9 22 rfl rfl)
theorem dX3_yearGoesBy_232 : decode cX3_yearGoesBy 232 = .ok (.iaload, 1) := dk_46 (dk_at dksX3_yearGoesBy_9 23 rfl rfl)
theorem dX3_yearGoesBy_233 : decode cX3_yearGoesBy 233 = .ok (.aload_n 2, 1) := dk_44 (dk_at dksX3_yearGoesBy_10 0 rfl rfl)
theorem dX3_yearGoesBy_234 : decode cX3_yearGoesBy 234 = .ok (.iconst 1, 1) := dk_4 (dk_at dksX3_yearGoesBy_10 1 rfl rfl)
theorem dX3_yearGoesBy_235 : decode cX3_yearGoesBy 235 = .ok (.iaload, 1) := dk_46 (dk_at dksX3_yearGoesBy_10 2 rfl rfl)
theorem dX3_yearGoesBy_236 : decode cX3_yearGoesBy 236 = .ok (.if_icmp .le 9, 3) := dk_164 0 9 (dk_at dksX3_yearGoesBy_10 3 rfl rfl)
theorem dX3_yearGoesBy_239 : decode cX3_yearGoesBy 239 = .ok (.aload_n 2, 1) := dk_44 (dk_at dksX3_yearGoesBy_10 6 rfl rfl)
theorem dX3_yearGoesBy_240 : decode cX3_yearGoesBy 240 = .ok (.iconst 0, 1) := dk_3 (dk_at dksX3_yearGoesBy_10 7 rfl rfl)
theorem dX3_yearGoesBy_241 : decode cX3_yearGoesBy 241 = .ok (.iaload, 1) := dk_46 (dk_at dksX3_yearGoesBy_10 8 rfl rfl)
theorem dX3_yearGoesBy_242 : decode cX3_yearGoesBy 242 = .ok (.goto 4, 3) := dk_167 0 4 (dk_at dksX3_yearGoesBy_10 9 rfl rfl)
theorem dX3_yearGoesBy_245 : decode cX3_yearGoesBy 245 = .ok (.iload_n 3, 1) := dk_29 (dk_at dksX3_yearGoesBy_10 12 rfl rfl)
theorem dX3_yearGoesBy_246 : decode cX3_yearGoesBy 246 = .ok (.iastore, 1) := dk_79 (dk_at dksX3_yearGoesBy_10 13 rfl rfl)
theorem dX3_yearGoesBy_247 : decode cX3_yearGoesBy 247 = .ok (.aload_n 2, 1) := dk_44 (dk_at dksX3_yearGoesBy_10 14 rfl rfl)
theorem dX3_yearGoesBy_248 : decode cX3_yearGoesBy 248 = .ok (.iconst 3, 1) := dk_6 (dk_at dksX3_yearGoesBy_10 15 rfl rfl)
theorem dX3_yearGoesBy_249 : decode cX3_yearGoesBy 249 = .ok (.aload_n 2, 1) := dk_44 (dk_at dksX3_yearGoesBy_10 16 rfl rfl)
theorem dX3_yearGoesBy_250 : decode cX3_yearGoesBy 250 = .ok (.iconst 3, 1) := dk_6 (dk_at dksX3_yearGoesBy_10 17 rfl rfl)
theorem dX3_yearGoesBy_251 : decode cX3_yearGoesBy 251 = .ok (.iaload, 1) := dk_46 (dk_at dksX3_yearGoesBy_10 18 rfl rfl)
theorem dX3_yearGoesBy_252 : decode cX3_yearGoesBy 252 = .ok (.iconst 1, 1) := dk_4 (dk_at dksX3_yearGoesBy_10 19 rfl rfl)
theorem dX3_yearGoesBy_253 : decode cX3_yearGoesBy 253 = .ok (.isub, 1) := dk_100 (dk_at dksX3_yearGoesBy_10 20 rfl rfl)
theorem dX3_yearGoesBy_254 : decode cX3_yearGoesBy 254 = .ok (.bipush 99, 2) := dk_16 99 (dk_at dksX3_yearGoesBy_10 21 rfl rfl)
theorem dX3_yearGoesBy_256 : decode cX3_yearGoesBy 256 = .ok (.invokestatic 290, 3) := dk_184 1 34 (dk_at dksX3_yearGoesBy_11 0 rfl rfl)
theorem dX3_yearGoesBy_259 : decode cX3_yearGoesBy 259 = .ok (.iastore, 1) := dk_79 (dk_at dksX3_yearGoesBy_11 3 rfl rfl)
theorem dX3_yearGoesBy_260 : decode cX3_yearGoesBy 260 = .ok (.iinc 1 1, 3) := dk_132 1 1 (dk_at dksX3_yearGoesBy_11 4 rfl rfl)
theorem dX3_yearGoesBy_263 : decode cX3_yearGoesBy 263 = .ok (.goto (-131), 3) := dk_167 255 125 (dk_at dksX3_yearGoesBy_11 7 rfl rfl)
theorem dX3_yearGoesBy_266 : decode cX3_yearGoesBy 266 = .ok (.aload_n 0, 1) := dk_42 (dk_at dksX3_yearGoesBy_11 10 rfl rfl)
theorem dX3_yearGoesBy_267 : decode cX3_yearGoesBy 267 = .ok (.aload_n 0, 1) := dk_42 (dk_at dksX3_yearGoesBy_11 11 rfl rfl)
theorem dX3_yearGoesBy_268 : decode cX3_yearGoesBy 268 = .ok (.getfield 132, 3) := dk_180 0 132 (dk_at dksX3_yearGoesBy_11 12 rfl rfl)
theorem dX3_yearGoesBy_271 : decode cX3_yearGoesBy 271 = .ok (.iconst 1, 1) := dk_4 (dk_at dksX3_yearGoesBy_11 15 rfl rfl)
theorem dX3_yearGoesBy_272 : decode cX3_yearGoesBy 272 = .ok (.iadd, 1) := dk_96 (dk_at dksX3_yearGoesBy_11 16 rfl rfl)
theorem dX3_yearGoesBy_273 : decode cX3_yearGoesBy 273 = .ok (.bipush 99, 2) := dk_16 99 (dk_at dksX3_yearGoesBy_11 17 rfl rfl)
theorem dX3_yearGoesBy_275 : decode cX3_yearGoesBy 275 = .ok (.invokestatic 290, 3) := dk_184 1 34 (dk_at dksX3_yearGoesBy_11 19 rfl rfl)
theorem dX3_yearGoesBy_278 : decode cX3_yearGoesBy 278 = .ok (.putfield 132, 3) := dk_181 0 132 (dk_at dksX3_yearGoesBy_12 0 rfl rfl)
theorem dX3_yearGoesBy_281 : decode cX3_yearGoesBy 281 = .ok (.aload_n 0, 1) := dk_42 (dk_at dksX3_yearGoesBy_12 3 rfl rfl)
theorem dX3_yearGoesBy_282 : decode cX3_yearGoesBy 282 = .ok (.dup, 1) := dk_89 (dk_at dksX3_yearGoesBy_12 4 rfl rfl)
theorem dX3_yearGoesBy_283 : decode cX3_yearGoesBy 283 = .ok (.getfield 293, 3) := dk_180 1 37 (dk_at dksX3_yearGoesBy_12 5 rfl rfl)
theorem dX3_yearGoesBy_286 : decode cX3_yearGoesBy 286 = .ok (.iconst 1, 1) := dk_4 (dk_at dksX3_yearGoesBy_12 8 rfl rfl)
theorem dX3_yearGoesBy_287 : decode cX3_yearGoesBy 287 = .ok (.iadd, 1) := dk_96 (dk_at dksX3_yearGoesBy_12 9 rfl rfl)
theorem dX3_yearGoesBy_288 : decode cX3_yearGoesBy 288 = .ok (.putfield 293, 3) := dk_181 1 37 (dk_at dksX3_yearGoesBy_12 10 rfl rfl)
theorem dX3_yearGoesBy_291 : decode cX3_yearGoesBy 291 = .ok (.return_, 1) := dk_177 (dk_at dksX3_yearGoesBy_12 13 rfl rfl)
abbrev cX3_within : ByteArray := prog_16_method_4_code
def yX3_within : MethodName := ⟨RX3, "within", "(II)I"⟩
def dkwX3_within_0 : List UInt8 := [26, 156, 0, 7, 3, 167, 0, 13, 26, 27, 164, 0, 7, 27, 167, 0, 4, 26, 172]
abbrev dktX3_within_0 : List UInt8 := dkwX3_within_0 ++ []
theorem dksX3_within_0 : cX3_within.data.toList.drop 0 = dktX3_within_0 := by decide +kernel
theorem dX3_within_0 : decode cX3_within 0 = .ok (.iload_n 0, 1) := dk_26 (dk_at dksX3_within_0 0 rfl rfl)
theorem dX3_within_1 : decode cX3_within 1 = .ok (.ifCond .ge 7, 3) := dk_156 0 7 (dk_at dksX3_within_0 1 rfl rfl)
theorem dX3_within_4 : decode cX3_within 4 = .ok (.iconst 0, 1) := dk_3 (dk_at dksX3_within_0 4 rfl rfl)
theorem dX3_within_5 : decode cX3_within 5 = .ok (.goto 13, 3) := dk_167 0 13 (dk_at dksX3_within_0 5 rfl rfl)
theorem dX3_within_8 : decode cX3_within 8 = .ok (.iload_n 0, 1) := dk_26 (dk_at dksX3_within_0 8 rfl rfl)
theorem dX3_within_9 : decode cX3_within 9 = .ok (.iload_n 1, 1) := dk_27 (dk_at dksX3_within_0 9 rfl rfl)
theorem dX3_within_10 : decode cX3_within 10 = .ok (.if_icmp .le 7, 3) := dk_164 0 7 (dk_at dksX3_within_0 10 rfl rfl)
theorem dX3_within_13 : decode cX3_within 13 = .ok (.iload_n 1, 1) := dk_27 (dk_at dksX3_within_0 13 rfl rfl)
theorem dX3_within_14 : decode cX3_within 14 = .ok (.goto 4, 3) := dk_167 0 4 (dk_at dksX3_within_0 14 rfl rfl)
theorem dX3_within_17 : decode cX3_within 17 = .ok (.iload_n 0, 1) := dk_26 (dk_at dksX3_within_0 17 rfl rfl)
theorem dX3_within_18 : decode cX3_within 18 = .ok (.ireturn, 1) := dk_172 (dk_at dksX3_within_0 18 rfl rfl)
abbrev cX3_then : ByteArray := prog_16_method_83_code
def yX3_then : MethodName := ⟨RX3, "then", "(III)I"⟩
def dkwX3_then_4 : List UInt8 := [25, 4, 180, 0, 39, 28, 50, 6, 46, 167, 0, 5, 21, 5, 172]
abbrev dktX3_then_4 : List UInt8 := dkwX3_then_4 ++ []
def dkwX3_then_3 : List UInt8 := [167, 255, 230, 29, 154, 0, 15, 25, 4, 180, 0, 39, 28, 50, 3, 46, 167, 0, 22, 29, 4, 160, 0, 15]
abbrev dktX3_then_3 : List UInt8 := dkwX3_then_3 ++ dktX3_then_4
def dkwX3_then_2 : List UInt8 := [27, 162, 0, 26, 25, 4, 182, 1, 40, 21, 5, 25, 4, 180, 0, 67, 28, 46, 96, 54, 5, 132, 6, 1]
abbrev dktX3_then_2 : List UInt8 := dkwX3_then_2 ++ dktX3_then_3
def dkwX3_then_1 : List UInt8 := [154, 0, 10, 42, 16, 254, 182, 0, 91, 172, 42, 182, 0, 227, 58, 4, 3, 54, 5, 3, 54, 6, 21, 6]
abbrev dktX3_then_1 : List UInt8 := dkwX3_then_1 ++ dktX3_then_2
def dkwX3_then_0 : List UInt8 := [27, 184, 1, 43, 153, 0, 23, 42, 28, 182, 0, 127, 153, 0, 15, 29, 133, 9, 20, 0, 240, 184, 0, 76]
abbrev dktX3_then_0 : List UInt8 := dkwX3_then_0 ++ dktX3_then_1
theorem dksX3_then_0 : cX3_then.data.toList.drop 0 = dktX3_then_0 := by decide +kernel
theorem dksX3_then_1 : cX3_then.data.toList.drop 24 = dktX3_then_1 := dk_seg dksX3_then_0 24 rfl rfl
theorem dksX3_then_2 : cX3_then.data.toList.drop 48 = dktX3_then_2 := dk_seg dksX3_then_1 24 rfl rfl
theorem dksX3_then_3 : cX3_then.data.toList.drop 72 = dktX3_then_3 := dk_seg dksX3_then_2 24 rfl rfl
theorem dksX3_then_4 : cX3_then.data.toList.drop 96 = dktX3_then_4 := dk_seg dksX3_then_3 24 rfl rfl
theorem dX3_then_0 : decode cX3_then 0 = .ok (.iload_n 1, 1) := dk_27 (dk_at dksX3_then_0 0 rfl rfl)
theorem dX3_then_1 : decode cX3_then 1 = .ok (.invokestatic 299, 3) := dk_184 1 43 (dk_at dksX3_then_0 1 rfl rfl)
theorem dX3_then_4 : decode cX3_then 4 = .ok (.ifCond .eq 23, 3) := dk_153 0 23 (dk_at dksX3_then_0 4 rfl rfl)
theorem dX3_then_7 : decode cX3_then 7 = .ok (.aload_n 0, 1) := dk_42 (dk_at dksX3_then_0 7 rfl rfl)
theorem dX3_then_8 : decode cX3_then 8 = .ok (.iload_n 2, 1) := dk_28 (dk_at dksX3_then_0 8 rfl rfl)
theorem dX3_then_9 : decode cX3_then 9 = .ok (.invokevirtual 127, 3) := dk_182 0 127 (dk_at dksX3_then_0 9 rfl rfl)
theorem dX3_then_12 : decode cX3_then 12 = .ok (.ifCond .eq 15, 3) := dk_153 0 15 (dk_at dksX3_then_0 12 rfl rfl)
theorem dX3_then_15 : decode cX3_then 15 = .ok (.iload_n 3, 1) := dk_29 (dk_at dksX3_then_0 15 rfl rfl)
theorem dX3_then_16 : decode cX3_then 16 = .ok (.i2l, 1) := dk_133 (dk_at dksX3_then_0 16 rfl rfl)
theorem dX3_then_17 : decode cX3_then 17 = .ok (.lconst 0, 1) := dk_9 (dk_at dksX3_then_0 17 rfl rfl)
theorem dX3_then_18 : decode cX3_then 18 = .ok (.ldc2_w 240, 3) := dk_20 0 240 (dk_at dksX3_then_0 18 rfl rfl)
theorem dX3_then_21 : decode cX3_then 21 = .ok (.invokestatic 76, 3) := dk_184 0 76 (dk_at dksX3_then_0 21 rfl rfl)
theorem dX3_then_24 : decode cX3_then 24 = .ok (.ifCond .ne 10, 3) := dk_154 0 10 (dk_at dksX3_then_1 0 rfl rfl)
theorem dX3_then_27 : decode cX3_then 27 = .ok (.aload_n 0, 1) := dk_42 (dk_at dksX3_then_1 3 rfl rfl)
theorem dX3_then_28 : decode cX3_then 28 = .ok (.bipush (-2), 2) := dk_16 254 (dk_at dksX3_then_1 4 rfl rfl)
theorem dX3_then_30 : decode cX3_then 30 = .ok (.invokevirtual 91, 3) := dk_182 0 91 (dk_at dksX3_then_1 6 rfl rfl)
theorem dX3_then_33 : decode cX3_then 33 = .ok (.ireturn, 1) := dk_172 (dk_at dksX3_then_1 9 rfl rfl)
theorem dX3_then_34 : decode cX3_then 34 = .ok (.aload_n 0, 1) := dk_42 (dk_at dksX3_then_1 10 rfl rfl)
theorem dX3_then_35 : decode cX3_then 35 = .ok (.invokevirtual 227, 3) := dk_182 0 227 (dk_at dksX3_then_1 11 rfl rfl)
theorem dX3_then_38 : decode cX3_then 38 = .ok (.astore 4, 2) := dk_58 4 (dk_at dksX3_then_1 14 rfl rfl)
theorem dX3_then_40 : decode cX3_then 40 = .ok (.iconst 0, 1) := dk_3 (dk_at dksX3_then_1 16 rfl rfl)
theorem dX3_then_41 : decode cX3_then 41 = .ok (.istore 5, 2) := dk_54 5 (dk_at dksX3_then_1 17 rfl rfl)
theorem dX3_then_43 : decode cX3_then 43 = .ok (.iconst 0, 1) := dk_3 (dk_at dksX3_then_1 19 rfl rfl)
theorem dX3_then_44 : decode cX3_then 44 = .ok (.istore 6, 2) := dk_54 6 (dk_at dksX3_then_1 20 rfl rfl)
theorem dX3_then_46 : decode cX3_then 46 = .ok (.iload 6, 2) := dk_21 6 (dk_at dksX3_then_1 22 rfl rfl)
theorem dX3_then_48 : decode cX3_then 48 = .ok (.iload_n 1, 1) := dk_27 (dk_at dksX3_then_2 0 rfl rfl)
theorem dX3_then_49 : decode cX3_then 49 = .ok (.if_icmp .ge 26, 3) := dk_162 0 26 (dk_at dksX3_then_2 1 rfl rfl)
theorem dX3_then_52 : decode cX3_then 52 = .ok (.aload 4, 2) := dk_25 4 (dk_at dksX3_then_2 4 rfl rfl)
theorem dX3_then_54 : decode cX3_then 54 = .ok (.invokevirtual 296, 3) := dk_182 1 40 (dk_at dksX3_then_2 6 rfl rfl)
theorem dX3_then_57 : decode cX3_then 57 = .ok (.iload 5, 2) := dk_21 5 (dk_at dksX3_then_2 9 rfl rfl)
theorem dX3_then_59 : decode cX3_then 59 = .ok (.aload 4, 2) := dk_25 4 (dk_at dksX3_then_2 11 rfl rfl)
theorem dX3_then_61 : decode cX3_then 61 = .ok (.getfield 67, 3) := dk_180 0 67 (dk_at dksX3_then_2 13 rfl rfl)
theorem dX3_then_64 : decode cX3_then 64 = .ok (.iload_n 2, 1) := dk_28 (dk_at dksX3_then_2 16 rfl rfl)
theorem dX3_then_65 : decode cX3_then 65 = .ok (.iaload, 1) := dk_46 (dk_at dksX3_then_2 17 rfl rfl)
theorem dX3_then_66 : decode cX3_then 66 = .ok (.iadd, 1) := dk_96 (dk_at dksX3_then_2 18 rfl rfl)
theorem dX3_then_67 : decode cX3_then 67 = .ok (.istore 5, 2) := dk_54 5 (dk_at dksX3_then_2 19 rfl rfl)
theorem dX3_then_69 : decode cX3_then 69 = .ok (.iinc 6 1, 3) := dk_132 6 1 (dk_at dksX3_then_2 21 rfl rfl)
theorem dX3_then_72 : decode cX3_then 72 = .ok (.goto (-26), 3) := dk_167 255 230 (dk_at dksX3_then_3 0 rfl rfl)
theorem dX3_then_75 : decode cX3_then 75 = .ok (.iload_n 3, 1) := dk_29 (dk_at dksX3_then_3 3 rfl rfl)
theorem dX3_then_76 : decode cX3_then 76 = .ok (.ifCond .ne 15, 3) := dk_154 0 15 (dk_at dksX3_then_3 4 rfl rfl)
theorem dX3_then_79 : decode cX3_then 79 = .ok (.aload 4, 2) := dk_25 4 (dk_at dksX3_then_3 7 rfl rfl)
theorem dX3_then_81 : decode cX3_then 81 = .ok (.getfield 39, 3) := dk_180 0 39 (dk_at dksX3_then_3 9 rfl rfl)
theorem dX3_then_84 : decode cX3_then 84 = .ok (.iload_n 2, 1) := dk_28 (dk_at dksX3_then_3 12 rfl rfl)
theorem dX3_then_85 : decode cX3_then 85 = .ok (.aaload, 1) := dk_50 (dk_at dksX3_then_3 13 rfl rfl)
theorem dX3_then_86 : decode cX3_then 86 = .ok (.iconst 0, 1) := dk_3 (dk_at dksX3_then_3 14 rfl rfl)
theorem dX3_then_87 : decode cX3_then 87 = .ok (.iaload, 1) := dk_46 (dk_at dksX3_then_3 15 rfl rfl)
theorem dX3_then_88 : decode cX3_then 88 = .ok (.goto 22, 3) := dk_167 0 22 (dk_at dksX3_then_3 16 rfl rfl)
theorem dX3_then_91 : decode cX3_then 91 = .ok (.iload_n 3, 1) := dk_29 (dk_at dksX3_then_3 19 rfl rfl)
theorem dX3_then_92 : decode cX3_then 92 = .ok (.iconst 1, 1) := dk_4 (dk_at dksX3_then_3 20 rfl rfl)
theorem dX3_then_93 : decode cX3_then 93 = .ok (.if_icmp .ne 15, 3) := dk_160 0 15 (dk_at dksX3_then_3 21 rfl rfl)
theorem dX3_then_96 : decode cX3_then 96 = .ok (.aload 4, 2) := dk_25 4 (dk_at dksX3_then_4 0 rfl rfl)
theorem dX3_then_98 : decode cX3_then 98 = .ok (.getfield 39, 3) := dk_180 0 39 (dk_at dksX3_then_4 2 rfl rfl)
theorem dX3_then_101 : decode cX3_then 101 = .ok (.iload_n 2, 1) := dk_28 (dk_at dksX3_then_4 5 rfl rfl)
theorem dX3_then_102 : decode cX3_then 102 = .ok (.aaload, 1) := dk_50 (dk_at dksX3_then_4 6 rfl rfl)
theorem dX3_then_103 : decode cX3_then 103 = .ok (.iconst 3, 1) := dk_6 (dk_at dksX3_then_4 7 rfl rfl)
theorem dX3_then_104 : decode cX3_then 104 = .ok (.iaload, 1) := dk_46 (dk_at dksX3_then_4 8 rfl rfl)
theorem dX3_then_105 : decode cX3_then 105 = .ok (.goto 5, 3) := dk_167 0 5 (dk_at dksX3_then_4 9 rfl rfl)
theorem dX3_then_108 : decode cX3_then 108 = .ok (.iload 5, 2) := dk_21 5 (dk_at dksX3_then_4 12 rfl rfl)
theorem dX3_then_110 : decode cX3_then 110 = .ok (.ireturn, 1) := dk_172 (dk_at dksX3_then_4 14 rfl rfl)
abbrev cX3_book : ByteArray := prog_16_method_86_code
def yX3_book : MethodName := ⟨RX3, "book", "(II)I"⟩
def dkwX3_book_1 : List UInt8 := [182, 1, 55, 167, 0, 9, 42, 16, 254, 182, 0, 91, 172]
abbrev dktX3_book_1 : List UInt8 := dkwX3_book_1 ++ []
def dkwX3_book_0 : List UInt8 := [27, 184, 1, 43, 153, 0, 24, 28, 133, 9, 20, 0, 238, 184, 0, 76, 153, 0, 12, 42, 27, 28]
abbrev dktX3_book_0 : List UInt8 := dkwX3_book_0 ++ dktX3_book_1
theorem dksX3_book_0 : cX3_book.data.toList.drop 0 = dktX3_book_0 := by decide +kernel
theorem dksX3_book_1 : cX3_book.data.toList.drop 22 = dktX3_book_1 := dk_seg dksX3_book_0 22 rfl rfl
theorem dX3_book_0 : decode cX3_book 0 = .ok (.iload_n 1, 1) := dk_27 (dk_at dksX3_book_0 0 rfl rfl)
theorem dX3_book_1 : decode cX3_book 1 = .ok (.invokestatic 299, 3) := dk_184 1 43 (dk_at dksX3_book_0 1 rfl rfl)
theorem dX3_book_4 : decode cX3_book 4 = .ok (.ifCond .eq 24, 3) := dk_153 0 24 (dk_at dksX3_book_0 4 rfl rfl)
theorem dX3_book_7 : decode cX3_book 7 = .ok (.iload_n 2, 1) := dk_28 (dk_at dksX3_book_0 7 rfl rfl)
theorem dX3_book_8 : decode cX3_book 8 = .ok (.i2l, 1) := dk_133 (dk_at dksX3_book_0 8 rfl rfl)
theorem dX3_book_9 : decode cX3_book 9 = .ok (.lconst 0, 1) := dk_9 (dk_at dksX3_book_0 9 rfl rfl)
theorem dX3_book_10 : decode cX3_book 10 = .ok (.ldc2_w 238, 3) := dk_20 0 238 (dk_at dksX3_book_0 10 rfl rfl)
theorem dX3_book_13 : decode cX3_book 13 = .ok (.invokestatic 76, 3) := dk_184 0 76 (dk_at dksX3_book_0 13 rfl rfl)
theorem dX3_book_16 : decode cX3_book 16 = .ok (.ifCond .eq 12, 3) := dk_153 0 12 (dk_at dksX3_book_0 16 rfl rfl)
theorem dX3_book_19 : decode cX3_book 19 = .ok (.aload_n 0, 1) := dk_42 (dk_at dksX3_book_0 19 rfl rfl)
theorem dX3_book_20 : decode cX3_book 20 = .ok (.iload_n 1, 1) := dk_27 (dk_at dksX3_book_0 20 rfl rfl)
theorem dX3_book_21 : decode cX3_book 21 = .ok (.iload_n 2, 1) := dk_28 (dk_at dksX3_book_0 21 rfl rfl)
theorem dX3_book_22 : decode cX3_book 22 = .ok (.invokevirtual 311, 3) := dk_182 1 55 (dk_at dksX3_book_1 0 rfl rfl)
theorem dX3_book_25 : decode cX3_book 25 = .ok (.goto 9, 3) := dk_167 0 9 (dk_at dksX3_book_1 3 rfl rfl)
theorem dX3_book_28 : decode cX3_book 28 = .ok (.aload_n 0, 1) := dk_42 (dk_at dksX3_book_1 6 rfl rfl)
theorem dX3_book_29 : decode cX3_book 29 = .ok (.bipush (-2), 2) := dk_16 254 (dk_at dksX3_book_1 7 rfl rfl)
theorem dX3_book_31 : decode cX3_book 31 = .ok (.invokevirtual 91, 3) := dk_182 0 91 (dk_at dksX3_book_1 9 rfl rfl)
theorem dX3_book_34 : decode cX3_book 34 = .ok (.ireturn, 1) := dk_172 (dk_at dksX3_book_1 12 rfl rfl)
abbrev cX3_bestBook : ByteArray := prog_16_method_85_code
def yX3_bestBook : MethodName := ⟨RX3, "bestBook", "(II)I"⟩
def dkwX3_bestBook_4 : List UInt8 := [29, 172]
abbrev dktX3_bestBook_4 : List UInt8 := dkwX3_bestBook_4 ++ []
def dkwX3_bestBook_3 : List UInt8 := [21, 6, 42, 180, 1, 52, 164, 0, 12, 21, 4, 62, 42, 21, 6, 181, 1, 52, 132, 4, 1, 167, 255, 171]
abbrev dktX3_bestBook_3 : List UInt8 := dkwX3_bestBook_3 ++ dktX3_bestBook_4
def dkwX3_bestBook_2 : List UInt8 := [167, 255, 232, 21, 5, 28, 163, 0, 35, 42, 27, 21, 4, 182, 1, 49, 54, 6, 29, 2, 159, 0, 12]
abbrev dktX3_bestBook_2 : List UInt8 := dkwX3_bestBook_2 ++ dktX3_bestBook_3
def dkwX3_bestBook_1 : List UInt8 := [42, 180, 0, 73, 162, 0, 21, 21, 5, 21, 4, 21, 6, 122, 4, 126, 96, 54, 5, 132, 6, 1]
abbrev dktX3_bestBook_1 : List UInt8 := dkwX3_bestBook_1 ++ dktX3_bestBook_2
def dkwX3_bestBook_0 : List UInt8 := [2, 62, 3, 54, 4, 21, 4, 4, 42, 180, 0, 73, 120, 162, 0, 80, 3, 54, 5, 3, 54, 6, 21, 6]
abbrev dktX3_bestBook_0 : List UInt8 := dkwX3_bestBook_0 ++ dktX3_bestBook_1
theorem dksX3_bestBook_0 : cX3_bestBook.data.toList.drop 0 = dktX3_bestBook_0 := by decide +kernel
theorem dksX3_bestBook_1 : cX3_bestBook.data.toList.drop 24 = dktX3_bestBook_1 := dk_seg dksX3_bestBook_0 24 rfl rfl
theorem dksX3_bestBook_2 : cX3_bestBook.data.toList.drop 46 = dktX3_bestBook_2 := dk_seg dksX3_bestBook_1 22 rfl rfl
theorem dksX3_bestBook_3 : cX3_bestBook.data.toList.drop 69 = dktX3_bestBook_3 := dk_seg dksX3_bestBook_2 23 rfl rfl
theorem dksX3_bestBook_4 : cX3_bestBook.data.toList.drop 93 = dktX3_bestBook_4 := dk_seg dksX3_bestBook_3 24 rfl rfl
theorem dX3_bestBook_0 : decode cX3_bestBook 0 = .ok (.iconst (-1), 1) := dk_2 (dk_at dksX3_bestBook_0 0 rfl rfl)
theorem dX3_bestBook_1 : decode cX3_bestBook 1 = .ok (.istore_n 3, 1) := dk_62 (dk_at dksX3_bestBook_0 1 rfl rfl)
theorem dX3_bestBook_2 : decode cX3_bestBook 2 = .ok (.iconst 0, 1) := dk_3 (dk_at dksX3_bestBook_0 2 rfl rfl)
theorem dX3_bestBook_3 : decode cX3_bestBook 3 = .ok (.istore 4, 2) := dk_54 4 (dk_at dksX3_bestBook_0 3 rfl rfl)
theorem dX3_bestBook_5 : decode cX3_bestBook 5 = .ok (.iload 4, 2) := dk_21 4 (dk_at dksX3_bestBook_0 5 rfl rfl)
theorem dX3_bestBook_7 : decode cX3_bestBook 7 = .ok (.iconst 1, 1) := dk_4 (dk_at dksX3_bestBook_0 7 rfl rfl)
theorem dX3_bestBook_8 : decode cX3_bestBook 8 = .ok (.aload_n 0, 1) := dk_42 (dk_at dksX3_bestBook_0 8 rfl rfl)
theorem dX3_bestBook_9 : decode cX3_bestBook 9 = .ok (.getfield 73, 3) := dk_180 0 73 (dk_at dksX3_bestBook_0 9 rfl rfl)
theorem dX3_bestBook_12 : decode cX3_bestBook 12 = .ok (.ishl, 1) := dk_120 (dk_at dksX3_bestBook_0 12 rfl rfl)
theorem dX3_bestBook_13 : decode cX3_bestBook 13 = .ok (.if_icmp .ge 80, 3) := dk_162 0 80 (dk_at dksX3_bestBook_0 13 rfl rfl)
theorem dX3_bestBook_16 : decode cX3_bestBook 16 = .ok (.iconst 0, 1) := dk_3 (dk_at dksX3_bestBook_0 16 rfl rfl)
theorem dX3_bestBook_17 : decode cX3_bestBook 17 = .ok (.istore 5, 2) := dk_54 5 (dk_at dksX3_bestBook_0 17 rfl rfl)
theorem dX3_bestBook_19 : decode cX3_bestBook 19 = .ok (.iconst 0, 1) := dk_3 (dk_at dksX3_bestBook_0 19 rfl rfl)
theorem dX3_bestBook_20 : decode cX3_bestBook 20 = .ok (.istore 6, 2) := dk_54 6 (dk_at dksX3_bestBook_0 20 rfl rfl)
theorem dX3_bestBook_22 : decode cX3_bestBook 22 = .ok (.iload 6, 2) := dk_21 6 (dk_at dksX3_bestBook_0 22 rfl rfl)
theorem dX3_bestBook_24 : decode cX3_bestBook 24 = .ok (.aload_n 0, 1) := dk_42 (dk_at dksX3_bestBook_1 0 rfl rfl)
theorem dX3_bestBook_25 : decode cX3_bestBook 25 = .ok (.getfield 73, 3) := dk_180 0 73 (dk_at dksX3_bestBook_1 1 rfl rfl)
theorem dX3_bestBook_28 : decode cX3_bestBook 28 = .ok (.if_icmp .ge 21, 3) := dk_162 0 21 (dk_at dksX3_bestBook_1 4 rfl rfl)
theorem dX3_bestBook_31 : decode cX3_bestBook 31 = .ok (.iload 5, 2) := dk_21 5 (dk_at dksX3_bestBook_1 7 rfl rfl)
theorem dX3_bestBook_33 : decode cX3_bestBook 33 = .ok (.iload 4, 2) := dk_21 4 (dk_at dksX3_bestBook_1 9 rfl rfl)
theorem dX3_bestBook_35 : decode cX3_bestBook 35 = .ok (.iload 6, 2) := dk_21 6 (dk_at dksX3_bestBook_1 11 rfl rfl)
theorem dX3_bestBook_37 : decode cX3_bestBook 37 = .ok (.ishr, 1) := dk_122 (dk_at dksX3_bestBook_1 13 rfl rfl)
theorem dX3_bestBook_38 : decode cX3_bestBook 38 = .ok (.iconst 1, 1) := dk_4 (dk_at dksX3_bestBook_1 14 rfl rfl)
theorem dX3_bestBook_39 : decode cX3_bestBook 39 = .ok (.iand, 1) := dk_126 (dk_at dksX3_bestBook_1 15 rfl rfl)
theorem dX3_bestBook_40 : decode cX3_bestBook 40 = .ok (.iadd, 1) := dk_96 (dk_at dksX3_bestBook_1 16 rfl rfl)
theorem dX3_bestBook_41 : decode cX3_bestBook 41 = .ok (.istore 5, 2) := dk_54 5 (dk_at dksX3_bestBook_1 17 rfl rfl)
theorem dX3_bestBook_43 : decode cX3_bestBook 43 = .ok (.iinc 6 1, 3) := dk_132 6 1 (dk_at dksX3_bestBook_1 19 rfl rfl)
theorem dX3_bestBook_46 : decode cX3_bestBook 46 = .ok (.goto (-24), 3) := dk_167 255 232 (dk_at dksX3_bestBook_2 0 rfl rfl)
theorem dX3_bestBook_49 : decode cX3_bestBook 49 = .ok (.iload 5, 2) := dk_21 5 (dk_at dksX3_bestBook_2 3 rfl rfl)
theorem dX3_bestBook_51 : decode cX3_bestBook 51 = .ok (.iload_n 2, 1) := dk_28 (dk_at dksX3_bestBook_2 5 rfl rfl)
theorem dX3_bestBook_52 : decode cX3_bestBook 52 = .ok (.if_icmp .gt 35, 3) := dk_163 0 35 (dk_at dksX3_bestBook_2 6 rfl rfl)
theorem dX3_bestBook_55 : decode cX3_bestBook 55 = .ok (.aload_n 0, 1) := dk_42 (dk_at dksX3_bestBook_2 9 rfl rfl)
theorem dX3_bestBook_56 : decode cX3_bestBook 56 = .ok (.iload_n 1, 1) := dk_27 (dk_at dksX3_bestBook_2 10 rfl rfl)
theorem dX3_bestBook_57 : decode cX3_bestBook 57 = .ok (.iload 4, 2) := dk_21 4 (dk_at dksX3_bestBook_2 11 rfl rfl)
theorem dX3_bestBook_59 : decode cX3_bestBook 59 = .ok (.invokevirtual 305, 3) := dk_182 1 49 (dk_at dksX3_bestBook_2 13 rfl rfl)
theorem dX3_bestBook_62 : decode cX3_bestBook 62 = .ok (.istore 6, 2) := dk_54 6 (dk_at dksX3_bestBook_2 16 rfl rfl)
theorem dX3_bestBook_64 : decode cX3_bestBook 64 = .ok (.iload_n 3, 1) := dk_29 (dk_at dksX3_bestBook_2 18 rfl rfl)
theorem dX3_bestBook_65 : decode cX3_bestBook 65 = .ok (.iconst (-1), 1) := dk_2 (dk_at dksX3_bestBook_2 19 rfl rfl)
theorem dX3_bestBook_66 : decode cX3_bestBook 66 = .ok (.if_icmp .eq 12, 3) := dk_159 0 12 (dk_at dksX3_bestBook_2 20 rfl rfl)
theorem dX3_bestBook_69 : decode cX3_bestBook 69 = .ok (.iload 6, 2) := dk_21 6 (dk_at dksX3_bestBook_3 0 rfl rfl)
theorem dX3_bestBook_71 : decode cX3_bestBook 71 = .ok (.aload_n 0, 1) := dk_42 (dk_at dksX3_bestBook_3 2 rfl rfl)
theorem dX3_bestBook_72 : decode cX3_bestBook 72 = .ok (.getfield 308, 3) := dk_180 1 52 (dk_at dksX3_bestBook_3 3 rfl rfl)
theorem dX3_bestBook_75 : decode cX3_bestBook 75 = .ok (.if_icmp .le 12, 3) := dk_164 0 12 (dk_at dksX3_bestBook_3 6 rfl rfl)
theorem dX3_bestBook_78 : decode cX3_bestBook 78 = .ok (.iload 4, 2) := dk_21 4 (dk_at dksX3_bestBook_3 9 rfl rfl)
theorem dX3_bestBook_80 : decode cX3_bestBook 80 = .ok (.istore_n 3, 1) := dk_62 (dk_at dksX3_bestBook_3 11 rfl rfl)
theorem dX3_bestBook_81 : decode cX3_bestBook 81 = .ok (.aload_n 0, 1) := dk_42 (dk_at dksX3_bestBook_3 12 rfl rfl)
theorem dX3_bestBook_82 : decode cX3_bestBook 82 = .ok (.iload 6, 2) := dk_21 6 (dk_at dksX3_bestBook_3 13 rfl rfl)
theorem dX3_bestBook_84 : decode cX3_bestBook 84 = .ok (.putfield 308, 3) := dk_181 1 52 (dk_at dksX3_bestBook_3 15 rfl rfl)
theorem dX3_bestBook_87 : decode cX3_bestBook 87 = .ok (.iinc 4 1, 3) := dk_132 4 1 (dk_at dksX3_bestBook_3 18 rfl rfl)
theorem dX3_bestBook_90 : decode cX3_bestBook 90 = .ok (.goto (-85), 3) := dk_167 255 171 (dk_at dksX3_bestBook_3 21 rfl rfl)
theorem dX3_bestBook_93 : decode cX3_bestBook 93 = .ok (.iload_n 3, 1) := dk_29 (dk_at dksX3_bestBook_4 0 rfl rfl)
theorem dX3_bestBook_94 : decode cX3_bestBook 94 = .ok (.ireturn, 1) := dk_172 (dk_at dksX3_bestBook_4 1 rfl rfl)
abbrev cX3_writtenBy : ByteArray := prog_16_method_84_code
def yX3_writtenBy : MethodName := ⟨RX3, "writtenBy", "(II)I"⟩
def dkwX3_writtenBy_0 : List UInt8 := [42, 182, 0, 227, 78, 45, 28, 182, 0, 138, 87, 45, 27, 2, 182, 1, 46, 172]
abbrev dktX3_writtenBy_0 : List UInt8 := dkwX3_writtenBy_0 ++ []
theorem dksX3_writtenBy_0 : cX3_writtenBy.data.toList.drop 0 = dktX3_writtenBy_0 := by decide +kernel
theorem dX3_writtenBy_0 : decode cX3_writtenBy 0 = .ok (.aload_n 0, 1) := dk_42 (dk_at dksX3_writtenBy_0 0 rfl rfl)
theorem dX3_writtenBy_1 : decode cX3_writtenBy 1 = .ok (.invokevirtual 227, 3) := dk_182 0 227 (dk_at dksX3_writtenBy_0 1 rfl rfl)
theorem dX3_writtenBy_4 : decode cX3_writtenBy 4 = .ok (.astore_n 3, 1) := dk_78 (dk_at dksX3_writtenBy_0 4 rfl rfl)
theorem dX3_writtenBy_5 : decode cX3_writtenBy 5 = .ok (.aload_n 3, 1) := dk_45 (dk_at dksX3_writtenBy_0 5 rfl rfl)
theorem dX3_writtenBy_6 : decode cX3_writtenBy 6 = .ok (.iload_n 2, 1) := dk_28 (dk_at dksX3_writtenBy_0 6 rfl rfl)
theorem dX3_writtenBy_7 : decode cX3_writtenBy 7 = .ok (.invokevirtual 138, 3) := dk_182 0 138 (dk_at dksX3_writtenBy_0 7 rfl rfl)
theorem dX3_writtenBy_10 : decode cX3_writtenBy 10 = .ok (.pop, 1) := dk_87 (dk_at dksX3_writtenBy_0 10 rfl rfl)
theorem dX3_writtenBy_11 : decode cX3_writtenBy 11 = .ok (.aload_n 3, 1) := dk_45 (dk_at dksX3_writtenBy_0 11 rfl rfl)
theorem dX3_writtenBy_12 : decode cX3_writtenBy 12 = .ok (.iload_n 1, 1) := dk_27 (dk_at dksX3_writtenBy_0 12 rfl rfl)
theorem dX3_writtenBy_13 : decode cX3_writtenBy 13 = .ok (.iconst (-1), 1) := dk_2 (dk_at dksX3_writtenBy_0 13 rfl rfl)
theorem dX3_writtenBy_14 : decode cX3_writtenBy 14 = .ok (.invokevirtual 302, 3) := dk_182 1 46 (dk_at dksX3_writtenBy_0 14 rfl rfl)
theorem dX3_writtenBy_17 : decode cX3_writtenBy 17 = .ok (.ireturn, 1) := dk_172 (dk_at dksX3_writtenBy_0 17 rfl rfl)
abbrev cX3_written : ByteArray := prog_16_method_87_code
def yX3_written : MethodName := ⟨RX3, "written", "(II)I"⟩
def dkwX3_written_1 : List UInt8 := [18, 252, 42, 16, 254, 182, 0, 91, 96, 172]
abbrev dktX3_written_1 : List UInt8 := dkwX3_written_1 ++ []
def dkwX3_written_0 : List UInt8 := [27, 184, 1, 43, 153, 0, 20, 42, 28, 182, 0, 135, 153, 0, 12, 42, 27, 28, 182, 1, 49, 167, 0, 12]
abbrev dktX3_written_0 : List UInt8 := dkwX3_written_0 ++ dktX3_written_1
theorem dksX3_written_0 : cX3_written.data.toList.drop 0 = dktX3_written_0 := by decide +kernel
theorem dksX3_written_1 : cX3_written.data.toList.drop 24 = dktX3_written_1 := dk_seg dksX3_written_0 24 rfl rfl
theorem dX3_written_0 : decode cX3_written 0 = .ok (.iload_n 1, 1) := dk_27 (dk_at dksX3_written_0 0 rfl rfl)
theorem dX3_written_1 : decode cX3_written 1 = .ok (.invokestatic 299, 3) := dk_184 1 43 (dk_at dksX3_written_0 1 rfl rfl)
theorem dX3_written_4 : decode cX3_written 4 = .ok (.ifCond .eq 20, 3) := dk_153 0 20 (dk_at dksX3_written_0 4 rfl rfl)
theorem dX3_written_7 : decode cX3_written 7 = .ok (.aload_n 0, 1) := dk_42 (dk_at dksX3_written_0 7 rfl rfl)
theorem dX3_written_8 : decode cX3_written 8 = .ok (.iload_n 2, 1) := dk_28 (dk_at dksX3_written_0 8 rfl rfl)
theorem dX3_written_9 : decode cX3_written 9 = .ok (.invokevirtual 135, 3) := dk_182 0 135 (dk_at dksX3_written_0 9 rfl rfl)
theorem dX3_written_12 : decode cX3_written 12 = .ok (.ifCond .eq 12, 3) := dk_153 0 12 (dk_at dksX3_written_0 12 rfl rfl)
theorem dX3_written_15 : decode cX3_written 15 = .ok (.aload_n 0, 1) := dk_42 (dk_at dksX3_written_0 15 rfl rfl)
theorem dX3_written_16 : decode cX3_written 16 = .ok (.iload_n 1, 1) := dk_27 (dk_at dksX3_written_0 16 rfl rfl)
theorem dX3_written_17 : decode cX3_written 17 = .ok (.iload_n 2, 1) := dk_28 (dk_at dksX3_written_0 17 rfl rfl)
theorem dX3_written_18 : decode cX3_written 18 = .ok (.invokevirtual 305, 3) := dk_182 1 49 (dk_at dksX3_written_0 18 rfl rfl)
theorem dX3_written_21 : decode cX3_written 21 = .ok (.goto 12, 3) := dk_167 0 12 (dk_at dksX3_written_0 21 rfl rfl)
theorem dX3_written_24 : decode cX3_written 24 = .ok (.ldc 252, 2) := dk_18 252 (dk_at dksX3_written_1 0 rfl rfl)
theorem dX3_written_26 : decode cX3_written 26 = .ok (.aload_n 0, 1) := dk_42 (dk_at dksX3_written_1 2 rfl rfl)
theorem dX3_written_27 : decode cX3_written 27 = .ok (.bipush (-2), 2) := dk_16 254 (dk_at dksX3_written_1 3 rfl rfl)
theorem dX3_written_29 : decode cX3_written 29 = .ok (.invokevirtual 91, 3) := dk_182 0 91 (dk_at dksX3_written_1 5 rfl rfl)
theorem dX3_written_32 : decode cX3_written 32 = .ok (.iadd, 1) := dk_96 (dk_at dksX3_written_1 8 rfl rfl)
theorem dX3_written_33 : decode cX3_written 33 = .ok (.ireturn, 1) := dk_172 (dk_at dksX3_written_1 9 rfl rfl)
abbrev cX3_many : ByteArray := prog_16_method_88_code
def yX3_many : MethodName := ⟨RX3, "many", "(I)I"⟩
def dkwX3_many_2 : List UInt8 := [42, 27, 29, 182, 1, 55, 87, 167, 255, 238, 29, 172]
abbrev dktX3_many_2 : List UInt8 := dkwX3_many_2 ++ []
def dkwX3_many_1 : List UInt8 := [180, 1, 52, 61, 3, 62, 42, 27, 3, 182, 1, 55, 87, 42, 180, 1, 52, 28, 159, 0, 16, 132, 3, 1]
abbrev dktX3_many_1 : List UInt8 := dkwX3_many_1 ++ dktX3_many_2
def dkwX3_many_0 : List UInt8 := [27, 184, 1, 43, 154, 0, 10, 42, 16, 254, 182, 0, 91, 172, 42, 27, 16, 6, 182, 1, 55, 87, 42]
abbrev dktX3_many_0 : List UInt8 := dkwX3_many_0 ++ dktX3_many_1
theorem dksX3_many_0 : cX3_many.data.toList.drop 0 = dktX3_many_0 := by decide +kernel
theorem dksX3_many_1 : cX3_many.data.toList.drop 23 = dktX3_many_1 := dk_seg dksX3_many_0 23 rfl rfl
theorem dksX3_many_2 : cX3_many.data.toList.drop 47 = dktX3_many_2 := dk_seg dksX3_many_1 24 rfl rfl
theorem dX3_many_0 : decode cX3_many 0 = .ok (.iload_n 1, 1) := dk_27 (dk_at dksX3_many_0 0 rfl rfl)
theorem dX3_many_1 : decode cX3_many 1 = .ok (.invokestatic 299, 3) := dk_184 1 43 (dk_at dksX3_many_0 1 rfl rfl)
theorem dX3_many_4 : decode cX3_many 4 = .ok (.ifCond .ne 10, 3) := dk_154 0 10 (dk_at dksX3_many_0 4 rfl rfl)
theorem dX3_many_7 : decode cX3_many 7 = .ok (.aload_n 0, 1) := dk_42 (dk_at dksX3_many_0 7 rfl rfl)
theorem dX3_many_8 : decode cX3_many 8 = .ok (.bipush (-2), 2) := dk_16 254 (dk_at dksX3_many_0 8 rfl rfl)
theorem dX3_many_10 : decode cX3_many 10 = .ok (.invokevirtual 91, 3) := dk_182 0 91 (dk_at dksX3_many_0 10 rfl rfl)
theorem dX3_many_13 : decode cX3_many 13 = .ok (.ireturn, 1) := dk_172 (dk_at dksX3_many_0 13 rfl rfl)
theorem dX3_many_14 : decode cX3_many 14 = .ok (.aload_n 0, 1) := dk_42 (dk_at dksX3_many_0 14 rfl rfl)
theorem dX3_many_15 : decode cX3_many 15 = .ok (.iload_n 1, 1) := dk_27 (dk_at dksX3_many_0 15 rfl rfl)
theorem dX3_many_16 : decode cX3_many 16 = .ok (.bipush 6, 2) := dk_16 6 (dk_at dksX3_many_0 16 rfl rfl)
theorem dX3_many_18 : decode cX3_many 18 = .ok (.invokevirtual 311, 3) := dk_182 1 55 (dk_at dksX3_many_0 18 rfl rfl)
theorem dX3_many_21 : decode cX3_many 21 = .ok (.pop, 1) := dk_87 (dk_at dksX3_many_0 21 rfl rfl)
theorem dX3_many_22 : decode cX3_many 22 = .ok (.aload_n 0, 1) := dk_42 (dk_at dksX3_many_0 22 rfl rfl)
theorem dX3_many_23 : decode cX3_many 23 = .ok (.getfield 308, 3) := dk_180 1 52 (dk_at dksX3_many_1 0 rfl rfl)
theorem dX3_many_26 : decode cX3_many 26 = .ok (.istore_n 2, 1) := dk_61 (dk_at dksX3_many_1 3 rfl rfl)
theorem dX3_many_27 : decode cX3_many 27 = .ok (.iconst 0, 1) := dk_3 (dk_at dksX3_many_1 4 rfl rfl)
theorem dX3_many_28 : decode cX3_many 28 = .ok (.istore_n 3, 1) := dk_62 (dk_at dksX3_many_1 5 rfl rfl)
theorem dX3_many_29 : decode cX3_many 29 = .ok (.aload_n 0, 1) := dk_42 (dk_at dksX3_many_1 6 rfl rfl)
theorem dX3_many_30 : decode cX3_many 30 = .ok (.iload_n 1, 1) := dk_27 (dk_at dksX3_many_1 7 rfl rfl)
theorem dX3_many_31 : decode cX3_many 31 = .ok (.iconst 0, 1) := dk_3 (dk_at dksX3_many_1 8 rfl rfl)
theorem dX3_many_32 : decode cX3_many 32 = .ok (.invokevirtual 311, 3) := dk_182 1 55 (dk_at dksX3_many_1 9 rfl rfl)
theorem dX3_many_35 : decode cX3_many 35 = .ok (.pop, 1) := dk_87 (dk_at dksX3_many_1 12 rfl rfl)
theorem dX3_many_36 : decode cX3_many 36 = .ok (.aload_n 0, 1) := dk_42 (dk_at dksX3_many_1 13 rfl rfl)
theorem dX3_many_37 : decode cX3_many 37 = .ok (.getfield 308, 3) := dk_180 1 52 (dk_at dksX3_many_1 14 rfl rfl)
theorem dX3_many_40 : decode cX3_many 40 = .ok (.iload_n 2, 1) := dk_28 (dk_at dksX3_many_1 17 rfl rfl)
theorem dX3_many_41 : decode cX3_many 41 = .ok (.if_icmp .eq 16, 3) := dk_159 0 16 (dk_at dksX3_many_1 18 rfl rfl)
theorem dX3_many_44 : decode cX3_many 44 = .ok (.iinc 3 1, 3) := dk_132 3 1 (dk_at dksX3_many_1 21 rfl rfl)
theorem dX3_many_47 : decode cX3_many 47 = .ok (.aload_n 0, 1) := dk_42 (dk_at dksX3_many_2 0 rfl rfl)
theorem dX3_many_48 : decode cX3_many 48 = .ok (.iload_n 1, 1) := dk_27 (dk_at dksX3_many_2 1 rfl rfl)
theorem dX3_many_49 : decode cX3_many 49 = .ok (.iload_n 3, 1) := dk_29 (dk_at dksX3_many_2 2 rfl rfl)
theorem dX3_many_50 : decode cX3_many 50 = .ok (.invokevirtual 311, 3) := dk_182 1 55 (dk_at dksX3_many_2 3 rfl rfl)
theorem dX3_many_53 : decode cX3_many 53 = .ok (.pop, 1) := dk_87 (dk_at dksX3_many_2 6 rfl rfl)
theorem dX3_many_54 : decode cX3_many 54 = .ok (.goto (-18), 3) := dk_167 255 238 (dk_at dksX3_many_2 7 rfl rfl)
theorem dX3_many_57 : decode cX3_many 57 = .ok (.iload_n 3, 1) := dk_29 (dk_at dksX3_many_2 10 rfl rfl)
theorem dX3_many_58 : decode cX3_many 58 = .ok (.ireturn, 1) := dk_172 (dk_at dksX3_many_2 11 rfl rfl)
abbrev cX3_round : ByteArray := prog_16_method_90_code
def yX3_round : MethodName := ⟨RX3, "round", "(II)I"⟩
def dkwX3_round_2 : List UInt8 := [180, 1, 52, 167, 0, 9, 42, 180, 0, 70, 28, 46, 172]
abbrev dktX3_round_2 : List UInt8 := dkwX3_round_2 ++ []
def dkwX3_round_1 : List UInt8 := [154, 0, 13, 18, 252, 42, 16, 254, 182, 0, 91, 96, 172, 42, 27, 182, 1, 60, 28, 2, 160, 0, 10, 42]
abbrev dktX3_round_1 : List UInt8 := dkwX3_round_1 ++ dktX3_round_2
def dkwX3_round_0 : List UInt8 := [27, 133, 10, 20, 1, 58, 184, 0, 76, 153, 0, 18, 28, 133, 20, 0, 130, 27, 4, 100, 133, 184, 0, 76]
abbrev dktX3_round_0 : List UInt8 := dkwX3_round_0 ++ dktX3_round_1
theorem dksX3_round_0 : cX3_round.data.toList.drop 0 = dktX3_round_0 := by decide +kernel
theorem dksX3_round_1 : cX3_round.data.toList.drop 24 = dktX3_round_1 := dk_seg dksX3_round_0 24 rfl rfl
theorem dksX3_round_2 : cX3_round.data.toList.drop 48 = dktX3_round_2 := dk_seg dksX3_round_1 24 rfl rfl
theorem dX3_round_0 : decode cX3_round 0 = .ok (.iload_n 1, 1) := dk_27 (dk_at dksX3_round_0 0 rfl rfl)
theorem dX3_round_1 : decode cX3_round 1 = .ok (.i2l, 1) := dk_133 (dk_at dksX3_round_0 1 rfl rfl)
theorem dX3_round_2 : decode cX3_round 2 = .ok (.lconst 1, 1) := dk_10 (dk_at dksX3_round_0 2 rfl rfl)
theorem dX3_round_3 : decode cX3_round 3 = .ok (.ldc2_w 314, 3) := dk_20 1 58 (dk_at dksX3_round_0 3 rfl rfl)
theorem dX3_round_6 : decode cX3_round 6 = .ok (.invokestatic 76, 3) := dk_184 0 76 (dk_at dksX3_round_0 6 rfl rfl)
theorem dX3_round_9 : decode cX3_round 9 = .ok (.ifCond .eq 18, 3) := dk_153 0 18 (dk_at dksX3_round_0 9 rfl rfl)
theorem dX3_round_12 : decode cX3_round 12 = .ok (.iload_n 2, 1) := dk_28 (dk_at dksX3_round_0 12 rfl rfl)
theorem dX3_round_13 : decode cX3_round 13 = .ok (.i2l, 1) := dk_133 (dk_at dksX3_round_0 13 rfl rfl)
theorem dX3_round_14 : decode cX3_round 14 = .ok (.ldc2_w 130, 3) := dk_20 0 130 (dk_at dksX3_round_0 14 rfl rfl)
theorem dX3_round_17 : decode cX3_round 17 = .ok (.iload_n 1, 1) := dk_27 (dk_at dksX3_round_0 17 rfl rfl)
theorem dX3_round_18 : decode cX3_round 18 = .ok (.iconst 1, 1) := dk_4 (dk_at dksX3_round_0 18 rfl rfl)
theorem dX3_round_19 : decode cX3_round 19 = .ok (.isub, 1) := dk_100 (dk_at dksX3_round_0 19 rfl rfl)
theorem dX3_round_20 : decode cX3_round 20 = .ok (.i2l, 1) := dk_133 (dk_at dksX3_round_0 20 rfl rfl)
theorem dX3_round_21 : decode cX3_round 21 = .ok (.invokestatic 76, 3) := dk_184 0 76 (dk_at dksX3_round_0 21 rfl rfl)
theorem dX3_round_24 : decode cX3_round 24 = .ok (.ifCond .ne 13, 3) := dk_154 0 13 (dk_at dksX3_round_1 0 rfl rfl)
theorem dX3_round_27 : decode cX3_round 27 = .ok (.ldc 252, 2) := dk_18 252 (dk_at dksX3_round_1 3 rfl rfl)
theorem dX3_round_29 : decode cX3_round 29 = .ok (.aload_n 0, 1) := dk_42 (dk_at dksX3_round_1 5 rfl rfl)
theorem dX3_round_30 : decode cX3_round 30 = .ok (.bipush (-2), 2) := dk_16 254 (dk_at dksX3_round_1 6 rfl rfl)
theorem dX3_round_32 : decode cX3_round 32 = .ok (.invokevirtual 91, 3) := dk_182 0 91 (dk_at dksX3_round_1 8 rfl rfl)
theorem dX3_round_35 : decode cX3_round 35 = .ok (.iadd, 1) := dk_96 (dk_at dksX3_round_1 11 rfl rfl)
theorem dX3_round_36 : decode cX3_round 36 = .ok (.ireturn, 1) := dk_172 (dk_at dksX3_round_1 12 rfl rfl)
theorem dX3_round_37 : decode cX3_round 37 = .ok (.aload_n 0, 1) := dk_42 (dk_at dksX3_round_1 13 rfl rfl)
theorem dX3_round_38 : decode cX3_round 38 = .ok (.iload_n 1, 1) := dk_27 (dk_at dksX3_round_1 14 rfl rfl)
theorem dX3_round_39 : decode cX3_round 39 = .ok (.invokevirtual 316, 3) := dk_182 1 60 (dk_at dksX3_round_1 15 rfl rfl)
theorem dX3_round_42 : decode cX3_round 42 = .ok (.iload_n 2, 1) := dk_28 (dk_at dksX3_round_1 18 rfl rfl)
theorem dX3_round_43 : decode cX3_round 43 = .ok (.iconst (-1), 1) := dk_2 (dk_at dksX3_round_1 19 rfl rfl)
theorem dX3_round_44 : decode cX3_round 44 = .ok (.if_icmp .ne 10, 3) := dk_160 0 10 (dk_at dksX3_round_1 20 rfl rfl)
theorem dX3_round_47 : decode cX3_round 47 = .ok (.aload_n 0, 1) := dk_42 (dk_at dksX3_round_1 23 rfl rfl)
theorem dX3_round_48 : decode cX3_round 48 = .ok (.getfield 308, 3) := dk_180 1 52 (dk_at dksX3_round_2 0 rfl rfl)
theorem dX3_round_51 : decode cX3_round 51 = .ok (.goto 9, 3) := dk_167 0 9 (dk_at dksX3_round_2 3 rfl rfl)
theorem dX3_round_54 : decode cX3_round 54 = .ok (.aload_n 0, 1) := dk_42 (dk_at dksX3_round_2 6 rfl rfl)
theorem dX3_round_55 : decode cX3_round 55 = .ok (.getfield 70, 3) := dk_180 0 70 (dk_at dksX3_round_2 7 rfl rfl)
theorem dX3_round_58 : decode cX3_round 58 = .ok (.iload_n 2, 1) := dk_28 (dk_at dksX3_round_2 10 rfl rfl)
theorem dX3_round_59 : decode cX3_round 59 = .ok (.iaload, 1) := dk_46 (dk_at dksX3_round_2 11 rfl rfl)
theorem dX3_round_60 : decode cX3_round 60 = .ok (.ireturn, 1) := dk_172 (dk_at dksX3_round_2 12 rfl rfl)
abbrev cX3_findRound : ByteArray := prog_16_method_89_code
def yX3_findRound : MethodName := ⟨RX3, "findRound", "(I)V"⟩
def dkwX3_findRound_8 : List UInt8 := [167, 255, 216, 132, 3, 1, 167, 255, 89, 177]
abbrev dktX3_findRound_8 : List UInt8 := dkwX3_findRound_8 ++ []
def dkwX3_findRound_7 : List UInt8 := [180, 0, 70, 21, 7, 29, 21, 5, 108, 42, 180, 0, 73, 4, 96, 112, 4, 100, 79, 132, 7, 1]
abbrev dktX3_findRound_7 : List UInt8 := dkwX3_findRound_7 ++ dktX3_findRound_8
def dkwX3_findRound_6 : List UInt8 := [54, 5, 3, 54, 7, 21, 7, 27, 162, 0, 40, 21, 5, 42, 180, 0, 73, 4, 96, 108, 54, 5, 42]
abbrev dktX3_findRound_6 : List UInt8 := dkwX3_findRound_6 ++ dktX3_findRound_7
def dkwX3_findRound_5 : List UInt8 := [167, 255, 183, 29, 153, 0, 12, 21, 6, 42, 180, 1, 52, 164, 0, 58, 42, 21, 6, 181, 1, 52, 28]
abbrev dktX3_findRound_5 : List UInt8 := dkwX3_findRound_5 ++ dktX3_findRound_6
def dkwX3_findRound_4 : List UInt8 := [180, 0, 39, 21, 8, 50, 3, 46, 79, 21, 6, 25, 4, 4, 2, 182, 1, 46, 96, 54, 6, 132, 7, 1]
abbrev dktX3_findRound_4 : List UInt8 := dkwX3_findRound_4 ++ dktX3_findRound_5
def dkwX3_findRound_3 : List UInt8 := [96, 112, 4, 100, 54, 8, 21, 8, 2, 159, 0, 23, 25, 4, 180, 0, 39, 21, 8, 50, 7, 25, 4]
abbrev dktX3_findRound_3 : List UInt8 := dkwX3_findRound_3 ++ dktX3_findRound_4
def dkwX3_findRound_2 : List UInt8 := [27, 162, 0, 73, 21, 5, 42, 180, 0, 73, 4, 96, 108, 54, 5, 29, 21, 5, 108, 42, 180, 0, 73, 4]
abbrev dktX3_findRound_2 : List UInt8 := dkwX3_findRound_2 ++ dktX3_findRound_3
def dkwX3_findRound_1 : List UInt8 := [3, 62, 29, 28, 162, 0, 168, 42, 182, 0, 227, 58, 4, 28, 54, 5, 3, 54, 6, 3, 54, 7, 21, 7]
abbrev dktX3_findRound_1 : List UInt8 := dkwX3_findRound_1 ++ dktX3_findRound_2
def dkwX3_findRound_0 : List UInt8 := [4, 61, 3, 62, 29, 27, 162, 0, 18, 28, 42, 180, 0, 73, 4, 96, 104, 61, 132, 3, 1, 167, 255, 239]
abbrev dktX3_findRound_0 : List UInt8 := dkwX3_findRound_0 ++ dktX3_findRound_1
theorem dksX3_findRound_0 : cX3_findRound.data.toList.drop 0 = dktX3_findRound_0 := by decide +kernel
theorem dksX3_findRound_1 : cX3_findRound.data.toList.drop 24 = dktX3_findRound_1 := dk_seg dksX3_findRound_0 24 rfl rfl
theorem dksX3_findRound_2 : cX3_findRound.data.toList.drop 48 = dktX3_findRound_2 := dk_seg dksX3_findRound_1 24 rfl rfl
theorem dksX3_findRound_3 : cX3_findRound.data.toList.drop 72 = dktX3_findRound_3 := dk_seg dksX3_findRound_2 24 rfl rfl
theorem dksX3_findRound_4 : cX3_findRound.data.toList.drop 95 = dktX3_findRound_4 := dk_seg dksX3_findRound_3 23 rfl rfl
theorem dksX3_findRound_5 : cX3_findRound.data.toList.drop 119 = dktX3_findRound_5 := dk_seg dksX3_findRound_4 24 rfl rfl
theorem dksX3_findRound_6 : cX3_findRound.data.toList.drop 142 = dktX3_findRound_6 := dk_seg dksX3_findRound_5 23 rfl rfl
theorem dksX3_findRound_7 : cX3_findRound.data.toList.drop 165 = dktX3_findRound_7 := dk_seg dksX3_findRound_6 23 rfl rfl
theorem dksX3_findRound_8 : cX3_findRound.data.toList.drop 187 = dktX3_findRound_8 := dk_seg dksX3_findRound_7 22 rfl rfl
theorem dX3_findRound_0 : decode cX3_findRound 0 = .ok (.iconst 1, 1) := dk_4 (dk_at dksX3_findRound_0 0 rfl rfl)
theorem dX3_findRound_1 : decode cX3_findRound 1 = .ok (.istore_n 2, 1) := dk_61 (dk_at dksX3_findRound_0 1 rfl rfl)
theorem dX3_findRound_2 : decode cX3_findRound 2 = .ok (.iconst 0, 1) := dk_3 (dk_at dksX3_findRound_0 2 rfl rfl)
theorem dX3_findRound_3 : decode cX3_findRound 3 = .ok (.istore_n 3, 1) := dk_62 (dk_at dksX3_findRound_0 3 rfl rfl)
theorem dX3_findRound_4 : decode cX3_findRound 4 = .ok (.iload_n 3, 1) := dk_29 (dk_at dksX3_findRound_0 4 rfl rfl)
theorem dX3_findRound_5 : decode cX3_findRound 5 = .ok (.iload_n 1, 1) := dk_27 (dk_at dksX3_findRound_0 5 rfl rfl)
theorem dX3_findRound_6 : decode cX3_findRound 6 = .ok (.if_icmp .ge 18, 3) := dk_162 0 18 (dk_at dksX3_findRound_0 6 rfl rfl)
theorem dX3_findRound_9 : decode cX3_findRound 9 = .ok (.iload_n 2, 1) := dk_28 (dk_at dksX3_findRound_0 9 rfl rfl)
theorem dX3_findRound_10 : decode cX3_findRound 10 = .ok (.aload_n 0, 1) := dk_42 (dk_at dksX3_findRound_0 10 rfl rfl)
theorem dX3_findRound_11 : decode cX3_findRound 11 = .ok (.getfield 73, 3) := dk_180 0 73 (dk_at dksX3_findRound_0 11 rfl rfl)
theorem dX3_findRound_14 : decode cX3_findRound 14 = .ok (.iconst 1, 1) := dk_4 (dk_at dksX3_findRound_0 14 rfl rfl)
theorem dX3_findRound_15 : decode cX3_findRound 15 = .ok (.iadd, 1) := dk_96 (dk_at dksX3_findRound_0 15 rfl rfl)
theorem dX3_findRound_16 : decode cX3_findRound 16 = .ok (.imul, 1) := dk_104 (dk_at dksX3_findRound_0 16 rfl rfl)
theorem dX3_findRound_17 : decode cX3_findRound 17 = .ok (.istore_n 2, 1) := dk_61 (dk_at dksX3_findRound_0 17 rfl rfl)
theorem dX3_findRound_18 : decode cX3_findRound 18 = .ok (.iinc 3 1, 3) := dk_132 3 1 (dk_at dksX3_findRound_0 18 rfl rfl)
theorem dX3_findRound_21 : decode cX3_findRound 21 = .ok (.goto (-17), 3) := dk_167 255 239 (dk_at dksX3_findRound_0 21 rfl rfl)
theorem dX3_findRound_24 : decode cX3_findRound 24 = .ok (.iconst 0, 1) := dk_3 (dk_at dksX3_findRound_1 0 rfl rfl)
theorem dX3_findRound_25 : decode cX3_findRound 25 = .ok (.istore_n 3, 1) := dk_62 (dk_at dksX3_findRound_1 1 rfl rfl)
theorem dX3_findRound_26 : decode cX3_findRound 26 = .ok (.iload_n 3, 1) := dk_29 (dk_at dksX3_findRound_1 2 rfl rfl)
theorem dX3_findRound_27 : decode cX3_findRound 27 = .ok (.iload_n 2, 1) := dk_28 (dk_at dksX3_findRound_1 3 rfl rfl)
theorem dX3_findRound_28 : decode cX3_findRound 28 = .ok (.if_icmp .ge 168, 3) := dk_162 0 168 (dk_at dksX3_findRound_1 4 rfl rfl)
theorem dX3_findRound_31 : decode cX3_findRound 31 = .ok (.aload_n 0, 1) := dk_42 (dk_at dksX3_findRound_1 7 rfl rfl)
theorem dX3_findRound_32 : decode cX3_findRound 32 = .ok (.invokevirtual 227, 3) := dk_182 0 227 (dk_at dksX3_findRound_1 8 rfl rfl)
theorem dX3_findRound_35 : decode cX3_findRound 35 = .ok (.astore 4, 2) := dk_58 4 (dk_at dksX3_findRound_1 11 rfl rfl)
theorem dX3_findRound_37 : decode cX3_findRound 37 = .ok (.iload_n 2, 1) := dk_28 (dk_at dksX3_findRound_1 13 rfl rfl)
theorem dX3_findRound_38 : decode cX3_findRound 38 = .ok (.istore 5, 2) := dk_54 5 (dk_at dksX3_findRound_1 14 rfl rfl)
theorem dX3_findRound_40 : decode cX3_findRound 40 = .ok (.iconst 0, 1) := dk_3 (dk_at dksX3_findRound_1 16 rfl rfl)
theorem dX3_findRound_41 : decode cX3_findRound 41 = .ok (.istore 6, 2) := dk_54 6 (dk_at dksX3_findRound_1 17 rfl rfl)
theorem dX3_findRound_43 : decode cX3_findRound 43 = .ok (.iconst 0, 1) := dk_3 (dk_at dksX3_findRound_1 19 rfl rfl)
theorem dX3_findRound_44 : decode cX3_findRound 44 = .ok (.istore 7, 2) := dk_54 7 (dk_at dksX3_findRound_1 20 rfl rfl)
theorem dX3_findRound_46 : decode cX3_findRound 46 = .ok (.iload 7, 2) := dk_21 7 (dk_at dksX3_findRound_1 22 rfl rfl)
theorem dX3_findRound_48 : decode cX3_findRound 48 = .ok (.iload_n 1, 1) := dk_27 (dk_at dksX3_findRound_2 0 rfl rfl)
theorem dX3_findRound_49 : decode cX3_findRound 49 = .ok (.if_icmp .ge 73, 3) := dk_162 0 73 (dk_at dksX3_findRound_2 1 rfl rfl)
theorem dX3_findRound_52 : decode cX3_findRound 52 = .ok (.iload 5, 2) := dk_21 5 (dk_at dksX3_findRound_2 4 rfl rfl)
theorem dX3_findRound_54 : decode cX3_findRound 54 = .ok (.aload_n 0, 1) := dk_42 (dk_at dksX3_findRound_2 6 rfl rfl)
theorem dX3_findRound_55 : decode cX3_findRound 55 = .ok (.getfield 73, 3) := dk_180 0 73 (dk_at dksX3_findRound_2 7 rfl rfl)
theorem dX3_findRound_58 : decode cX3_findRound 58 = .ok (.iconst 1, 1) := dk_4 (dk_at dksX3_findRound_2 10 rfl rfl)
theorem dX3_findRound_59 : decode cX3_findRound 59 = .ok (.iadd, 1) := dk_96 (dk_at dksX3_findRound_2 11 rfl rfl)
theorem dX3_findRound_60 : decode cX3_findRound 60 = .ok (.idiv, 1) := dk_108 (dk_at dksX3_findRound_2 12 rfl rfl)
theorem dX3_findRound_61 : decode cX3_findRound 61 = .ok (.istore 5, 2) := dk_54 5 (dk_at dksX3_findRound_2 13 rfl rfl)
theorem dX3_findRound_63 : decode cX3_findRound 63 = .ok (.iload_n 3, 1) := dk_29 (dk_at dksX3_findRound_2 15 rfl rfl)
theorem dX3_findRound_64 : decode cX3_findRound 64 = .ok (.iload 5, 2) := dk_21 5 (dk_at dksX3_findRound_2 16 rfl rfl)
theorem dX3_findRound_66 : decode cX3_findRound 66 = .ok (.idiv, 1) := dk_108 (dk_at dksX3_findRound_2 18 rfl rfl)
theorem dX3_findRound_67 : decode cX3_findRound 67 = .ok (.aload_n 0, 1) := dk_42 (dk_at dksX3_findRound_2 19 rfl rfl)
theorem dX3_findRound_68 : decode cX3_findRound 68 = .ok (.getfield 73, 3) := dk_180 0 73 (dk_at dksX3_findRound_2 20 rfl rfl)
theorem dX3_findRound_71 : decode cX3_findRound 71 = .ok (.iconst 1, 1) := dk_4 (dk_at dksX3_findRound_2 23 rfl rfl)
theorem dX3_findRound_72 : decode cX3_findRound 72 = .ok (.iadd, 1) := dk_96 (dk_at dksX3_findRound_3 0 rfl rfl)
theorem dX3_findRound_73 : decode cX3_findRound 73 = .ok (.irem, 1) := dk_112 (dk_at dksX3_findRound_3 1 rfl rfl)
theorem dX3_findRound_74 : decode cX3_findRound 74 = .ok (.iconst 1, 1) := dk_4 (dk_at dksX3_findRound_3 2 rfl rfl)
theorem dX3_findRound_75 : decode cX3_findRound 75 = .ok (.isub, 1) := dk_100 (dk_at dksX3_findRound_3 3 rfl rfl)
theorem dX3_findRound_76 : decode cX3_findRound 76 = .ok (.istore 8, 2) := dk_54 8 (dk_at dksX3_findRound_3 4 rfl rfl)
theorem dX3_findRound_78 : decode cX3_findRound 78 = .ok (.iload 8, 2) := dk_21 8 (dk_at dksX3_findRound_3 6 rfl rfl)
theorem dX3_findRound_80 : decode cX3_findRound 80 = .ok (.iconst (-1), 1) := dk_2 (dk_at dksX3_findRound_3 8 rfl rfl)
theorem dX3_findRound_81 : decode cX3_findRound 81 = .ok (.if_icmp .eq 23, 3) := dk_159 0 23 (dk_at dksX3_findRound_3 9 rfl rfl)
theorem dX3_findRound_84 : decode cX3_findRound 84 = .ok (.aload 4, 2) := dk_25 4 (dk_at dksX3_findRound_3 12 rfl rfl)
theorem dX3_findRound_86 : decode cX3_findRound 86 = .ok (.getfield 39, 3) := dk_180 0 39 (dk_at dksX3_findRound_3 14 rfl rfl)
theorem dX3_findRound_89 : decode cX3_findRound 89 = .ok (.iload 8, 2) := dk_21 8 (dk_at dksX3_findRound_3 17 rfl rfl)
theorem dX3_findRound_91 : decode cX3_findRound 91 = .ok (.aaload, 1) := dk_50 (dk_at dksX3_findRound_3 19 rfl rfl)
theorem dX3_findRound_92 : decode cX3_findRound 92 = .ok (.iconst 4, 1) := dk_7 (dk_at dksX3_findRound_3 20 rfl rfl)
theorem dX3_findRound_93 : decode cX3_findRound 93 = .ok (.aload 4, 2) := dk_25 4 (dk_at dksX3_findRound_3 21 rfl rfl)
theorem dX3_findRound_95 : decode cX3_findRound 95 = .ok (.getfield 39, 3) := dk_180 0 39 (dk_at dksX3_findRound_4 0 rfl rfl)
theorem dX3_findRound_98 : decode cX3_findRound 98 = .ok (.iload 8, 2) := dk_21 8 (dk_at dksX3_findRound_4 3 rfl rfl)
theorem dX3_findRound_100 : decode cX3_findRound 100 = .ok (.aaload, 1) := dk_50 (dk_at dksX3_findRound_4 5 rfl rfl)
theorem dX3_findRound_101 : decode cX3_findRound 101 = .ok (.iconst 0, 1) := dk_3 (dk_at dksX3_findRound_4 6 rfl rfl)
theorem dX3_findRound_102 : decode cX3_findRound 102 = .ok (.iaload, 1) := dk_46 (dk_at dksX3_findRound_4 7 rfl rfl)
theorem dX3_findRound_103 : decode cX3_findRound 103 = .ok (.iastore, 1) := dk_79 (dk_at dksX3_findRound_4 8 rfl rfl)
theorem dX3_findRound_104 : decode cX3_findRound 104 = .ok (.iload 6, 2) := dk_21 6 (dk_at dksX3_findRound_4 9 rfl rfl)
theorem dX3_findRound_106 : decode cX3_findRound 106 = .ok (.aload 4, 2) := dk_25 4 (dk_at dksX3_findRound_4 11 rfl rfl)
theorem dX3_findRound_108 : decode cX3_findRound 108 = .ok (.iconst 1, 1) := dk_4 (dk_at dksX3_findRound_4 13 rfl rfl)
theorem dX3_findRound_109 : decode cX3_findRound 109 = .ok (.iconst (-1), 1) := dk_2 (dk_at dksX3_findRound_4 14 rfl rfl)
theorem dX3_findRound_110 : decode cX3_findRound 110 = .ok (.invokevirtual 302, 3) := dk_182 1 46 (dk_at dksX3_findRound_4 15 rfl rfl)
theorem dX3_findRound_113 : decode cX3_findRound 113 = .ok (.iadd, 1) := dk_96 (dk_at dksX3_findRound_4 18 rfl rfl)
theorem dX3_findRound_114 : decode cX3_findRound 114 = .ok (.istore 6, 2) := dk_54 6 (dk_at dksX3_findRound_4 19 rfl rfl)
theorem dX3_findRound_116 : decode cX3_findRound 116 = .ok (.iinc 7 1, 3) := dk_132 7 1 (dk_at dksX3_findRound_4 21 rfl rfl)
theorem dX3_findRound_119 : decode cX3_findRound 119 = .ok (.goto (-73), 3) := dk_167 255 183 (dk_at dksX3_findRound_5 0 rfl rfl)
theorem dX3_findRound_122 : decode cX3_findRound 122 = .ok (.iload_n 3, 1) := dk_29 (dk_at dksX3_findRound_5 3 rfl rfl)
theorem dX3_findRound_123 : decode cX3_findRound 123 = .ok (.ifCond .eq 12, 3) := dk_153 0 12 (dk_at dksX3_findRound_5 4 rfl rfl)
theorem dX3_findRound_126 : decode cX3_findRound 126 = .ok (.iload 6, 2) := dk_21 6 (dk_at dksX3_findRound_5 7 rfl rfl)
theorem dX3_findRound_128 : decode cX3_findRound 128 = .ok (.aload_n 0, 1) := dk_42 (dk_at dksX3_findRound_5 9 rfl rfl)
theorem dX3_findRound_129 : decode cX3_findRound 129 = .ok (.getfield 308, 3) := dk_180 1 52 (dk_at dksX3_findRound_5 10 rfl rfl)
theorem dX3_findRound_132 : decode cX3_findRound 132 = .ok (.if_icmp .le 58, 3) := dk_164 0 58 (dk_at dksX3_findRound_5 13 rfl rfl)
theorem dX3_findRound_135 : decode cX3_findRound 135 = .ok (.aload_n 0, 1) := dk_42 (dk_at dksX3_findRound_5 16 rfl rfl)
theorem dX3_findRound_136 : decode cX3_findRound 136 = .ok (.iload 6, 2) := dk_21 6 (dk_at dksX3_findRound_5 17 rfl rfl)
theorem dX3_findRound_138 : decode cX3_findRound 138 = .ok (.putfield 308, 3) := dk_181 1 52 (dk_at dksX3_findRound_5 19 rfl rfl)
theorem dX3_findRound_141 : decode cX3_findRound 141 = .ok (.iload_n 2, 1) := dk_28 (dk_at dksX3_findRound_5 22 rfl rfl)
theorem dX3_findRound_142 : decode cX3_findRound 142 = .ok (.istore 5, 2) := dk_54 5 (dk_at dksX3_findRound_6 0 rfl rfl)
theorem dX3_findRound_144 : decode cX3_findRound 144 = .ok (.iconst 0, 1) := dk_3 (dk_at dksX3_findRound_6 2 rfl rfl)
theorem dX3_findRound_145 : decode cX3_findRound 145 = .ok (.istore 7, 2) := dk_54 7 (dk_at dksX3_findRound_6 3 rfl rfl)
theorem dX3_findRound_147 : decode cX3_findRound 147 = .ok (.iload 7, 2) := dk_21 7 (dk_at dksX3_findRound_6 5 rfl rfl)
theorem dX3_findRound_149 : decode cX3_findRound 149 = .ok (.iload_n 1, 1) := dk_27 (dk_at dksX3_findRound_6 7 rfl rfl)
theorem dX3_findRound_150 : decode cX3_findRound 150 = .ok (.if_icmp .ge 40, 3) := dk_162 0 40 (dk_at dksX3_findRound_6 8 rfl rfl)
theorem dX3_findRound_153 : decode cX3_findRound 153 = .ok (.iload 5, 2) := dk_21 5 (dk_at dksX3_findRound_6 11 rfl rfl)
theorem dX3_findRound_155 : decode cX3_findRound 155 = .ok (.aload_n 0, 1) := dk_42 (dk_at dksX3_findRound_6 13 rfl rfl)
theorem dX3_findRound_156 : decode cX3_findRound 156 = .ok (.getfield 73, 3) := dk_180 0 73 (dk_at dksX3_findRound_6 14 rfl rfl)
theorem dX3_findRound_159 : decode cX3_findRound 159 = .ok (.iconst 1, 1) := dk_4 (dk_at dksX3_findRound_6 17 rfl rfl)
theorem dX3_findRound_160 : decode cX3_findRound 160 = .ok (.iadd, 1) := dk_96 (dk_at dksX3_findRound_6 18 rfl rfl)
theorem dX3_findRound_161 : decode cX3_findRound 161 = .ok (.idiv, 1) := dk_108 (dk_at dksX3_findRound_6 19 rfl rfl)
theorem dX3_findRound_162 : decode cX3_findRound 162 = .ok (.istore 5, 2) := dk_54 5 (dk_at dksX3_findRound_6 20 rfl rfl)
theorem dX3_findRound_164 : decode cX3_findRound 164 = .ok (.aload_n 0, 1) := dk_42 (dk_at dksX3_findRound_6 22 rfl rfl)
theorem dX3_findRound_165 : decode cX3_findRound 165 = .ok (.getfield 70, 3) := dk_180 0 70 (dk_at dksX3_findRound_7 0 rfl rfl)
theorem dX3_findRound_168 : decode cX3_findRound 168 = .ok (.iload 7, 2) := dk_21 7 (dk_at dksX3_findRound_7 3 rfl rfl)
theorem dX3_findRound_170 : decode cX3_findRound 170 = .ok (.iload_n 3, 1) := dk_29 (dk_at dksX3_findRound_7 5 rfl rfl)
theorem dX3_findRound_171 : decode cX3_findRound 171 = .ok (.iload 5, 2) := dk_21 5 (dk_at dksX3_findRound_7 6 rfl rfl)
theorem dX3_findRound_173 : decode cX3_findRound 173 = .ok (.idiv, 1) := dk_108 (dk_at dksX3_findRound_7 8 rfl rfl)
theorem dX3_findRound_174 : decode cX3_findRound 174 = .ok (.aload_n 0, 1) := dk_42 (dk_at dksX3_findRound_7 9 rfl rfl)
theorem dX3_findRound_175 : decode cX3_findRound 175 = .ok (.getfield 73, 3) := dk_180 0 73 (dk_at dksX3_findRound_7 10 rfl rfl)
theorem dX3_findRound_178 : decode cX3_findRound 178 = .ok (.iconst 1, 1) := dk_4 (dk_at dksX3_findRound_7 13 rfl rfl)
theorem dX3_findRound_179 : decode cX3_findRound 179 = .ok (.iadd, 1) := dk_96 (dk_at dksX3_findRound_7 14 rfl rfl)
theorem dX3_findRound_180 : decode cX3_findRound 180 = .ok (.irem, 1) := dk_112 (dk_at dksX3_findRound_7 15 rfl rfl)
theorem dX3_findRound_181 : decode cX3_findRound 181 = .ok (.iconst 1, 1) := dk_4 (dk_at dksX3_findRound_7 16 rfl rfl)
theorem dX3_findRound_182 : decode cX3_findRound 182 = .ok (.isub, 1) := dk_100 (dk_at dksX3_findRound_7 17 rfl rfl)
theorem dX3_findRound_183 : decode cX3_findRound 183 = .ok (.iastore, 1) := dk_79 (dk_at dksX3_findRound_7 18 rfl rfl)
theorem dX3_findRound_184 : decode cX3_findRound 184 = .ok (.iinc 7 1, 3) := dk_132 7 1 (dk_at dksX3_findRound_7 19 rfl rfl)
theorem dX3_findRound_187 : decode cX3_findRound 187 = .ok (.goto (-40), 3) := dk_167 255 216 (dk_at dksX3_findRound_8 0 rfl rfl)
theorem dX3_findRound_190 : decode cX3_findRound 190 = .ok (.iinc 3 1, 3) := dk_132 3 1 (dk_at dksX3_findRound_8 3 rfl rfl)
theorem dX3_findRound_193 : decode cX3_findRound 193 = .ok (.goto (-167), 3) := dk_167 255 89 (dk_at dksX3_findRound_8 6 rfl rfl)
theorem dX3_findRound_196 : decode cX3_findRound 196 = .ok (.return_, 1) := dk_177 (dk_at dksX3_findRound_8 9 rfl rfl)
abbrev cX3_kept : ByteArray := prog_16_method_92_code
def yX3_kept : MethodName := ⟨RX3, "kept", "(II)I"⟩
def dkwX3_kept_3 : List UInt8 := [25, 4, 27, 182, 1, 63, 29, 100, 172]
abbrev dktX3_kept_3 : List UInt8 := dkwX3_kept_3 ++ []
def dkwX3_kept_2 : List UInt8 := [182, 0, 227, 27, 182, 1, 63, 62, 42, 182, 0, 227, 58, 4, 25, 4, 180, 0, 39, 28, 50, 7, 2, 79]
abbrev dktX3_kept_2 : List UInt8 := dkwX3_kept_2 ++ dktX3_kept_3
def dkwX3_kept_1 : List UInt8 := [172, 42, 180, 0, 39, 28, 50, 7, 46, 2, 160, 0, 13, 18, 252, 42, 16, 251, 182, 0, 91, 96, 172, 42]
abbrev dktX3_kept_1 : List UInt8 := dkwX3_kept_1 ++ dktX3_kept_2
def dkwX3_kept_0 : List UInt8 := [27, 184, 1, 43, 153, 0, 11, 42, 28, 182, 0, 127, 154, 0, 13, 18, 252, 42, 16, 254, 182, 0, 91, 96]
abbrev dktX3_kept_0 : List UInt8 := dkwX3_kept_0 ++ dktX3_kept_1
theorem dksX3_kept_0 : cX3_kept.data.toList.drop 0 = dktX3_kept_0 := by decide +kernel
theorem dksX3_kept_1 : cX3_kept.data.toList.drop 24 = dktX3_kept_1 := dk_seg dksX3_kept_0 24 rfl rfl
theorem dksX3_kept_2 : cX3_kept.data.toList.drop 48 = dktX3_kept_2 := dk_seg dksX3_kept_1 24 rfl rfl
theorem dksX3_kept_3 : cX3_kept.data.toList.drop 72 = dktX3_kept_3 := dk_seg dksX3_kept_2 24 rfl rfl
theorem dX3_kept_0 : decode cX3_kept 0 = .ok (.iload_n 1, 1) := dk_27 (dk_at dksX3_kept_0 0 rfl rfl)
theorem dX3_kept_1 : decode cX3_kept 1 = .ok (.invokestatic 299, 3) := dk_184 1 43 (dk_at dksX3_kept_0 1 rfl rfl)
theorem dX3_kept_4 : decode cX3_kept 4 = .ok (.ifCond .eq 11, 3) := dk_153 0 11 (dk_at dksX3_kept_0 4 rfl rfl)
theorem dX3_kept_7 : decode cX3_kept 7 = .ok (.aload_n 0, 1) := dk_42 (dk_at dksX3_kept_0 7 rfl rfl)
theorem dX3_kept_8 : decode cX3_kept 8 = .ok (.iload_n 2, 1) := dk_28 (dk_at dksX3_kept_0 8 rfl rfl)
theorem dX3_kept_9 : decode cX3_kept 9 = .ok (.invokevirtual 127, 3) := dk_182 0 127 (dk_at dksX3_kept_0 9 rfl rfl)
theorem dX3_kept_12 : decode cX3_kept 12 = .ok (.ifCond .ne 13, 3) := dk_154 0 13 (dk_at dksX3_kept_0 12 rfl rfl)
theorem dX3_kept_15 : decode cX3_kept 15 = .ok (.ldc 252, 2) := dk_18 252 (dk_at dksX3_kept_0 15 rfl rfl)
theorem dX3_kept_17 : decode cX3_kept 17 = .ok (.aload_n 0, 1) := dk_42 (dk_at dksX3_kept_0 17 rfl rfl)
theorem dX3_kept_18 : decode cX3_kept 18 = .ok (.bipush (-2), 2) := dk_16 254 (dk_at dksX3_kept_0 18 rfl rfl)
theorem dX3_kept_20 : decode cX3_kept 20 = .ok (.invokevirtual 91, 3) := dk_182 0 91 (dk_at dksX3_kept_0 20 rfl rfl)
theorem dX3_kept_23 : decode cX3_kept 23 = .ok (.iadd, 1) := dk_96 (dk_at dksX3_kept_0 23 rfl rfl)
theorem dX3_kept_24 : decode cX3_kept 24 = .ok (.ireturn, 1) := dk_172 (dk_at dksX3_kept_1 0 rfl rfl)
theorem dX3_kept_25 : decode cX3_kept 25 = .ok (.aload_n 0, 1) := dk_42 (dk_at dksX3_kept_1 1 rfl rfl)
theorem dX3_kept_26 : decode cX3_kept 26 = .ok (.getfield 39, 3) := dk_180 0 39 (dk_at dksX3_kept_1 2 rfl rfl)
theorem dX3_kept_29 : decode cX3_kept 29 = .ok (.iload_n 2, 1) := dk_28 (dk_at dksX3_kept_1 5 rfl rfl)
theorem dX3_kept_30 : decode cX3_kept 30 = .ok (.aaload, 1) := dk_50 (dk_at dksX3_kept_1 6 rfl rfl)
theorem dX3_kept_31 : decode cX3_kept 31 = .ok (.iconst 4, 1) := dk_7 (dk_at dksX3_kept_1 7 rfl rfl)
theorem dX3_kept_32 : decode cX3_kept 32 = .ok (.iaload, 1) := dk_46 (dk_at dksX3_kept_1 8 rfl rfl)
theorem dX3_kept_33 : decode cX3_kept 33 = .ok (.iconst (-1), 1) := dk_2 (dk_at dksX3_kept_1 9 rfl rfl)
theorem dX3_kept_34 : decode cX3_kept 34 = .ok (.if_icmp .ne 13, 3) := dk_160 0 13 (dk_at dksX3_kept_1 10 rfl rfl)
theorem dX3_kept_37 : decode cX3_kept 37 = .ok (.ldc 252, 2) := dk_18 252 (dk_at dksX3_kept_1 13 rfl rfl)
theorem dX3_kept_39 : decode cX3_kept 39 = .ok (.aload_n 0, 1) := dk_42 (dk_at dksX3_kept_1 15 rfl rfl)
theorem dX3_kept_40 : decode cX3_kept 40 = .ok (.bipush (-5), 2) := dk_16 251 (dk_at dksX3_kept_1 16 rfl rfl)
theorem dX3_kept_42 : decode cX3_kept 42 = .ok (.invokevirtual 91, 3) := dk_182 0 91 (dk_at dksX3_kept_1 18 rfl rfl)
theorem dX3_kept_45 : decode cX3_kept 45 = .ok (.iadd, 1) := dk_96 (dk_at dksX3_kept_1 21 rfl rfl)
theorem dX3_kept_46 : decode cX3_kept 46 = .ok (.ireturn, 1) := dk_172 (dk_at dksX3_kept_1 22 rfl rfl)
theorem dX3_kept_47 : decode cX3_kept 47 = .ok (.aload_n 0, 1) := dk_42 (dk_at dksX3_kept_1 23 rfl rfl)
theorem dX3_kept_48 : decode cX3_kept 48 = .ok (.invokevirtual 227, 3) := dk_182 0 227 (dk_at dksX3_kept_2 0 rfl rfl)
theorem dX3_kept_51 : decode cX3_kept 51 = .ok (.iload_n 1, 1) := dk_27 (dk_at dksX3_kept_2 3 rfl rfl)
theorem dX3_kept_52 : decode cX3_kept 52 = .ok (.invokevirtual 319, 3) := dk_182 1 63 (dk_at dksX3_kept_2 4 rfl rfl)
theorem dX3_kept_55 : decode cX3_kept 55 = .ok (.istore_n 3, 1) := dk_62 (dk_at dksX3_kept_2 7 rfl rfl)
theorem dX3_kept_56 : decode cX3_kept 56 = .ok (.aload_n 0, 1) := dk_42 (dk_at dksX3_kept_2 8 rfl rfl)
theorem dX3_kept_57 : decode cX3_kept 57 = .ok (.invokevirtual 227, 3) := dk_182 0 227 (dk_at dksX3_kept_2 9 rfl rfl)
theorem dX3_kept_60 : decode cX3_kept 60 = .ok (.astore 4, 2) := dk_58 4 (dk_at dksX3_kept_2 12 rfl rfl)
theorem dX3_kept_62 : decode cX3_kept 62 = .ok (.aload 4, 2) := dk_25 4 (dk_at dksX3_kept_2 14 rfl rfl)
theorem dX3_kept_64 : decode cX3_kept 64 = .ok (.getfield 39, 3) := dk_180 0 39 (dk_at dksX3_kept_2 16 rfl rfl)
theorem dX3_kept_67 : decode cX3_kept 67 = .ok (.iload_n 2, 1) := dk_28 (dk_at dksX3_kept_2 19 rfl rfl)
theorem dX3_kept_68 : decode cX3_kept 68 = .ok (.aaload, 1) := dk_50 (dk_at dksX3_kept_2 20 rfl rfl)
theorem dX3_kept_69 : decode cX3_kept 69 = .ok (.iconst 4, 1) := dk_7 (dk_at dksX3_kept_2 21 rfl rfl)
theorem dX3_kept_70 : decode cX3_kept 70 = .ok (.iconst (-1), 1) := dk_2 (dk_at dksX3_kept_2 22 rfl rfl)
theorem dX3_kept_71 : decode cX3_kept 71 = .ok (.iastore, 1) := dk_79 (dk_at dksX3_kept_2 23 rfl rfl)
theorem dX3_kept_72 : decode cX3_kept 72 = .ok (.aload 4, 2) := dk_25 4 (dk_at dksX3_kept_3 0 rfl rfl)
theorem dX3_kept_74 : decode cX3_kept 74 = .ok (.iload_n 1, 1) := dk_27 (dk_at dksX3_kept_3 2 rfl rfl)
theorem dX3_kept_75 : decode cX3_kept 75 = .ok (.invokevirtual 319, 3) := dk_182 1 63 (dk_at dksX3_kept_3 3 rfl rfl)
theorem dX3_kept_78 : decode cX3_kept 78 = .ok (.iload_n 3, 1) := dk_29 (dk_at dksX3_kept_3 6 rfl rfl)
theorem dX3_kept_79 : decode cX3_kept 79 = .ok (.isub, 1) := dk_100 (dk_at dksX3_kept_3 7 rfl rfl)
theorem dX3_kept_80 : decode cX3_kept 80 = .ok (.ireturn, 1) := dk_172 (dk_at dksX3_kept_3 8 rfl rfl)
abbrev cX3_ownJoy : ByteArray := prog_16_method_91_code
def yX3_ownJoy : MethodName := ⟨RX3, "ownJoy", "(I)I"⟩
def dkwX3_ownJoy_2 : List UInt8 := [167, 0, 4, 3, 96, 61, 132, 4, 1, 167, 255, 217, 132, 3, 1, 167, 255, 199, 28, 172]
abbrev dktX3_ownJoy_2 : List UInt8 := dkwX3_ownJoy_2 ++ []
def dkwX3_ownJoy_1 : List UInt8 := [162, 0, 36, 28, 42, 180, 0, 42, 21, 4, 50, 3, 46, 6, 160, 0, 13, 42, 180, 0, 64, 21, 4, 46]
abbrev dktX3_ownJoy_1 : List UInt8 := dkwX3_ownJoy_1 ++ dktX3_ownJoy_2
def dkwX3_ownJoy_0 : List UInt8 := [3, 61, 3, 62, 29, 27, 162, 0, 58, 42, 182, 1, 40, 3, 54, 4, 21, 4, 42, 180, 0, 80]
abbrev dktX3_ownJoy_0 : List UInt8 := dkwX3_ownJoy_0 ++ dktX3_ownJoy_1
theorem dksX3_ownJoy_0 : cX3_ownJoy.data.toList.drop 0 = dktX3_ownJoy_0 := by decide +kernel
theorem dksX3_ownJoy_1 : cX3_ownJoy.data.toList.drop 22 = dktX3_ownJoy_1 := dk_seg dksX3_ownJoy_0 22 rfl rfl
theorem dksX3_ownJoy_2 : cX3_ownJoy.data.toList.drop 46 = dktX3_ownJoy_2 := dk_seg dksX3_ownJoy_1 24 rfl rfl
theorem dX3_ownJoy_0 : decode cX3_ownJoy 0 = .ok (.iconst 0, 1) := dk_3 (dk_at dksX3_ownJoy_0 0 rfl rfl)
theorem dX3_ownJoy_1 : decode cX3_ownJoy 1 = .ok (.istore_n 2, 1) := dk_61 (dk_at dksX3_ownJoy_0 1 rfl rfl)
theorem dX3_ownJoy_2 : decode cX3_ownJoy 2 = .ok (.iconst 0, 1) := dk_3 (dk_at dksX3_ownJoy_0 2 rfl rfl)
theorem dX3_ownJoy_3 : decode cX3_ownJoy 3 = .ok (.istore_n 3, 1) := dk_62 (dk_at dksX3_ownJoy_0 3 rfl rfl)
theorem dX3_ownJoy_4 : decode cX3_ownJoy 4 = .ok (.iload_n 3, 1) := dk_29 (dk_at dksX3_ownJoy_0 4 rfl rfl)
theorem dX3_ownJoy_5 : decode cX3_ownJoy 5 = .ok (.iload_n 1, 1) := dk_27 (dk_at dksX3_ownJoy_0 5 rfl rfl)
theorem dX3_ownJoy_6 : decode cX3_ownJoy 6 = .ok (.if_icmp .ge 58, 3) := dk_162 0 58 (dk_at dksX3_ownJoy_0 6 rfl rfl)
theorem dX3_ownJoy_9 : decode cX3_ownJoy 9 = .ok (.aload_n 0, 1) := dk_42 (dk_at dksX3_ownJoy_0 9 rfl rfl)
theorem dX3_ownJoy_10 : decode cX3_ownJoy 10 = .ok (.invokevirtual 296, 3) := dk_182 1 40 (dk_at dksX3_ownJoy_0 10 rfl rfl)
theorem dX3_ownJoy_13 : decode cX3_ownJoy 13 = .ok (.iconst 0, 1) := dk_3 (dk_at dksX3_ownJoy_0 13 rfl rfl)
theorem dX3_ownJoy_14 : decode cX3_ownJoy 14 = .ok (.istore 4, 2) := dk_54 4 (dk_at dksX3_ownJoy_0 14 rfl rfl)
theorem dX3_ownJoy_16 : decode cX3_ownJoy 16 = .ok (.iload 4, 2) := dk_21 4 (dk_at dksX3_ownJoy_0 16 rfl rfl)
theorem dX3_ownJoy_18 : decode cX3_ownJoy 18 = .ok (.aload_n 0, 1) := dk_42 (dk_at dksX3_ownJoy_0 18 rfl rfl)
theorem dX3_ownJoy_19 : decode cX3_ownJoy 19 = .ok (.getfield 80, 3) := dk_180 0 80 (dk_at dksX3_ownJoy_0 19 rfl rfl)
theorem dX3_ownJoy_22 : decode cX3_ownJoy 22 = .ok (.if_icmp .ge 36, 3) := dk_162 0 36 (dk_at dksX3_ownJoy_1 0 rfl rfl)
theorem dX3_ownJoy_25 : decode cX3_ownJoy 25 = .ok (.iload_n 2, 1) := dk_28 (dk_at dksX3_ownJoy_1 3 rfl rfl)
theorem dX3_ownJoy_26 : decode cX3_ownJoy 26 = .ok (.aload_n 0, 1) := dk_42 (dk_at dksX3_ownJoy_1 4 rfl rfl)
theorem dX3_ownJoy_27 : decode cX3_ownJoy 27 = .ok (.getfield 42, 3) := dk_180 0 42 (dk_at dksX3_ownJoy_1 5 rfl rfl)
theorem dX3_ownJoy_30 : decode cX3_ownJoy 30 = .ok (.iload 4, 2) := dk_21 4 (dk_at dksX3_ownJoy_1 8 rfl rfl)
theorem dX3_ownJoy_32 : decode cX3_ownJoy 32 = .ok (.aaload, 1) := dk_50 (dk_at dksX3_ownJoy_1 10 rfl rfl)
theorem dX3_ownJoy_33 : decode cX3_ownJoy 33 = .ok (.iconst 0, 1) := dk_3 (dk_at dksX3_ownJoy_1 11 rfl rfl)
theorem dX3_ownJoy_34 : decode cX3_ownJoy 34 = .ok (.iaload, 1) := dk_46 (dk_at dksX3_ownJoy_1 12 rfl rfl)
theorem dX3_ownJoy_35 : decode cX3_ownJoy 35 = .ok (.iconst 3, 1) := dk_6 (dk_at dksX3_ownJoy_1 13 rfl rfl)
theorem dX3_ownJoy_36 : decode cX3_ownJoy 36 = .ok (.if_icmp .ne 13, 3) := dk_160 0 13 (dk_at dksX3_ownJoy_1 14 rfl rfl)
theorem dX3_ownJoy_39 : decode cX3_ownJoy 39 = .ok (.aload_n 0, 1) := dk_42 (dk_at dksX3_ownJoy_1 17 rfl rfl)
theorem dX3_ownJoy_40 : decode cX3_ownJoy 40 = .ok (.getfield 64, 3) := dk_180 0 64 (dk_at dksX3_ownJoy_1 18 rfl rfl)
theorem dX3_ownJoy_43 : decode cX3_ownJoy 43 = .ok (.iload 4, 2) := dk_21 4 (dk_at dksX3_ownJoy_1 21 rfl rfl)
theorem dX3_ownJoy_45 : decode cX3_ownJoy 45 = .ok (.iaload, 1) := dk_46 (dk_at dksX3_ownJoy_1 23 rfl rfl)
theorem dX3_ownJoy_46 : decode cX3_ownJoy 46 = .ok (.goto 4, 3) := dk_167 0 4 (dk_at dksX3_ownJoy_2 0 rfl rfl)
theorem dX3_ownJoy_49 : decode cX3_ownJoy 49 = .ok (.iconst 0, 1) := dk_3 (dk_at dksX3_ownJoy_2 3 rfl rfl)
theorem dX3_ownJoy_50 : decode cX3_ownJoy 50 = .ok (.iadd, 1) := dk_96 (dk_at dksX3_ownJoy_2 4 rfl rfl)
theorem dX3_ownJoy_51 : decode cX3_ownJoy 51 = .ok (.istore_n 2, 1) := dk_61 (dk_at dksX3_ownJoy_2 5 rfl rfl)
theorem dX3_ownJoy_52 : decode cX3_ownJoy 52 = .ok (.iinc 4 1, 3) := dk_132 4 1 (dk_at dksX3_ownJoy_2 6 rfl rfl)
theorem dX3_ownJoy_55 : decode cX3_ownJoy 55 = .ok (.goto (-39), 3) := dk_167 255 217 (dk_at dksX3_ownJoy_2 9 rfl rfl)
theorem dX3_ownJoy_58 : decode cX3_ownJoy 58 = .ok (.iinc 3 1, 3) := dk_132 3 1 (dk_at dksX3_ownJoy_2 12 rfl rfl)
theorem dX3_ownJoy_61 : decode cX3_ownJoy 61 = .ok (.goto (-57), 3) := dk_167 255 199 (dk_at dksX3_ownJoy_2 15 rfl rfl)
theorem dX3_ownJoy_64 : decode cX3_ownJoy 64 = .ok (.iload_n 2, 1) := dk_28 (dk_at dksX3_ownJoy_2 18 rfl rfl)
theorem dX3_ownJoy_65 : decode cX3_ownJoy 65 = .ok (.ireturn, 1) := dk_172 (dk_at dksX3_ownJoy_2 19 rfl rfl)
abbrev cX3_called : ByteArray := prog_16_method_93_code
def yX3_called : MethodName := ⟨RX3, "called", "(III)I"⟩
def dkwX3_called_3 : List UInt8 := [21, 4, 100, 172]
abbrev dktX3_called_3 : List UInt8 := dkwX3_called_3 ++ []
def dkwX3_called_2 : List UInt8 := [42, 182, 0, 227, 58, 5, 25, 5, 180, 0, 39, 28, 50, 7, 29, 79, 25, 5, 27, 2, 182, 1, 46]
abbrev dktX3_called_2 : List UInt8 := dkwX3_called_2 ++ dktX3_called_3
def dkwX3_called_1 : List UInt8 := [154, 0, 13, 18, 252, 42, 16, 254, 182, 0, 91, 96, 172, 42, 182, 0, 227, 27, 2, 182, 1, 46, 54, 4]
abbrev dktX3_called_1 : List UInt8 := dkwX3_called_1 ++ dktX3_called_2
def dkwX3_called_0 : List UInt8 := [27, 184, 1, 43, 153, 0, 23, 42, 28, 182, 0, 127, 153, 0, 15, 29, 133, 9, 20, 0, 115, 184, 0, 76]
abbrev dktX3_called_0 : List UInt8 := dkwX3_called_0 ++ dktX3_called_1
theorem dksX3_called_0 : cX3_called.data.toList.drop 0 = dktX3_called_0 := by decide +kernel
theorem dksX3_called_1 : cX3_called.data.toList.drop 24 = dktX3_called_1 := dk_seg dksX3_called_0 24 rfl rfl
theorem dksX3_called_2 : cX3_called.data.toList.drop 48 = dktX3_called_2 := dk_seg dksX3_called_1 24 rfl rfl
theorem dksX3_called_3 : cX3_called.data.toList.drop 71 = dktX3_called_3 := dk_seg dksX3_called_2 23 rfl rfl
theorem dX3_called_0 : decode cX3_called 0 = .ok (.iload_n 1, 1) := dk_27 (dk_at dksX3_called_0 0 rfl rfl)
theorem dX3_called_1 : decode cX3_called 1 = .ok (.invokestatic 299, 3) := dk_184 1 43 (dk_at dksX3_called_0 1 rfl rfl)
theorem dX3_called_4 : decode cX3_called 4 = .ok (.ifCond .eq 23, 3) := dk_153 0 23 (dk_at dksX3_called_0 4 rfl rfl)
theorem dX3_called_7 : decode cX3_called 7 = .ok (.aload_n 0, 1) := dk_42 (dk_at dksX3_called_0 7 rfl rfl)
theorem dX3_called_8 : decode cX3_called 8 = .ok (.iload_n 2, 1) := dk_28 (dk_at dksX3_called_0 8 rfl rfl)
theorem dX3_called_9 : decode cX3_called 9 = .ok (.invokevirtual 127, 3) := dk_182 0 127 (dk_at dksX3_called_0 9 rfl rfl)
theorem dX3_called_12 : decode cX3_called 12 = .ok (.ifCond .eq 15, 3) := dk_153 0 15 (dk_at dksX3_called_0 12 rfl rfl)
theorem dX3_called_15 : decode cX3_called 15 = .ok (.iload_n 3, 1) := dk_29 (dk_at dksX3_called_0 15 rfl rfl)
theorem dX3_called_16 : decode cX3_called 16 = .ok (.i2l, 1) := dk_133 (dk_at dksX3_called_0 16 rfl rfl)
theorem dX3_called_17 : decode cX3_called 17 = .ok (.lconst 0, 1) := dk_9 (dk_at dksX3_called_0 17 rfl rfl)
theorem dX3_called_18 : decode cX3_called 18 = .ok (.ldc2_w 115, 3) := dk_20 0 115 (dk_at dksX3_called_0 18 rfl rfl)
theorem dX3_called_21 : decode cX3_called 21 = .ok (.invokestatic 76, 3) := dk_184 0 76 (dk_at dksX3_called_0 21 rfl rfl)
theorem dX3_called_24 : decode cX3_called 24 = .ok (.ifCond .ne 13, 3) := dk_154 0 13 (dk_at dksX3_called_1 0 rfl rfl)
theorem dX3_called_27 : decode cX3_called 27 = .ok (.ldc 252, 2) := dk_18 252 (dk_at dksX3_called_1 3 rfl rfl)
theorem dX3_called_29 : decode cX3_called 29 = .ok (.aload_n 0, 1) := dk_42 (dk_at dksX3_called_1 5 rfl rfl)
theorem dX3_called_30 : decode cX3_called 30 = .ok (.bipush (-2), 2) := dk_16 254 (dk_at dksX3_called_1 6 rfl rfl)
theorem dX3_called_32 : decode cX3_called 32 = .ok (.invokevirtual 91, 3) := dk_182 0 91 (dk_at dksX3_called_1 8 rfl rfl)
theorem dX3_called_35 : decode cX3_called 35 = .ok (.iadd, 1) := dk_96 (dk_at dksX3_called_1 11 rfl rfl)
theorem dX3_called_36 : decode cX3_called 36 = .ok (.ireturn, 1) := dk_172 (dk_at dksX3_called_1 12 rfl rfl)
theorem dX3_called_37 : decode cX3_called 37 = .ok (.aload_n 0, 1) := dk_42 (dk_at dksX3_called_1 13 rfl rfl)
theorem dX3_called_38 : decode cX3_called 38 = .ok (.invokevirtual 227, 3) := dk_182 0 227 (dk_at dksX3_called_1 14 rfl rfl)
theorem dX3_called_41 : decode cX3_called 41 = .ok (.iload_n 1, 1) := dk_27 (dk_at dksX3_called_1 17 rfl rfl)
theorem dX3_called_42 : decode cX3_called 42 = .ok (.iconst (-1), 1) := dk_2 (dk_at dksX3_called_1 18 rfl rfl)
theorem dX3_called_43 : decode cX3_called 43 = .ok (.invokevirtual 302, 3) := dk_182 1 46 (dk_at dksX3_called_1 19 rfl rfl)
theorem dX3_called_46 : decode cX3_called 46 = .ok (.istore 4, 2) := dk_54 4 (dk_at dksX3_called_1 22 rfl rfl)
theorem dX3_called_48 : decode cX3_called 48 = .ok (.aload_n 0, 1) := dk_42 (dk_at dksX3_called_2 0 rfl rfl)
theorem dX3_called_49 : decode cX3_called 49 = .ok (.invokevirtual 227, 3) := dk_182 0 227 (dk_at dksX3_called_2 1 rfl rfl)
theorem dX3_called_52 : decode cX3_called 52 = .ok (.astore 5, 2) := dk_58 5 (dk_at dksX3_called_2 4 rfl rfl)
theorem dX3_called_54 : decode cX3_called 54 = .ok (.aload 5, 2) := dk_25 5 (dk_at dksX3_called_2 6 rfl rfl)
theorem dX3_called_56 : decode cX3_called 56 = .ok (.getfield 39, 3) := dk_180 0 39 (dk_at dksX3_called_2 8 rfl rfl)
theorem dX3_called_59 : decode cX3_called 59 = .ok (.iload_n 2, 1) := dk_28 (dk_at dksX3_called_2 11 rfl rfl)
theorem dX3_called_60 : decode cX3_called 60 = .ok (.aaload, 1) := dk_50 (dk_at dksX3_called_2 12 rfl rfl)
theorem dX3_called_61 : decode cX3_called 61 = .ok (.iconst 4, 1) := dk_7 (dk_at dksX3_called_2 13 rfl rfl)
theorem dX3_called_62 : decode cX3_called 62 = .ok (.iload_n 3, 1) := dk_29 (dk_at dksX3_called_2 14 rfl rfl)
theorem dX3_called_63 : decode cX3_called 63 = .ok (.iastore, 1) := dk_79 (dk_at dksX3_called_2 15 rfl rfl)
theorem dX3_called_64 : decode cX3_called 64 = .ok (.aload 5, 2) := dk_25 5 (dk_at dksX3_called_2 16 rfl rfl)
theorem dX3_called_66 : decode cX3_called 66 = .ok (.iload_n 1, 1) := dk_27 (dk_at dksX3_called_2 18 rfl rfl)
theorem dX3_called_67 : decode cX3_called 67 = .ok (.iconst (-1), 1) := dk_2 (dk_at dksX3_called_2 19 rfl rfl)
theorem dX3_called_68 : decode cX3_called 68 = .ok (.invokevirtual 302, 3) := dk_182 1 46 (dk_at dksX3_called_2 20 rfl rfl)
theorem dX3_called_71 : decode cX3_called 71 = .ok (.iload 4, 2) := dk_21 4 (dk_at dksX3_called_3 0 rfl rfl)
theorem dX3_called_73 : decode cX3_called 73 = .ok (.isub, 1) := dk_100 (dk_at dksX3_called_3 2 rfl rfl)
theorem dX3_called_74 : decode cX3_called 74 = .ok (.ireturn, 1) := dk_172 (dk_at dksX3_called_3 3 rfl rfl)
abbrev cX3_spoilt : ByteArray := prog_16_method_94_code
def yX3_spoilt : MethodName := ⟨RX3, "spoilt", "(II)I"⟩
def dkwX3_spoilt_2 : List UInt8 := [180, 0, 39, 27, 50, 3, 46, 28, 162, 0, 6, 21, 4, 172, 132, 4, 1, 167, 255, 227, 2, 172]
abbrev dktX3_spoilt_2 : List UInt8 := dkwX3_spoilt_2 ++ []
def dkwX3_spoilt_1 : List UInt8 := [182, 0, 91, 172, 42, 182, 0, 227, 78, 4, 54, 4, 21, 4, 16, 30, 163, 0, 28, 45, 182, 1, 40, 45]
abbrev dktX3_spoilt_1 : List UInt8 := dkwX3_spoilt_1 ++ dktX3_spoilt_2
def dkwX3_spoilt_0 : List UInt8 := [42, 27, 182, 0, 127, 153, 0, 15, 28, 133, 9, 20, 0, 115, 184, 0, 76, 154, 0, 10, 42, 16, 254]
abbrev dktX3_spoilt_0 : List UInt8 := dkwX3_spoilt_0 ++ dktX3_spoilt_1
theorem dksX3_spoilt_0 : cX3_spoilt.data.toList.drop 0 = dktX3_spoilt_0 := by decide +kernel
theorem dksX3_spoilt_1 : cX3_spoilt.data.toList.drop 23 = dktX3_spoilt_1 := dk_seg dksX3_spoilt_0 23 rfl rfl
theorem dksX3_spoilt_2 : cX3_spoilt.data.toList.drop 47 = dktX3_spoilt_2 := dk_seg dksX3_spoilt_1 24 rfl rfl
theorem dX3_spoilt_0 : decode cX3_spoilt 0 = .ok (.aload_n 0, 1) := dk_42 (dk_at dksX3_spoilt_0 0 rfl rfl)
theorem dX3_spoilt_1 : decode cX3_spoilt 1 = .ok (.iload_n 1, 1) := dk_27 (dk_at dksX3_spoilt_0 1 rfl rfl)
theorem dX3_spoilt_2 : decode cX3_spoilt 2 = .ok (.invokevirtual 127, 3) := dk_182 0 127 (dk_at dksX3_spoilt_0 2 rfl rfl)
theorem dX3_spoilt_5 : decode cX3_spoilt 5 = .ok (.ifCond .eq 15, 3) := dk_153 0 15 (dk_at dksX3_spoilt_0 5 rfl rfl)
theorem dX3_spoilt_8 : decode cX3_spoilt 8 = .ok (.iload_n 2, 1) := dk_28 (dk_at dksX3_spoilt_0 8 rfl rfl)
theorem dX3_spoilt_9 : decode cX3_spoilt 9 = .ok (.i2l, 1) := dk_133 (dk_at dksX3_spoilt_0 9 rfl rfl)
theorem dX3_spoilt_10 : decode cX3_spoilt 10 = .ok (.lconst 0, 1) := dk_9 (dk_at dksX3_spoilt_0 10 rfl rfl)
theorem dX3_spoilt_11 : decode cX3_spoilt 11 = .ok (.ldc2_w 115, 3) := dk_20 0 115 (dk_at dksX3_spoilt_0 11 rfl rfl)
theorem dX3_spoilt_14 : decode cX3_spoilt 14 = .ok (.invokestatic 76, 3) := dk_184 0 76 (dk_at dksX3_spoilt_0 14 rfl rfl)
theorem dX3_spoilt_17 : decode cX3_spoilt 17 = .ok (.ifCond .ne 10, 3) := dk_154 0 10 (dk_at dksX3_spoilt_0 17 rfl rfl)
theorem dX3_spoilt_20 : decode cX3_spoilt 20 = .ok (.aload_n 0, 1) := dk_42 (dk_at dksX3_spoilt_0 20 rfl rfl)
theorem dX3_spoilt_21 : decode cX3_spoilt 21 = .ok (.bipush (-2), 2) := dk_16 254 (dk_at dksX3_spoilt_0 21 rfl rfl)
theorem dX3_spoilt_23 : decode cX3_spoilt 23 = .ok (.invokevirtual 91, 3) := dk_182 0 91 (dk_at dksX3_spoilt_1 0 rfl rfl)
theorem dX3_spoilt_26 : decode cX3_spoilt 26 = .ok (.ireturn, 1) := dk_172 (dk_at dksX3_spoilt_1 3 rfl rfl)
theorem dX3_spoilt_27 : decode cX3_spoilt 27 = .ok (.aload_n 0, 1) := dk_42 (dk_at dksX3_spoilt_1 4 rfl rfl)
theorem dX3_spoilt_28 : decode cX3_spoilt 28 = .ok (.invokevirtual 227, 3) := dk_182 0 227 (dk_at dksX3_spoilt_1 5 rfl rfl)
theorem dX3_spoilt_31 : decode cX3_spoilt 31 = .ok (.astore_n 3, 1) := dk_78 (dk_at dksX3_spoilt_1 8 rfl rfl)
theorem dX3_spoilt_32 : decode cX3_spoilt 32 = .ok (.iconst 1, 1) := dk_4 (dk_at dksX3_spoilt_1 9 rfl rfl)
theorem dX3_spoilt_33 : decode cX3_spoilt 33 = .ok (.istore 4, 2) := dk_54 4 (dk_at dksX3_spoilt_1 10 rfl rfl)
theorem dX3_spoilt_35 : decode cX3_spoilt 35 = .ok (.iload 4, 2) := dk_21 4 (dk_at dksX3_spoilt_1 12 rfl rfl)
theorem dX3_spoilt_37 : decode cX3_spoilt 37 = .ok (.bipush 30, 2) := dk_16 30 (dk_at dksX3_spoilt_1 14 rfl rfl)
theorem dX3_spoilt_39 : decode cX3_spoilt 39 = .ok (.if_icmp .gt 28, 3) := dk_163 0 28 (dk_at dksX3_spoilt_1 16 rfl rfl)
theorem dX3_spoilt_42 : decode cX3_spoilt 42 = .ok (.aload_n 3, 1) := dk_45 (dk_at dksX3_spoilt_1 19 rfl rfl)
theorem dX3_spoilt_43 : decode cX3_spoilt 43 = .ok (.invokevirtual 296, 3) := dk_182 1 40 (dk_at dksX3_spoilt_1 20 rfl rfl)
theorem dX3_spoilt_46 : decode cX3_spoilt 46 = .ok (.aload_n 3, 1) := dk_45 (dk_at dksX3_spoilt_1 23 rfl rfl)
theorem dX3_spoilt_47 : decode cX3_spoilt 47 = .ok (.getfield 39, 3) := dk_180 0 39 (dk_at dksX3_spoilt_2 0 rfl rfl)
theorem dX3_spoilt_50 : decode cX3_spoilt 50 = .ok (.iload_n 1, 1) := dk_27 (dk_at dksX3_spoilt_2 3 rfl rfl)
theorem dX3_spoilt_51 : decode cX3_spoilt 51 = .ok (.aaload, 1) := dk_50 (dk_at dksX3_spoilt_2 4 rfl rfl)
theorem dX3_spoilt_52 : decode cX3_spoilt 52 = .ok (.iconst 0, 1) := dk_3 (dk_at dksX3_spoilt_2 5 rfl rfl)
theorem dX3_spoilt_53 : decode cX3_spoilt 53 = .ok (.iaload, 1) := dk_46 (dk_at dksX3_spoilt_2 6 rfl rfl)
theorem dX3_spoilt_54 : decode cX3_spoilt 54 = .ok (.iload_n 2, 1) := dk_28 (dk_at dksX3_spoilt_2 7 rfl rfl)
theorem dX3_spoilt_55 : decode cX3_spoilt 55 = .ok (.if_icmp .ge 6, 3) := dk_162 0 6 (dk_at dksX3_spoilt_2 8 rfl rfl)
theorem dX3_spoilt_58 : decode cX3_spoilt 58 = .ok (.iload 4, 2) := dk_21 4 (dk_at dksX3_spoilt_2 11 rfl rfl)
theorem dX3_spoilt_60 : decode cX3_spoilt 60 = .ok (.ireturn, 1) := dk_172 (dk_at dksX3_spoilt_2 13 rfl rfl)
theorem dX3_spoilt_61 : decode cX3_spoilt 61 = .ok (.iinc 4 1, 3) := dk_132 4 1 (dk_at dksX3_spoilt_2 14 rfl rfl)
theorem dX3_spoilt_64 : decode cX3_spoilt 64 = .ok (.goto (-29), 3) := dk_167 255 227 (dk_at dksX3_spoilt_2 17 rfl rfl)
theorem dX3_spoilt_67 : decode cX3_spoilt 67 = .ok (.iconst (-1), 1) := dk_2 (dk_at dksX3_spoilt_2 20 rfl rfl)
theorem dX3_spoilt_68 : decode cX3_spoilt 68 = .ok (.ireturn, 1) := dk_172 (dk_at dksX3_spoilt_2 21 rfl rfl)
abbrev cX3_bears : ByteArray := prog_16_method_95_code
def yX3_bears : MethodName := ⟨RX3, "bears", "(IIII)I"⟩
def dkwX3_bears_5 : List UInt8 := [153, 0, 6, 21, 5, 172, 132, 5, 255, 167, 255, 175, 2, 172]
abbrev dktX3_bears_5 : List UInt8 := dkwX3_bears_5 ++ []
def dkwX3_bears_4 : List UInt8 := [50, 3, 46, 21, 4, 161, 0, 7, 4, 167, 0, 4, 3, 126, 54, 7, 132, 8, 1, 167, 255, 218, 21, 7]
abbrev dktX3_bears_4 : List UInt8 := dkwX3_bears_4 ++ dktX3_bears_5
def dkwX3_bears_3 : List UInt8 := [54, 7, 3, 54, 8, 21, 8, 29, 162, 0, 38, 25, 6, 182, 1, 40, 21, 7, 25, 6, 180, 0, 39, 28]
abbrev dktX3_bears_3 : List UInt8 := dkwX3_bears_3 ++ dktX3_bears_4
def dkwX3_bears_2 : List UInt8 := [21, 5, 4, 161, 0, 81, 42, 182, 0, 227, 58, 6, 25, 6, 180, 0, 42, 27, 50, 4, 21, 5, 79, 4]
abbrev dktX3_bears_2 : List UInt8 := dkwX3_bears_2 ++ dktX3_bears_3
def dkwX3_bears_1 : List UInt8 := [21, 4, 133, 9, 20, 0, 115, 184, 0, 76, 154, 0, 10, 42, 16, 254, 182, 0, 91, 172, 16, 30, 54, 5]
abbrev dktX3_bears_1 : List UInt8 := dkwX3_bears_1 ++ dktX3_bears_2
def dkwX3_bears_0 : List UInt8 := [42, 27, 182, 0, 102, 153, 0, 31, 42, 28, 182, 0, 127, 153, 0, 23, 29, 184, 1, 43, 153, 0, 16]
abbrev dktX3_bears_0 : List UInt8 := dkwX3_bears_0 ++ dktX3_bears_1
theorem dksX3_bears_0 : cX3_bears.data.toList.drop 0 = dktX3_bears_0 := by decide +kernel
theorem dksX3_bears_1 : cX3_bears.data.toList.drop 23 = dktX3_bears_1 := dk_seg dksX3_bears_0 23 rfl rfl
theorem dksX3_bears_2 : cX3_bears.data.toList.drop 47 = dktX3_bears_2 := dk_seg dksX3_bears_1 24 rfl rfl
theorem dksX3_bears_3 : cX3_bears.data.toList.drop 71 = dktX3_bears_3 := dk_seg dksX3_bears_2 24 rfl rfl
theorem dksX3_bears_4 : cX3_bears.data.toList.drop 95 = dktX3_bears_4 := dk_seg dksX3_bears_3 24 rfl rfl
theorem dksX3_bears_5 : cX3_bears.data.toList.drop 119 = dktX3_bears_5 := dk_seg dksX3_bears_4 24 rfl rfl
theorem dX3_bears_0 : decode cX3_bears 0 = .ok (.aload_n 0, 1) := dk_42 (dk_at dksX3_bears_0 0 rfl rfl)
theorem dX3_bears_1 : decode cX3_bears 1 = .ok (.iload_n 1, 1) := dk_27 (dk_at dksX3_bears_0 1 rfl rfl)
theorem dX3_bears_2 : decode cX3_bears 2 = .ok (.invokevirtual 102, 3) := dk_182 0 102 (dk_at dksX3_bears_0 2 rfl rfl)
theorem dX3_bears_5 : decode cX3_bears 5 = .ok (.ifCond .eq 31, 3) := dk_153 0 31 (dk_at dksX3_bears_0 5 rfl rfl)
theorem dX3_bears_8 : decode cX3_bears 8 = .ok (.aload_n 0, 1) := dk_42 (dk_at dksX3_bears_0 8 rfl rfl)
theorem dX3_bears_9 : decode cX3_bears 9 = .ok (.iload_n 2, 1) := dk_28 (dk_at dksX3_bears_0 9 rfl rfl)
theorem dX3_bears_10 : decode cX3_bears 10 = .ok (.invokevirtual 127, 3) := dk_182 0 127 (dk_at dksX3_bears_0 10 rfl rfl)
theorem dX3_bears_13 : decode cX3_bears 13 = .ok (.ifCond .eq 23, 3) := dk_153 0 23 (dk_at dksX3_bears_0 13 rfl rfl)
theorem dX3_bears_16 : decode cX3_bears 16 = .ok (.iload_n 3, 1) := dk_29 (dk_at dksX3_bears_0 16 rfl rfl)
theorem dX3_bears_17 : decode cX3_bears 17 = .ok (.invokestatic 299, 3) := dk_184 1 43 (dk_at dksX3_bears_0 17 rfl rfl)
theorem dX3_bears_20 : decode cX3_bears 20 = .ok (.ifCond .eq 16, 3) := dk_153 0 16 (dk_at dksX3_bears_0 20 rfl rfl)
theorem dX3_bears_23 : decode cX3_bears 23 = .ok (.iload 4, 2) := dk_21 4 (dk_at dksX3_bears_1 0 rfl rfl)
theorem dX3_bears_25 : decode cX3_bears 25 = .ok (.i2l, 1) := dk_133 (dk_at dksX3_bears_1 2 rfl rfl)
theorem dX3_bears_26 : decode cX3_bears 26 = .ok (.lconst 0, 1) := dk_9 (dk_at dksX3_bears_1 3 rfl rfl)
theorem dX3_bears_27 : decode cX3_bears 27 = .ok (.ldc2_w 115, 3) := dk_20 0 115 (dk_at dksX3_bears_1 4 rfl rfl)
theorem dX3_bears_30 : decode cX3_bears 30 = .ok (.invokestatic 76, 3) := dk_184 0 76 (dk_at dksX3_bears_1 7 rfl rfl)
theorem dX3_bears_33 : decode cX3_bears 33 = .ok (.ifCond .ne 10, 3) := dk_154 0 10 (dk_at dksX3_bears_1 10 rfl rfl)
theorem dX3_bears_36 : decode cX3_bears 36 = .ok (.aload_n 0, 1) := dk_42 (dk_at dksX3_bears_1 13 rfl rfl)
theorem dX3_bears_37 : decode cX3_bears 37 = .ok (.bipush (-2), 2) := dk_16 254 (dk_at dksX3_bears_1 14 rfl rfl)
theorem dX3_bears_39 : decode cX3_bears 39 = .ok (.invokevirtual 91, 3) := dk_182 0 91 (dk_at dksX3_bears_1 16 rfl rfl)
theorem dX3_bears_42 : decode cX3_bears 42 = .ok (.ireturn, 1) := dk_172 (dk_at dksX3_bears_1 19 rfl rfl)
theorem dX3_bears_43 : decode cX3_bears 43 = .ok (.bipush 30, 2) := dk_16 30 (dk_at dksX3_bears_1 20 rfl rfl)
theorem dX3_bears_45 : decode cX3_bears 45 = .ok (.istore 5, 2) := dk_54 5 (dk_at dksX3_bears_1 22 rfl rfl)
theorem dX3_bears_47 : decode cX3_bears 47 = .ok (.iload 5, 2) := dk_21 5 (dk_at dksX3_bears_2 0 rfl rfl)
theorem dX3_bears_49 : decode cX3_bears 49 = .ok (.iconst 1, 1) := dk_4 (dk_at dksX3_bears_2 2 rfl rfl)
theorem dX3_bears_50 : decode cX3_bears 50 = .ok (.if_icmp .lt 81, 3) := dk_161 0 81 (dk_at dksX3_bears_2 3 rfl rfl)
theorem dX3_bears_53 : decode cX3_bears 53 = .ok (.aload_n 0, 1) := dk_42 (dk_at dksX3_bears_2 6 rfl rfl)
theorem dX3_bears_54 : decode cX3_bears 54 = .ok (.invokevirtual 227, 3) := dk_182 0 227 (dk_at dksX3_bears_2 7 rfl rfl)
theorem dX3_bears_57 : decode cX3_bears 57 = .ok (.astore 6, 2) := dk_58 6 (dk_at dksX3_bears_2 10 rfl rfl)
theorem dX3_bears_59 : decode cX3_bears 59 = .ok (.aload 6, 2) := dk_25 6 (dk_at dksX3_bears_2 12 rfl rfl)
theorem dX3_bears_61 : decode cX3_bears 61 = .ok (.getfield 42, 3) := dk_180 0 42 (dk_at dksX3_bears_2 14 rfl rfl)
theorem dX3_bears_64 : decode cX3_bears 64 = .ok (.iload_n 1, 1) := dk_27 (dk_at dksX3_bears_2 17 rfl rfl)
theorem dX3_bears_65 : decode cX3_bears 65 = .ok (.aaload, 1) := dk_50 (dk_at dksX3_bears_2 18 rfl rfl)
theorem dX3_bears_66 : decode cX3_bears 66 = .ok (.iconst 1, 1) := dk_4 (dk_at dksX3_bears_2 19 rfl rfl)
theorem dX3_bears_67 : decode cX3_bears 67 = .ok (.iload 5, 2) := dk_21 5 (dk_at dksX3_bears_2 20 rfl rfl)
theorem dX3_bears_69 : decode cX3_bears 69 = .ok (.iastore, 1) := dk_79 (dk_at dksX3_bears_2 22 rfl rfl)
theorem dX3_bears_70 : decode cX3_bears 70 = .ok (.iconst 1, 1) := dk_4 (dk_at dksX3_bears_2 23 rfl rfl)
theorem dX3_bears_71 : decode cX3_bears 71 = .ok (.istore 7, 2) := dk_54 7 (dk_at dksX3_bears_3 0 rfl rfl)
theorem dX3_bears_73 : decode cX3_bears 73 = .ok (.iconst 0, 1) := dk_3 (dk_at dksX3_bears_3 2 rfl rfl)
theorem dX3_bears_74 : decode cX3_bears 74 = .ok (.istore 8, 2) := dk_54 8 (dk_at dksX3_bears_3 3 rfl rfl)
theorem dX3_bears_76 : decode cX3_bears 76 = .ok (.iload 8, 2) := dk_21 8 (dk_at dksX3_bears_3 5 rfl rfl)
theorem dX3_bears_78 : decode cX3_bears 78 = .ok (.iload_n 3, 1) := dk_29 (dk_at dksX3_bears_3 7 rfl rfl)
theorem dX3_bears_79 : decode cX3_bears 79 = .ok (.if_icmp .ge 38, 3) := dk_162 0 38 (dk_at dksX3_bears_3 8 rfl rfl)
theorem dX3_bears_82 : decode cX3_bears 82 = .ok (.aload 6, 2) := dk_25 6 (dk_at dksX3_bears_3 11 rfl rfl)
theorem dX3_bears_84 : decode cX3_bears 84 = .ok (.invokevirtual 296, 3) := dk_182 1 40 (dk_at dksX3_bears_3 13 rfl rfl)
theorem dX3_bears_87 : decode cX3_bears 87 = .ok (.iload 7, 2) := dk_21 7 (dk_at dksX3_bears_3 16 rfl rfl)
theorem dX3_bears_89 : decode cX3_bears 89 = .ok (.aload 6, 2) := dk_25 6 (dk_at dksX3_bears_3 18 rfl rfl)
theorem dX3_bears_91 : decode cX3_bears 91 = .ok (.getfield 39, 3) := dk_180 0 39 (dk_at dksX3_bears_3 20 rfl rfl)
theorem dX3_bears_94 : decode cX3_bears 94 = .ok (.iload_n 2, 1) := dk_28 (dk_at dksX3_bears_3 23 rfl rfl)
theorem dX3_bears_95 : decode cX3_bears 95 = .ok (.aaload, 1) := dk_50 (dk_at dksX3_bears_4 0 rfl rfl)
theorem dX3_bears_96 : decode cX3_bears 96 = .ok (.iconst 0, 1) := dk_3 (dk_at dksX3_bears_4 1 rfl rfl)
theorem dX3_bears_97 : decode cX3_bears 97 = .ok (.iaload, 1) := dk_46 (dk_at dksX3_bears_4 2 rfl rfl)
theorem dX3_bears_98 : decode cX3_bears 98 = .ok (.iload 4, 2) := dk_21 4 (dk_at dksX3_bears_4 3 rfl rfl)
theorem dX3_bears_100 : decode cX3_bears 100 = .ok (.if_icmp .lt 7, 3) := dk_161 0 7 (dk_at dksX3_bears_4 5 rfl rfl)
theorem dX3_bears_103 : decode cX3_bears 103 = .ok (.iconst 1, 1) := dk_4 (dk_at dksX3_bears_4 8 rfl rfl)
theorem dX3_bears_104 : decode cX3_bears 104 = .ok (.goto 4, 3) := dk_167 0 4 (dk_at dksX3_bears_4 9 rfl rfl)
theorem dX3_bears_107 : decode cX3_bears 107 = .ok (.iconst 0, 1) := dk_3 (dk_at dksX3_bears_4 12 rfl rfl)
theorem dX3_bears_108 : decode cX3_bears 108 = .ok (.iand, 1) := dk_126 (dk_at dksX3_bears_4 13 rfl rfl)
theorem dX3_bears_109 : decode cX3_bears 109 = .ok (.istore 7, 2) := dk_54 7 (dk_at dksX3_bears_4 14 rfl rfl)
theorem dX3_bears_111 : decode cX3_bears 111 = .ok (.iinc 8 1, 3) := dk_132 8 1 (dk_at dksX3_bears_4 16 rfl rfl)
theorem dX3_bears_114 : decode cX3_bears 114 = .ok (.goto (-38), 3) := dk_167 255 218 (dk_at dksX3_bears_4 19 rfl rfl)
theorem dX3_bears_117 : decode cX3_bears 117 = .ok (.iload 7, 2) := dk_21 7 (dk_at dksX3_bears_4 22 rfl rfl)
theorem dX3_bears_119 : decode cX3_bears 119 = .ok (.ifCond .eq 6, 3) := dk_153 0 6 (dk_at dksX3_bears_5 0 rfl rfl)
theorem dX3_bears_122 : decode cX3_bears 122 = .ok (.iload 5, 2) := dk_21 5 (dk_at dksX3_bears_5 3 rfl rfl)
theorem dX3_bears_124 : decode cX3_bears 124 = .ok (.ireturn, 1) := dk_172 (dk_at dksX3_bears_5 5 rfl rfl)
theorem dX3_bears_125 : decode cX3_bears 125 = .ok (.iinc 5 (-1), 3) := dk_132 5 255 (dk_at dksX3_bears_5 6 rfl rfl)
theorem dX3_bears_128 : decode cX3_bears 128 = .ok (.goto (-81), 3) := dk_167 255 175 (dk_at dksX3_bears_5 9 rfl rfl)
theorem dX3_bears_131 : decode cX3_bears 131 = .ok (.iconst (-1), 1) := dk_2 (dk_at dksX3_bears_5 12 rfl rfl)
theorem dX3_bears_132 : decode cX3_bears 132 = .ok (.ireturn, 1) := dk_172 (dk_at dksX3_bears_5 13 rfl rfl)
abbrev cX3_recovers : ByteArray := prog_16_method_96_code
def yX3_recovers : MethodName := ⟨RX3, "recovers", "(I)I"⟩
def dkwX3_recovers_3 : List UInt8 := [46, 161, 0, 5, 29, 172, 132, 3, 1, 167, 255, 222, 2, 172]
abbrev dktX3_recovers_3 : List UInt8 := dkwX3_recovers_3 ++ []
def dkwX3_recovers_2 : List UInt8 := [16, 30, 163, 0, 34, 44, 182, 1, 40, 44, 180, 0, 39, 27, 50, 3, 46, 44, 180, 0, 39, 27, 50, 4]
abbrev dktX3_recovers_2 : List UInt8 := dkwX3_recovers_2 ++ dktX3_recovers_3
def dkwX3_recovers_1 : List UInt8 := [180, 0, 73, 162, 0, 18, 44, 180, 0, 39, 29, 50, 7, 2, 79, 132, 3, 1, 167, 255, 236, 4, 62, 29]
abbrev dktX3_recovers_1 : List UInt8 := dkwX3_recovers_1 ++ dktX3_recovers_2
def dkwX3_recovers_0 : List UInt8 := [42, 27, 182, 0, 127, 154, 0, 10, 42, 16, 254, 182, 0, 91, 172, 42, 182, 0, 227, 77, 3, 62, 29, 42]
abbrev dktX3_recovers_0 : List UInt8 := dkwX3_recovers_0 ++ dktX3_recovers_1
theorem dksX3_recovers_0 : cX3_recovers.data.toList.drop 0 = dktX3_recovers_0 := by decide +kernel
theorem dksX3_recovers_1 : cX3_recovers.data.toList.drop 24 = dktX3_recovers_1 := dk_seg dksX3_recovers_0 24 rfl rfl
theorem dksX3_recovers_2 : cX3_recovers.data.toList.drop 48 = dktX3_recovers_2 := dk_seg dksX3_recovers_1 24 rfl rfl
theorem dksX3_recovers_3 : cX3_recovers.data.toList.drop 72 = dktX3_recovers_3 := dk_seg dksX3_recovers_2 24 rfl rfl
theorem dX3_recovers_0 : decode cX3_recovers 0 = .ok (.aload_n 0, 1) := dk_42 (dk_at dksX3_recovers_0 0 rfl rfl)
theorem dX3_recovers_1 : decode cX3_recovers 1 = .ok (.iload_n 1, 1) := dk_27 (dk_at dksX3_recovers_0 1 rfl rfl)
theorem dX3_recovers_2 : decode cX3_recovers 2 = .ok (.invokevirtual 127, 3) := dk_182 0 127 (dk_at dksX3_recovers_0 2 rfl rfl)
theorem dX3_recovers_5 : decode cX3_recovers 5 = .ok (.ifCond .ne 10, 3) := dk_154 0 10 (dk_at dksX3_recovers_0 5 rfl rfl)
theorem dX3_recovers_8 : decode cX3_recovers 8 = .ok (.aload_n 0, 1) := dk_42 (dk_at dksX3_recovers_0 8 rfl rfl)
theorem dX3_recovers_9 : decode cX3_recovers 9 = .ok (.bipush (-2), 2) := dk_16 254 (dk_at dksX3_recovers_0 9 rfl rfl)
theorem dX3_recovers_11 : decode cX3_recovers 11 = .ok (.invokevirtual 91, 3) := dk_182 0 91 (dk_at dksX3_recovers_0 11 rfl rfl)
theorem dX3_recovers_14 : decode cX3_recovers 14 = .ok (.ireturn, 1) := dk_172 (dk_at dksX3_recovers_0 14 rfl rfl)
theorem dX3_recovers_15 : decode cX3_recovers 15 = .ok (.aload_n 0, 1) := dk_42 (dk_at dksX3_recovers_0 15 rfl rfl)
theorem dX3_recovers_16 : decode cX3_recovers 16 = .ok (.invokevirtual 227, 3) := dk_182 0 227 (dk_at dksX3_recovers_0 16 rfl rfl)
theorem dX3_recovers_19 : decode cX3_recovers 19 = .ok (.astore_n 2, 1) := dk_77 (dk_at dksX3_recovers_0 19 rfl rfl)
theorem dX3_recovers_20 : decode cX3_recovers 20 = .ok (.iconst 0, 1) := dk_3 (dk_at dksX3_recovers_0 20 rfl rfl)
theorem dX3_recovers_21 : decode cX3_recovers 21 = .ok (.istore_n 3, 1) := dk_62 (dk_at dksX3_recovers_0 21 rfl rfl)
theorem dX3_recovers_22 : decode cX3_recovers 22 = .ok (.iload_n 3, 1) := dk_29 (dk_at dksX3_recovers_0 22 rfl rfl)
theorem dX3_recovers_23 : decode cX3_recovers 23 = .ok (.aload_n 0, 1) := dk_42 (dk_at dksX3_recovers_0 23 rfl rfl)
theorem dX3_recovers_24 : decode cX3_recovers 24 = .ok (.getfield 73, 3) := dk_180 0 73 (dk_at dksX3_recovers_1 0 rfl rfl)
theorem dX3_recovers_27 : decode cX3_recovers 27 = .ok (.if_icmp .ge 18, 3) := dk_162 0 18 (dk_at dksX3_recovers_1 3 rfl rfl)
theorem dX3_recovers_30 : decode cX3_recovers 30 = .ok (.aload_n 2, 1) := dk_44 (dk_at dksX3_recovers_1 6 rfl rfl)
theorem dX3_recovers_31 : decode cX3_recovers 31 = .ok (.getfield 39, 3) := dk_180 0 39 (dk_at dksX3_recovers_1 7 rfl rfl)
theorem dX3_recovers_34 : decode cX3_recovers 34 = .ok (.iload_n 3, 1) := dk_29 (dk_at dksX3_recovers_1 10 rfl rfl)
theorem dX3_recovers_35 : decode cX3_recovers 35 = .ok (.aaload, 1) := dk_50 (dk_at dksX3_recovers_1 11 rfl rfl)
theorem dX3_recovers_36 : decode cX3_recovers 36 = .ok (.iconst 4, 1) := dk_7 (dk_at dksX3_recovers_1 12 rfl rfl)
theorem dX3_recovers_37 : decode cX3_recovers 37 = .ok (.iconst (-1), 1) := dk_2 (dk_at dksX3_recovers_1 13 rfl rfl)
theorem dX3_recovers_38 : decode cX3_recovers 38 = .ok (.iastore, 1) := dk_79 (dk_at dksX3_recovers_1 14 rfl rfl)
theorem dX3_recovers_39 : decode cX3_recovers 39 = .ok (.iinc 3 1, 3) := dk_132 3 1 (dk_at dksX3_recovers_1 15 rfl rfl)
theorem dX3_recovers_42 : decode cX3_recovers 42 = .ok (.goto (-20), 3) := dk_167 255 236 (dk_at dksX3_recovers_1 18 rfl rfl)
theorem dX3_recovers_45 : decode cX3_recovers 45 = .ok (.iconst 1, 1) := dk_4 (dk_at dksX3_recovers_1 21 rfl rfl)
theorem dX3_recovers_46 : decode cX3_recovers 46 = .ok (.istore_n 3, 1) := dk_62 (dk_at dksX3_recovers_1 22 rfl rfl)
theorem dX3_recovers_47 : decode cX3_recovers 47 = .ok (.iload_n 3, 1) := dk_29 (dk_at dksX3_recovers_1 23 rfl rfl)
theorem dX3_recovers_48 : decode cX3_recovers 48 = .ok (.bipush 30, 2) := dk_16 30 (dk_at dksX3_recovers_2 0 rfl rfl)
theorem dX3_recovers_50 : decode cX3_recovers 50 = .ok (.if_icmp .gt 34, 3) := dk_163 0 34 (dk_at dksX3_recovers_2 2 rfl rfl)
theorem dX3_recovers_53 : decode cX3_recovers 53 = .ok (.aload_n 2, 1) := dk_44 (dk_at dksX3_recovers_2 5 rfl rfl)
theorem dX3_recovers_54 : decode cX3_recovers 54 = .ok (.invokevirtual 296, 3) := dk_182 1 40 (dk_at dksX3_recovers_2 6 rfl rfl)
theorem dX3_recovers_57 : decode cX3_recovers 57 = .ok (.aload_n 2, 1) := dk_44 (dk_at dksX3_recovers_2 9 rfl rfl)
theorem dX3_recovers_58 : decode cX3_recovers 58 = .ok (.getfield 39, 3) := dk_180 0 39 (dk_at dksX3_recovers_2 10 rfl rfl)
theorem dX3_recovers_61 : decode cX3_recovers 61 = .ok (.iload_n 1, 1) := dk_27 (dk_at dksX3_recovers_2 13 rfl rfl)
theorem dX3_recovers_62 : decode cX3_recovers 62 = .ok (.aaload, 1) := dk_50 (dk_at dksX3_recovers_2 14 rfl rfl)
theorem dX3_recovers_63 : decode cX3_recovers 63 = .ok (.iconst 0, 1) := dk_3 (dk_at dksX3_recovers_2 15 rfl rfl)
theorem dX3_recovers_64 : decode cX3_recovers 64 = .ok (.iaload, 1) := dk_46 (dk_at dksX3_recovers_2 16 rfl rfl)
theorem dX3_recovers_65 : decode cX3_recovers 65 = .ok (.aload_n 2, 1) := dk_44 (dk_at dksX3_recovers_2 17 rfl rfl)
theorem dX3_recovers_66 : decode cX3_recovers 66 = .ok (.getfield 39, 3) := dk_180 0 39 (dk_at dksX3_recovers_2 18 rfl rfl)
theorem dX3_recovers_69 : decode cX3_recovers 69 = .ok (.iload_n 1, 1) := dk_27 (dk_at dksX3_recovers_2 21 rfl rfl)
theorem dX3_recovers_70 : decode cX3_recovers 70 = .ok (.aaload, 1) := dk_50 (dk_at dksX3_recovers_2 22 rfl rfl)
theorem dX3_recovers_71 : decode cX3_recovers 71 = .ok (.iconst 1, 1) := dk_4 (dk_at dksX3_recovers_2 23 rfl rfl)
theorem dX3_recovers_72 : decode cX3_recovers 72 = .ok (.iaload, 1) := dk_46 (dk_at dksX3_recovers_3 0 rfl rfl)
theorem dX3_recovers_73 : decode cX3_recovers 73 = .ok (.if_icmp .lt 5, 3) := dk_161 0 5 (dk_at dksX3_recovers_3 1 rfl rfl)
theorem dX3_recovers_76 : decode cX3_recovers 76 = .ok (.iload_n 3, 1) := dk_29 (dk_at dksX3_recovers_3 4 rfl rfl)
theorem dX3_recovers_77 : decode cX3_recovers 77 = .ok (.ireturn, 1) := dk_172 (dk_at dksX3_recovers_3 5 rfl rfl)
theorem dX3_recovers_78 : decode cX3_recovers 78 = .ok (.iinc 3 1, 3) := dk_132 3 1 (dk_at dksX3_recovers_3 6 rfl rfl)
theorem dX3_recovers_81 : decode cX3_recovers 81 = .ok (.goto (-34), 3) := dk_167 255 222 (dk_at dksX3_recovers_3 9 rfl rfl)
theorem dX3_recovers_84 : decode cX3_recovers 84 = .ok (.iconst (-1), 1) := dk_2 (dk_at dksX3_recovers_3 12 rfl rfl)
theorem dX3_recovers_85 : decode cX3_recovers 85 = .ok (.ireturn, 1) := dk_172 (dk_at dksX3_recovers_3 13 rfl rfl)
abbrev cX3_dearest : ByteArray := prog_16_method_97_code
def yX3_dearest : MethodName := ⟨RX3, "dearest", "(II)I"⟩
def dkwX3_dearest_4 : List UInt8 := [164, 0, 10, 21, 5, 62, 21, 7, 54, 4, 132, 5, 1, 167, 255, 180, 29, 172]
abbrev dktX3_dearest_4 : List UInt8 := dkwX3_dearest_4 ++ []
def dkwX3_dearest_3 : List UInt8 := [21, 7, 25, 6, 180, 0, 67, 28, 46, 96, 54, 7, 132, 8, 1, 167, 255, 230, 21, 7, 21, 4]
abbrev dktX3_dearest_3 : List UInt8 := dkwX3_dearest_3 ++ dktX3_dearest_4
def dkwX3_dearest_2 : List UInt8 := [28, 50, 6, 21, 5, 79, 3, 54, 7, 3, 54, 8, 21, 8, 27, 162, 0, 26, 25, 6, 182, 1, 40]
abbrev dktX3_dearest_2 : List UInt8 := dkwX3_dearest_2 ++ dktX3_dearest_3
def dkwX3_dearest_1 : List UInt8 := [2, 54, 4, 3, 54, 5, 21, 5, 16, 99, 163, 0, 75, 42, 182, 0, 227, 58, 6, 25, 6, 180, 0, 39]
abbrev dktX3_dearest_1 : List UInt8 := dkwX3_dearest_1 ++ dktX3_dearest_2
def dkwX3_dearest_0 : List UInt8 := [27, 184, 1, 43, 153, 0, 11, 42, 28, 182, 0, 127, 154, 0, 10, 42, 16, 254, 182, 0, 91, 172, 3, 62]
abbrev dktX3_dearest_0 : List UInt8 := dkwX3_dearest_0 ++ dktX3_dearest_1
theorem dksX3_dearest_0 : cX3_dearest.data.toList.drop 0 = dktX3_dearest_0 := by decide +kernel
theorem dksX3_dearest_1 : cX3_dearest.data.toList.drop 24 = dktX3_dearest_1 := dk_seg dksX3_dearest_0 24 rfl rfl
theorem dksX3_dearest_2 : cX3_dearest.data.toList.drop 48 = dktX3_dearest_2 := dk_seg dksX3_dearest_1 24 rfl rfl
theorem dksX3_dearest_3 : cX3_dearest.data.toList.drop 71 = dktX3_dearest_3 := dk_seg dksX3_dearest_2 23 rfl rfl
theorem dksX3_dearest_4 : cX3_dearest.data.toList.drop 93 = dktX3_dearest_4 := dk_seg dksX3_dearest_3 22 rfl rfl
theorem dX3_dearest_0 : decode cX3_dearest 0 = .ok (.iload_n 1, 1) := dk_27 (dk_at dksX3_dearest_0 0 rfl rfl)
theorem dX3_dearest_1 : decode cX3_dearest 1 = .ok (.invokestatic 299, 3) := dk_184 1 43 (dk_at dksX3_dearest_0 1 rfl rfl)
theorem dX3_dearest_4 : decode cX3_dearest 4 = .ok (.ifCond .eq 11, 3) := dk_153 0 11 (dk_at dksX3_dearest_0 4 rfl rfl)
theorem dX3_dearest_7 : decode cX3_dearest 7 = .ok (.aload_n 0, 1) := dk_42 (dk_at dksX3_dearest_0 7 rfl rfl)
theorem dX3_dearest_8 : decode cX3_dearest 8 = .ok (.iload_n 2, 1) := dk_28 (dk_at dksX3_dearest_0 8 rfl rfl)
theorem dX3_dearest_9 : decode cX3_dearest 9 = .ok (.invokevirtual 127, 3) := dk_182 0 127 (dk_at dksX3_dearest_0 9 rfl rfl)
theorem dX3_dearest_12 : decode cX3_dearest 12 = .ok (.ifCond .ne 10, 3) := dk_154 0 10 (dk_at dksX3_dearest_0 12 rfl rfl)
theorem dX3_dearest_15 : decode cX3_dearest 15 = .ok (.aload_n 0, 1) := dk_42 (dk_at dksX3_dearest_0 15 rfl rfl)
theorem dX3_dearest_16 : decode cX3_dearest 16 = .ok (.bipush (-2), 2) := dk_16 254 (dk_at dksX3_dearest_0 16 rfl rfl)
theorem dX3_dearest_18 : decode cX3_dearest 18 = .ok (.invokevirtual 91, 3) := dk_182 0 91 (dk_at dksX3_dearest_0 18 rfl rfl)
theorem dX3_dearest_21 : decode cX3_dearest 21 = .ok (.ireturn, 1) := dk_172 (dk_at dksX3_dearest_0 21 rfl rfl)
theorem dX3_dearest_22 : decode cX3_dearest 22 = .ok (.iconst 0, 1) := dk_3 (dk_at dksX3_dearest_0 22 rfl rfl)
theorem dX3_dearest_23 : decode cX3_dearest 23 = .ok (.istore_n 3, 1) := dk_62 (dk_at dksX3_dearest_0 23 rfl rfl)
theorem dX3_dearest_24 : decode cX3_dearest 24 = .ok (.iconst (-1), 1) := dk_2 (dk_at dksX3_dearest_1 0 rfl rfl)
theorem dX3_dearest_25 : decode cX3_dearest 25 = .ok (.istore 4, 2) := dk_54 4 (dk_at dksX3_dearest_1 1 rfl rfl)
theorem dX3_dearest_27 : decode cX3_dearest 27 = .ok (.iconst 0, 1) := dk_3 (dk_at dksX3_dearest_1 3 rfl rfl)
theorem dX3_dearest_28 : decode cX3_dearest 28 = .ok (.istore 5, 2) := dk_54 5 (dk_at dksX3_dearest_1 4 rfl rfl)
theorem dX3_dearest_30 : decode cX3_dearest 30 = .ok (.iload 5, 2) := dk_21 5 (dk_at dksX3_dearest_1 6 rfl rfl)
theorem dX3_dearest_32 : decode cX3_dearest 32 = .ok (.bipush 99, 2) := dk_16 99 (dk_at dksX3_dearest_1 8 rfl rfl)
theorem dX3_dearest_34 : decode cX3_dearest 34 = .ok (.if_icmp .gt 75, 3) := dk_163 0 75 (dk_at dksX3_dearest_1 10 rfl rfl)
theorem dX3_dearest_37 : decode cX3_dearest 37 = .ok (.aload_n 0, 1) := dk_42 (dk_at dksX3_dearest_1 13 rfl rfl)
theorem dX3_dearest_38 : decode cX3_dearest 38 = .ok (.invokevirtual 227, 3) := dk_182 0 227 (dk_at dksX3_dearest_1 14 rfl rfl)
theorem dX3_dearest_41 : decode cX3_dearest 41 = .ok (.astore 6, 2) := dk_58 6 (dk_at dksX3_dearest_1 17 rfl rfl)
theorem dX3_dearest_43 : decode cX3_dearest 43 = .ok (.aload 6, 2) := dk_25 6 (dk_at dksX3_dearest_1 19 rfl rfl)
theorem dX3_dearest_45 : decode cX3_dearest 45 = .ok (.getfield 39, 3) := dk_180 0 39 (dk_at dksX3_dearest_1 21 rfl rfl)
theorem dX3_dearest_48 : decode cX3_dearest 48 = .ok (.iload_n 2, 1) := dk_28 (dk_at dksX3_dearest_2 0 rfl rfl)
theorem dX3_dearest_49 : decode cX3_dearest 49 = .ok (.aaload, 1) := dk_50 (dk_at dksX3_dearest_2 1 rfl rfl)
theorem dX3_dearest_50 : decode cX3_dearest 50 = .ok (.iconst 3, 1) := dk_6 (dk_at dksX3_dearest_2 2 rfl rfl)
theorem dX3_dearest_51 : decode cX3_dearest 51 = .ok (.iload 5, 2) := dk_21 5 (dk_at dksX3_dearest_2 3 rfl rfl)
theorem dX3_dearest_53 : decode cX3_dearest 53 = .ok (.iastore, 1) := dk_79 (dk_at dksX3_dearest_2 5 rfl rfl)
theorem dX3_dearest_54 : decode cX3_dearest 54 = .ok (.iconst 0, 1) := dk_3 (dk_at dksX3_dearest_2 6 rfl rfl)
theorem dX3_dearest_55 : decode cX3_dearest 55 = .ok (.istore 7, 2) := dk_54 7 (dk_at dksX3_dearest_2 7 rfl rfl)
theorem dX3_dearest_57 : decode cX3_dearest 57 = .ok (.iconst 0, 1) := dk_3 (dk_at dksX3_dearest_2 9 rfl rfl)
theorem dX3_dearest_58 : decode cX3_dearest 58 = .ok (.istore 8, 2) := dk_54 8 (dk_at dksX3_dearest_2 10 rfl rfl)
theorem dX3_dearest_60 : decode cX3_dearest 60 = .ok (.iload 8, 2) := dk_21 8 (dk_at dksX3_dearest_2 12 rfl rfl)
theorem dX3_dearest_62 : decode cX3_dearest 62 = .ok (.iload_n 1, 1) := dk_27 (dk_at dksX3_dearest_2 14 rfl rfl)
theorem dX3_dearest_63 : decode cX3_dearest 63 = .ok (.if_icmp .ge 26, 3) := dk_162 0 26 (dk_at dksX3_dearest_2 15 rfl rfl)
theorem dX3_dearest_66 : decode cX3_dearest 66 = .ok (.aload 6, 2) := dk_25 6 (dk_at dksX3_dearest_2 18 rfl rfl)
theorem dX3_dearest_68 : decode cX3_dearest 68 = .ok (.invokevirtual 296, 3) := dk_182 1 40 (dk_at dksX3_dearest_2 20 rfl rfl)
theorem dX3_dearest_71 : decode cX3_dearest 71 = .ok (.iload 7, 2) := dk_21 7 (dk_at dksX3_dearest_3 0 rfl rfl)
theorem dX3_dearest_73 : decode cX3_dearest 73 = .ok (.aload 6, 2) := dk_25 6 (dk_at dksX3_dearest_3 2 rfl rfl)
theorem dX3_dearest_75 : decode cX3_dearest 75 = .ok (.getfield 67, 3) := dk_180 0 67 (dk_at dksX3_dearest_3 4 rfl rfl)
theorem dX3_dearest_78 : decode cX3_dearest 78 = .ok (.iload_n 2, 1) := dk_28 (dk_at dksX3_dearest_3 7 rfl rfl)
theorem dX3_dearest_79 : decode cX3_dearest 79 = .ok (.iaload, 1) := dk_46 (dk_at dksX3_dearest_3 8 rfl rfl)
theorem dX3_dearest_80 : decode cX3_dearest 80 = .ok (.iadd, 1) := dk_96 (dk_at dksX3_dearest_3 9 rfl rfl)
theorem dX3_dearest_81 : decode cX3_dearest 81 = .ok (.istore 7, 2) := dk_54 7 (dk_at dksX3_dearest_3 10 rfl rfl)
theorem dX3_dearest_83 : decode cX3_dearest 83 = .ok (.iinc 8 1, 3) := dk_132 8 1 (dk_at dksX3_dearest_3 12 rfl rfl)
theorem dX3_dearest_86 : decode cX3_dearest 86 = .ok (.goto (-26), 3) := dk_167 255 230 (dk_at dksX3_dearest_3 15 rfl rfl)
theorem dX3_dearest_89 : decode cX3_dearest 89 = .ok (.iload 7, 2) := dk_21 7 (dk_at dksX3_dearest_3 18 rfl rfl)
theorem dX3_dearest_91 : decode cX3_dearest 91 = .ok (.iload 4, 2) := dk_21 4 (dk_at dksX3_dearest_3 20 rfl rfl)
theorem dX3_dearest_93 : decode cX3_dearest 93 = .ok (.if_icmp .le 10, 3) := dk_164 0 10 (dk_at dksX3_dearest_4 0 rfl rfl)
theorem dX3_dearest_96 : decode cX3_dearest 96 = .ok (.iload 5, 2) := dk_21 5 (dk_at dksX3_dearest_4 3 rfl rfl)
theorem dX3_dearest_98 : decode cX3_dearest 98 = .ok (.istore_n 3, 1) := dk_62 (dk_at dksX3_dearest_4 5 rfl rfl)
theorem dX3_dearest_99 : decode cX3_dearest 99 = .ok (.iload 7, 2) := dk_21 7 (dk_at dksX3_dearest_4 6 rfl rfl)
theorem dX3_dearest_101 : decode cX3_dearest 101 = .ok (.istore 4, 2) := dk_54 4 (dk_at dksX3_dearest_4 8 rfl rfl)
theorem dX3_dearest_103 : decode cX3_dearest 103 = .ok (.iinc 5 1, 3) := dk_132 5 1 (dk_at dksX3_dearest_4 10 rfl rfl)
theorem dX3_dearest_106 : decode cX3_dearest 106 = .ok (.goto (-76), 3) := dk_167 255 180 (dk_at dksX3_dearest_4 13 rfl rfl)
theorem dX3_dearest_109 : decode cX3_dearest 109 = .ok (.iload_n 3, 1) := dk_29 (dk_at dksX3_dearest_4 16 rfl rfl)
theorem dX3_dearest_110 : decode cX3_dearest 110 = .ok (.ireturn, 1) := dk_172 (dk_at dksX3_dearest_4 17 rfl rfl)
abbrev cX3_year : ByteArray := prog_16_method_98_code
def yX3_year : MethodName := ⟨RX3, "year", "()I"⟩
def dkwX3_year_0 : List UInt8 := [42, 4, 2, 182, 1, 46, 172]
abbrev dktX3_year_0 : List UInt8 := dkwX3_year_0 ++ []
theorem dksX3_year_0 : cX3_year.data.toList.drop 0 = dktX3_year_0 := by decide +kernel
theorem dX3_year_0 : decode cX3_year 0 = .ok (.aload_n 0, 1) := dk_42 (dk_at dksX3_year_0 0 rfl rfl)
theorem dX3_year_1 : decode cX3_year 1 = .ok (.iconst 1, 1) := dk_4 (dk_at dksX3_year_0 1 rfl rfl)
theorem dX3_year_2 : decode cX3_year 2 = .ok (.iconst (-1), 1) := dk_2 (dk_at dksX3_year_0 2 rfl rfl)
theorem dX3_year_3 : decode cX3_year 3 = .ok (.invokevirtual 302, 3) := dk_182 1 46 (dk_at dksX3_year_0 3 rfl rfl)
theorem dX3_year_6 : decode cX3_year 6 = .ok (.ireturn, 1) := dk_172 (dk_at dksX3_year_0 6 rfl rfl)
abbrev cX3_goes : ByteArray := prog_16_method_99_code
def yX3_goes : MethodName := ⟨RX3, "goes", "(I)I"⟩
def dkwX3_goes_1 : List UInt8 := [96, 172]
abbrev dktX3_goes_1 : List UInt8 := dkwX3_goes_1 ++ []
def dkwX3_goes_0 : List UInt8 := [27, 184, 1, 43, 153, 0, 12, 42, 27, 2, 182, 1, 46, 167, 0, 12, 18, 252, 42, 16, 254, 182, 0, 91]
abbrev dktX3_goes_0 : List UInt8 := dkwX3_goes_0 ++ dktX3_goes_1
theorem dksX3_goes_0 : cX3_goes.data.toList.drop 0 = dktX3_goes_0 := by decide +kernel
theorem dksX3_goes_1 : cX3_goes.data.toList.drop 24 = dktX3_goes_1 := dk_seg dksX3_goes_0 24 rfl rfl
theorem dX3_goes_0 : decode cX3_goes 0 = .ok (.iload_n 1, 1) := dk_27 (dk_at dksX3_goes_0 0 rfl rfl)
theorem dX3_goes_1 : decode cX3_goes 1 = .ok (.invokestatic 299, 3) := dk_184 1 43 (dk_at dksX3_goes_0 1 rfl rfl)
theorem dX3_goes_4 : decode cX3_goes 4 = .ok (.ifCond .eq 12, 3) := dk_153 0 12 (dk_at dksX3_goes_0 4 rfl rfl)
theorem dX3_goes_7 : decode cX3_goes 7 = .ok (.aload_n 0, 1) := dk_42 (dk_at dksX3_goes_0 7 rfl rfl)
theorem dX3_goes_8 : decode cX3_goes 8 = .ok (.iload_n 1, 1) := dk_27 (dk_at dksX3_goes_0 8 rfl rfl)
theorem dX3_goes_9 : decode cX3_goes 9 = .ok (.iconst (-1), 1) := dk_2 (dk_at dksX3_goes_0 9 rfl rfl)
theorem dX3_goes_10 : decode cX3_goes 10 = .ok (.invokevirtual 302, 3) := dk_182 1 46 (dk_at dksX3_goes_0 10 rfl rfl)
theorem dX3_goes_13 : decode cX3_goes 13 = .ok (.goto 12, 3) := dk_167 0 12 (dk_at dksX3_goes_0 13 rfl rfl)
theorem dX3_goes_16 : decode cX3_goes 16 = .ok (.ldc 252, 2) := dk_18 252 (dk_at dksX3_goes_0 16 rfl rfl)
theorem dX3_goes_18 : decode cX3_goes 18 = .ok (.aload_n 0, 1) := dk_42 (dk_at dksX3_goes_0 18 rfl rfl)
theorem dX3_goes_19 : decode cX3_goes 19 = .ok (.bipush (-2), 2) := dk_16 254 (dk_at dksX3_goes_0 19 rfl rfl)
theorem dX3_goes_21 : decode cX3_goes 21 = .ok (.invokevirtual 91, 3) := dk_182 0 91 (dk_at dksX3_goes_0 21 rfl rfl)
theorem dX3_goes_24 : decode cX3_goes 24 = .ok (.iadd, 1) := dk_96 (dk_at dksX3_goes_1 0 rfl rfl)
theorem dX3_goes_25 : decode cX3_goes 25 = .ok (.ireturn, 1) := dk_172 (dk_at dksX3_goes_1 1 rfl rfl)
abbrev cX3_post : ByteArray := prog_16_method_101_code
def yX3_post : MethodName := ⟨RX3, "post", "(I)I"⟩
def dkwX3_post_4 : List UInt8 := [167, 0, 4, 3, 96, 61, 42, 21, 4, 21, 5, 182, 0, 141, 132, 3, 1, 167, 255, 182, 28, 172]
abbrev dktX3_post_4 : List UInt8 := dkwX3_post_4 ++ []
def dkwX3_post_3 : List UInt8 := [16, 100, 184, 1, 34, 54, 5, 28, 42, 180, 0, 39, 21, 4, 50, 8, 46, 16, 99, 162, 0, 7, 4]
abbrev dktX3_post_3 : List UInt8 := dkwX3_post_3 ++ dktX3_post_4
def dkwX3_post_2 : List UInt8 := [182, 1, 67, 54, 4, 42, 180, 0, 39, 21, 4, 50, 3, 46, 42, 16, 21, 182, 1, 67, 96, 16, 10, 100]
abbrev dktX3_post_2 : List UInt8 := dkwX3_post_2 ++ dktX3_post_3
def dkwX3_post_1 : List UInt8 := [154, 0, 10, 42, 16, 251, 182, 0, 91, 172, 3, 61, 3, 62, 29, 27, 162, 0, 75, 42, 42, 180, 0, 73]
abbrev dktX3_post_1 : List UInt8 := dkwX3_post_1 ++ dktX3_post_2
def dkwX3_post_0 : List UInt8 := [27, 133, 10, 20, 0, 89, 184, 0, 76, 154, 0, 10, 42, 16, 254, 182, 0, 91, 172, 42, 180, 0, 73]
abbrev dktX3_post_0 : List UInt8 := dkwX3_post_0 ++ dktX3_post_1
theorem dksX3_post_0 : cX3_post.data.toList.drop 0 = dktX3_post_0 := by decide +kernel
theorem dksX3_post_1 : cX3_post.data.toList.drop 23 = dktX3_post_1 := dk_seg dksX3_post_0 23 rfl rfl
theorem dksX3_post_2 : cX3_post.data.toList.drop 47 = dktX3_post_2 := dk_seg dksX3_post_1 24 rfl rfl
theorem dksX3_post_3 : cX3_post.data.toList.drop 71 = dktX3_post_3 := dk_seg dksX3_post_2 24 rfl rfl
theorem dksX3_post_4 : cX3_post.data.toList.drop 94 = dktX3_post_4 := dk_seg dksX3_post_3 23 rfl rfl
theorem dX3_post_0 : decode cX3_post 0 = .ok (.iload_n 1, 1) := dk_27 (dk_at dksX3_post_0 0 rfl rfl)
theorem dX3_post_1 : decode cX3_post 1 = .ok (.i2l, 1) := dk_133 (dk_at dksX3_post_0 1 rfl rfl)
theorem dX3_post_2 : decode cX3_post 2 = .ok (.lconst 1, 1) := dk_10 (dk_at dksX3_post_0 2 rfl rfl)
theorem dX3_post_3 : decode cX3_post 3 = .ok (.ldc2_w 89, 3) := dk_20 0 89 (dk_at dksX3_post_0 3 rfl rfl)
theorem dX3_post_6 : decode cX3_post 6 = .ok (.invokestatic 76, 3) := dk_184 0 76 (dk_at dksX3_post_0 6 rfl rfl)
theorem dX3_post_9 : decode cX3_post 9 = .ok (.ifCond .ne 10, 3) := dk_154 0 10 (dk_at dksX3_post_0 9 rfl rfl)
theorem dX3_post_12 : decode cX3_post 12 = .ok (.aload_n 0, 1) := dk_42 (dk_at dksX3_post_0 12 rfl rfl)
theorem dX3_post_13 : decode cX3_post 13 = .ok (.bipush (-2), 2) := dk_16 254 (dk_at dksX3_post_0 13 rfl rfl)
theorem dX3_post_15 : decode cX3_post 15 = .ok (.invokevirtual 91, 3) := dk_182 0 91 (dk_at dksX3_post_0 15 rfl rfl)
theorem dX3_post_18 : decode cX3_post 18 = .ok (.ireturn, 1) := dk_172 (dk_at dksX3_post_0 18 rfl rfl)
theorem dX3_post_19 : decode cX3_post 19 = .ok (.aload_n 0, 1) := dk_42 (dk_at dksX3_post_0 19 rfl rfl)
theorem dX3_post_20 : decode cX3_post 20 = .ok (.getfield 73, 3) := dk_180 0 73 (dk_at dksX3_post_0 20 rfl rfl)
theorem dX3_post_23 : decode cX3_post 23 = .ok (.ifCond .ne 10, 3) := dk_154 0 10 (dk_at dksX3_post_1 0 rfl rfl)
theorem dX3_post_26 : decode cX3_post 26 = .ok (.aload_n 0, 1) := dk_42 (dk_at dksX3_post_1 3 rfl rfl)
theorem dX3_post_27 : decode cX3_post 27 = .ok (.bipush (-5), 2) := dk_16 251 (dk_at dksX3_post_1 4 rfl rfl)
theorem dX3_post_29 : decode cX3_post 29 = .ok (.invokevirtual 91, 3) := dk_182 0 91 (dk_at dksX3_post_1 6 rfl rfl)
theorem dX3_post_32 : decode cX3_post 32 = .ok (.ireturn, 1) := dk_172 (dk_at dksX3_post_1 9 rfl rfl)
theorem dX3_post_33 : decode cX3_post 33 = .ok (.iconst 0, 1) := dk_3 (dk_at dksX3_post_1 10 rfl rfl)
theorem dX3_post_34 : decode cX3_post 34 = .ok (.istore_n 2, 1) := dk_61 (dk_at dksX3_post_1 11 rfl rfl)
theorem dX3_post_35 : decode cX3_post 35 = .ok (.iconst 0, 1) := dk_3 (dk_at dksX3_post_1 12 rfl rfl)
theorem dX3_post_36 : decode cX3_post 36 = .ok (.istore_n 3, 1) := dk_62 (dk_at dksX3_post_1 13 rfl rfl)
theorem dX3_post_37 : decode cX3_post 37 = .ok (.iload_n 3, 1) := dk_29 (dk_at dksX3_post_1 14 rfl rfl)
theorem dX3_post_38 : decode cX3_post 38 = .ok (.iload_n 1, 1) := dk_27 (dk_at dksX3_post_1 15 rfl rfl)
theorem dX3_post_39 : decode cX3_post 39 = .ok (.if_icmp .ge 75, 3) := dk_162 0 75 (dk_at dksX3_post_1 16 rfl rfl)
theorem dX3_post_42 : decode cX3_post 42 = .ok (.aload_n 0, 1) := dk_42 (dk_at dksX3_post_1 19 rfl rfl)
theorem dX3_post_43 : decode cX3_post 43 = .ok (.aload_n 0, 1) := dk_42 (dk_at dksX3_post_1 20 rfl rfl)
theorem dX3_post_44 : decode cX3_post 44 = .ok (.getfield 73, 3) := dk_180 0 73 (dk_at dksX3_post_1 21 rfl rfl)
theorem dX3_post_47 : decode cX3_post 47 = .ok (.invokevirtual 323, 3) := dk_182 1 67 (dk_at dksX3_post_2 0 rfl rfl)
theorem dX3_post_50 : decode cX3_post 50 = .ok (.istore 4, 2) := dk_54 4 (dk_at dksX3_post_2 3 rfl rfl)
theorem dX3_post_52 : decode cX3_post 52 = .ok (.aload_n 0, 1) := dk_42 (dk_at dksX3_post_2 5 rfl rfl)
theorem dX3_post_53 : decode cX3_post 53 = .ok (.getfield 39, 3) := dk_180 0 39 (dk_at dksX3_post_2 6 rfl rfl)
theorem dX3_post_56 : decode cX3_post 56 = .ok (.iload 4, 2) := dk_21 4 (dk_at dksX3_post_2 9 rfl rfl)
theorem dX3_post_58 : decode cX3_post 58 = .ok (.aaload, 1) := dk_50 (dk_at dksX3_post_2 11 rfl rfl)
theorem dX3_post_59 : decode cX3_post 59 = .ok (.iconst 0, 1) := dk_3 (dk_at dksX3_post_2 12 rfl rfl)
theorem dX3_post_60 : decode cX3_post 60 = .ok (.iaload, 1) := dk_46 (dk_at dksX3_post_2 13 rfl rfl)
theorem dX3_post_61 : decode cX3_post 61 = .ok (.aload_n 0, 1) := dk_42 (dk_at dksX3_post_2 14 rfl rfl)
theorem dX3_post_62 : decode cX3_post 62 = .ok (.bipush 21, 2) := dk_16 21 (dk_at dksX3_post_2 15 rfl rfl)
theorem dX3_post_64 : decode cX3_post 64 = .ok (.invokevirtual 323, 3) := dk_182 1 67 (dk_at dksX3_post_2 17 rfl rfl)
theorem dX3_post_67 : decode cX3_post 67 = .ok (.iadd, 1) := dk_96 (dk_at dksX3_post_2 20 rfl rfl)
theorem dX3_post_68 : decode cX3_post 68 = .ok (.bipush 10, 2) := dk_16 10 (dk_at dksX3_post_2 21 rfl rfl)
theorem dX3_post_70 : decode cX3_post 70 = .ok (.isub, 1) := dk_100 (dk_at dksX3_post_2 23 rfl rfl)
theorem dX3_post_71 : decode cX3_post 71 = .ok (.bipush 100, 2) := dk_16 100 (dk_at dksX3_post_3 0 rfl rfl)
theorem dX3_post_73 : decode cX3_post 73 = .ok (.invokestatic 290, 3) := dk_184 1 34 (dk_at dksX3_post_3 2 rfl rfl)
theorem dX3_post_76 : decode cX3_post 76 = .ok (.istore 5, 2) := dk_54 5 (dk_at dksX3_post_3 5 rfl rfl)
theorem dX3_post_78 : decode cX3_post 78 = .ok (.iload_n 2, 1) := dk_28 (dk_at dksX3_post_3 7 rfl rfl)
theorem dX3_post_79 : decode cX3_post 79 = .ok (.aload_n 0, 1) := dk_42 (dk_at dksX3_post_3 8 rfl rfl)
theorem dX3_post_80 : decode cX3_post 80 = .ok (.getfield 39, 3) := dk_180 0 39 (dk_at dksX3_post_3 9 rfl rfl)
theorem dX3_post_83 : decode cX3_post 83 = .ok (.iload 4, 2) := dk_21 4 (dk_at dksX3_post_3 12 rfl rfl)
theorem dX3_post_85 : decode cX3_post 85 = .ok (.aaload, 1) := dk_50 (dk_at dksX3_post_3 14 rfl rfl)
theorem dX3_post_86 : decode cX3_post 86 = .ok (.iconst 5, 1) := dk_8 (dk_at dksX3_post_3 15 rfl rfl)
theorem dX3_post_87 : decode cX3_post 87 = .ok (.iaload, 1) := dk_46 (dk_at dksX3_post_3 16 rfl rfl)
theorem dX3_post_88 : decode cX3_post 88 = .ok (.bipush 99, 2) := dk_16 99 (dk_at dksX3_post_3 17 rfl rfl)
theorem dX3_post_90 : decode cX3_post 90 = .ok (.if_icmp .ge 7, 3) := dk_162 0 7 (dk_at dksX3_post_3 19 rfl rfl)
theorem dX3_post_93 : decode cX3_post 93 = .ok (.iconst 1, 1) := dk_4 (dk_at dksX3_post_3 22 rfl rfl)
theorem dX3_post_94 : decode cX3_post 94 = .ok (.goto 4, 3) := dk_167 0 4 (dk_at dksX3_post_4 0 rfl rfl)
theorem dX3_post_97 : decode cX3_post 97 = .ok (.iconst 0, 1) := dk_3 (dk_at dksX3_post_4 3 rfl rfl)
theorem dX3_post_98 : decode cX3_post 98 = .ok (.iadd, 1) := dk_96 (dk_at dksX3_post_4 4 rfl rfl)
theorem dX3_post_99 : decode cX3_post 99 = .ok (.istore_n 2, 1) := dk_61 (dk_at dksX3_post_4 5 rfl rfl)
theorem dX3_post_100 : decode cX3_post 100 = .ok (.aload_n 0, 1) := dk_42 (dk_at dksX3_post_4 6 rfl rfl)
theorem dX3_post_101 : decode cX3_post 101 = .ok (.iload 4, 2) := dk_21 4 (dk_at dksX3_post_4 7 rfl rfl)
theorem dX3_post_103 : decode cX3_post 103 = .ok (.iload 5, 2) := dk_21 5 (dk_at dksX3_post_4 9 rfl rfl)
theorem dX3_post_105 : decode cX3_post 105 = .ok (.invokevirtual 141, 3) := dk_182 0 141 (dk_at dksX3_post_4 11 rfl rfl)
theorem dX3_post_108 : decode cX3_post 108 = .ok (.iinc 3 1, 3) := dk_132 3 1 (dk_at dksX3_post_4 14 rfl rfl)
theorem dX3_post_111 : decode cX3_post 111 = .ok (.goto (-74), 3) := dk_167 255 182 (dk_at dksX3_post_4 17 rfl rfl)
theorem dX3_post_114 : decode cX3_post 114 = .ok (.iload_n 2, 1) := dk_28 (dk_at dksX3_post_4 20 rfl rfl)
theorem dX3_post_115 : decode cX3_post 115 = .ok (.ireturn, 1) := dk_172 (dk_at dksX3_post_4 21 rfl rfl)
abbrev cX3_draw : ByteArray := prog_16_method_100_code
def yX3_draw : MethodName := ⟨RX3, "draw", "(I)I"⟩
def dkwX3_draw_1 : List UInt8 := [112, 172]
abbrev dktX3_draw_1 : List UInt8 := dkwX3_draw_1 ++ []
def dkwX3_draw_0 : List UInt8 := [42, 42, 180, 0, 45, 19, 1, 66, 104, 17, 48, 57, 96, 181, 0, 45, 42, 180, 0, 45, 16, 16, 124, 27]
abbrev dktX3_draw_0 : List UInt8 := dkwX3_draw_0 ++ dktX3_draw_1
theorem dksX3_draw_0 : cX3_draw.data.toList.drop 0 = dktX3_draw_0 := by decide +kernel
theorem dksX3_draw_1 : cX3_draw.data.toList.drop 24 = dktX3_draw_1 := dk_seg dksX3_draw_0 24 rfl rfl
theorem dX3_draw_0 : decode cX3_draw 0 = .ok (.aload_n 0, 1) := dk_42 (dk_at dksX3_draw_0 0 rfl rfl)
theorem dX3_draw_1 : decode cX3_draw 1 = .ok (.aload_n 0, 1) := dk_42 (dk_at dksX3_draw_0 1 rfl rfl)
theorem dX3_draw_2 : decode cX3_draw 2 = .ok (.getfield 45, 3) := dk_180 0 45 (dk_at dksX3_draw_0 2 rfl rfl)
theorem dX3_draw_5 : decode cX3_draw 5 = .ok (.ldc_w 322, 3) := dk_19 1 66 (dk_at dksX3_draw_0 5 rfl rfl)
theorem dX3_draw_8 : decode cX3_draw 8 = .ok (.imul, 1) := dk_104 (dk_at dksX3_draw_0 8 rfl rfl)
theorem dX3_draw_9 : decode cX3_draw 9 = .ok (.sipush 12345, 3) := dk_17 48 57 (dk_at dksX3_draw_0 9 rfl rfl)
theorem dX3_draw_12 : decode cX3_draw 12 = .ok (.iadd, 1) := dk_96 (dk_at dksX3_draw_0 12 rfl rfl)
theorem dX3_draw_13 : decode cX3_draw 13 = .ok (.putfield 45, 3) := dk_181 0 45 (dk_at dksX3_draw_0 13 rfl rfl)
theorem dX3_draw_16 : decode cX3_draw 16 = .ok (.aload_n 0, 1) := dk_42 (dk_at dksX3_draw_0 16 rfl rfl)
theorem dX3_draw_17 : decode cX3_draw 17 = .ok (.getfield 45, 3) := dk_180 0 45 (dk_at dksX3_draw_0 17 rfl rfl)
theorem dX3_draw_20 : decode cX3_draw 20 = .ok (.bipush 16, 2) := dk_16 16 (dk_at dksX3_draw_0 20 rfl rfl)
theorem dX3_draw_22 : decode cX3_draw 22 = .ok (.iushr, 1) := dk_124 (dk_at dksX3_draw_0 22 rfl rfl)
theorem dX3_draw_23 : decode cX3_draw 23 = .ok (.iload_n 1, 1) := dk_27 (dk_at dksX3_draw_0 23 rfl rfl)
theorem dX3_draw_24 : decode cX3_draw 24 = .ok (.irem, 1) := dk_112 (dk_at dksX3_draw_1 0 rfl rfl)
theorem dX3_draw_25 : decode cX3_draw 25 = .ok (.ireturn, 1) := dk_172 (dk_at dksX3_draw_1 1 rfl rfl)
abbrev cX3_seed : ByteArray := prog_16_method_102_code
def yX3_seed : MethodName := ⟨RX3, "seed", "(I)I"⟩
def dkwX3_seed_0 : List UInt8 := [42, 180, 0, 45, 61, 42, 27, 181, 0, 45, 28, 172]
abbrev dktX3_seed_0 : List UInt8 := dkwX3_seed_0 ++ []
theorem dksX3_seed_0 : cX3_seed.data.toList.drop 0 = dktX3_seed_0 := by decide +kernel
theorem dX3_seed_0 : decode cX3_seed 0 = .ok (.aload_n 0, 1) := dk_42 (dk_at dksX3_seed_0 0 rfl rfl)
theorem dX3_seed_1 : decode cX3_seed 1 = .ok (.getfield 45, 3) := dk_180 0 45 (dk_at dksX3_seed_0 1 rfl rfl)
theorem dX3_seed_4 : decode cX3_seed 4 = .ok (.istore_n 2, 1) := dk_61 (dk_at dksX3_seed_0 4 rfl rfl)
theorem dX3_seed_5 : decode cX3_seed 5 = .ok (.aload_n 0, 1) := dk_42 (dk_at dksX3_seed_0 5 rfl rfl)
theorem dX3_seed_6 : decode cX3_seed 6 = .ok (.iload_n 1, 1) := dk_27 (dk_at dksX3_seed_0 6 rfl rfl)
theorem dX3_seed_7 : decode cX3_seed 7 = .ok (.putfield 45, 3) := dk_181 0 45 (dk_at dksX3_seed_0 7 rfl rfl)
theorem dX3_seed_10 : decode cX3_seed 10 = .ok (.iload_n 2, 1) := dk_28 (dk_at dksX3_seed_0 10 rfl rfl)
theorem dX3_seed_11 : decode cX3_seed 11 = .ok (.ireturn, 1) := dk_172 (dk_at dksX3_seed_0 11 rfl rfl)
abbrev cX3_image : ByteArray := prog_16_method_106_code
def yX3_image : MethodName := ⟨RX3, "image", "()I"⟩
def dkwX3_image_1 : List UInt8 := [182, 0, 234, 4, 172]
abbrev dktX3_image_1 : List UInt8 := dkwX3_image_1 ++ []
def dkwX3_image_0 : List UInt8 := [42, 180, 1, 79, 199, 0, 14, 42, 187, 0, 8, 89, 183, 1, 74, 181, 1, 79, 42, 180, 1, 79, 42]
abbrev dktX3_image_0 : List UInt8 := dkwX3_image_0 ++ dktX3_image_1
theorem dksX3_image_0 : cX3_image.data.toList.drop 0 = dktX3_image_0 := by decide +kernel
theorem dksX3_image_1 : cX3_image.data.toList.drop 23 = dktX3_image_1 := dk_seg dksX3_image_0 23 rfl rfl
theorem dX3_image_0 : decode cX3_image 0 = .ok (.aload_n 0, 1) := dk_42 (dk_at dksX3_image_0 0 rfl rfl)
theorem dX3_image_1 : decode cX3_image 1 = .ok (.getfield 335, 3) := dk_180 1 79 (dk_at dksX3_image_0 1 rfl rfl)
theorem dX3_image_4 : decode cX3_image 4 = .ok (.ifnonnull 14, 3) := dk_199 0 14 (dk_at dksX3_image_0 4 rfl rfl)
theorem dX3_image_7 : decode cX3_image 7 = .ok (.aload_n 0, 1) := dk_42 (dk_at dksX3_image_0 7 rfl rfl)
theorem dX3_image_8 : decode cX3_image 8 = .ok (.new 8, 3) := dk_187 0 8 (dk_at dksX3_image_0 8 rfl rfl)
theorem dX3_image_11 : decode cX3_image 11 = .ok (.dup, 1) := dk_89 (dk_at dksX3_image_0 11 rfl rfl)
theorem dX3_image_12 : decode cX3_image 12 = .ok (.invokespecial 330, 3) := dk_183 1 74 (dk_at dksX3_image_0 12 rfl rfl)
theorem dX3_image_15 : decode cX3_image 15 = .ok (.putfield 335, 3) := dk_181 1 79 (dk_at dksX3_image_0 15 rfl rfl)
theorem dX3_image_18 : decode cX3_image 18 = .ok (.aload_n 0, 1) := dk_42 (dk_at dksX3_image_0 18 rfl rfl)
theorem dX3_image_19 : decode cX3_image 19 = .ok (.getfield 335, 3) := dk_180 1 79 (dk_at dksX3_image_0 19 rfl rfl)
theorem dX3_image_22 : decode cX3_image 22 = .ok (.aload_n 0, 1) := dk_42 (dk_at dksX3_image_0 22 rfl rfl)
theorem dX3_image_23 : decode cX3_image 23 = .ok (.invokevirtual 234, 3) := dk_182 0 234 (dk_at dksX3_image_1 0 rfl rfl)
theorem dX3_image_26 : decode cX3_image 26 = .ok (.iconst 1, 1) := dk_4 (dk_at dksX3_image_1 3 rfl rfl)
theorem dX3_image_27 : decode cX3_image 27 = .ok (.ireturn, 1) := dk_172 (dk_at dksX3_image_1 4 rfl rfl)
abbrev cX3_back : ByteArray := prog_16_method_107_code
def yX3_back : MethodName := ⟨RX3, "back", "()I"⟩
def dkwX3_back_2 : List UInt8 := [180, 0, 80, 161, 0, 10, 42, 180, 0, 7, 27, 3, 79, 132, 1, 1, 167, 255, 217, 4, 172]
abbrev dktX3_back_2 : List UInt8 := dkwX3_back_2 ++ []
def dkwX3_back_1 : List UInt8 := [27, 16, 8, 162, 0, 39, 42, 180, 0, 7, 27, 46, 5, 160, 0, 23, 42, 180, 0, 28, 27, 46, 42]
abbrev dktX3_back_1 : List UInt8 := dkwX3_back_1 ++ dktX3_back_2
def dkwX3_back_0 : List UInt8 := [42, 180, 1, 79, 199, 0, 10, 42, 16, 251, 182, 0, 91, 172, 42, 42, 180, 1, 79, 182, 0, 234, 3, 60]
abbrev dktX3_back_0 : List UInt8 := dkwX3_back_0 ++ dktX3_back_1
theorem dksX3_back_0 : cX3_back.data.toList.drop 0 = dktX3_back_0 := by decide +kernel
theorem dksX3_back_1 : cX3_back.data.toList.drop 24 = dktX3_back_1 := dk_seg dksX3_back_0 24 rfl rfl
theorem dksX3_back_2 : cX3_back.data.toList.drop 47 = dktX3_back_2 := dk_seg dksX3_back_1 23 rfl rfl
theorem dX3_back_0 : decode cX3_back 0 = .ok (.aload_n 0, 1) := dk_42 (dk_at dksX3_back_0 0 rfl rfl)
theorem dX3_back_1 : decode cX3_back 1 = .ok (.getfield 335, 3) := dk_180 1 79 (dk_at dksX3_back_0 1 rfl rfl)
theorem dX3_back_4 : decode cX3_back 4 = .ok (.ifnonnull 10, 3) := dk_199 0 10 (dk_at dksX3_back_0 4 rfl rfl)
theorem dX3_back_7 : decode cX3_back 7 = .ok (.aload_n 0, 1) := dk_42 (dk_at dksX3_back_0 7 rfl rfl)
theorem dX3_back_8 : decode cX3_back 8 = .ok (.bipush (-5), 2) := dk_16 251 (dk_at dksX3_back_0 8 rfl rfl)
theorem dX3_back_10 : decode cX3_back 10 = .ok (.invokevirtual 91, 3) := dk_182 0 91 (dk_at dksX3_back_0 10 rfl rfl)
theorem dX3_back_13 : decode cX3_back 13 = .ok (.ireturn, 1) := dk_172 (dk_at dksX3_back_0 13 rfl rfl)
theorem dX3_back_14 : decode cX3_back 14 = .ok (.aload_n 0, 1) := dk_42 (dk_at dksX3_back_0 14 rfl rfl)
theorem dX3_back_15 : decode cX3_back 15 = .ok (.aload_n 0, 1) := dk_42 (dk_at dksX3_back_0 15 rfl rfl)
theorem dX3_back_16 : decode cX3_back 16 = .ok (.getfield 335, 3) := dk_180 1 79 (dk_at dksX3_back_0 16 rfl rfl)
theorem dX3_back_19 : decode cX3_back 19 = .ok (.invokevirtual 234, 3) := dk_182 0 234 (dk_at dksX3_back_0 19 rfl rfl)
theorem dX3_back_22 : decode cX3_back 22 = .ok (.iconst 0, 1) := dk_3 (dk_at dksX3_back_0 22 rfl rfl)
theorem dX3_back_23 : decode cX3_back 23 = .ok (.istore_n 1, 1) := dk_60 (dk_at dksX3_back_0 23 rfl rfl)
theorem dX3_back_24 : decode cX3_back 24 = .ok (.iload_n 1, 1) := dk_27 (dk_at dksX3_back_1 0 rfl rfl)
theorem dX3_back_25 : decode cX3_back 25 = .ok (.bipush 8, 2) := dk_16 8 (dk_at dksX3_back_1 1 rfl rfl)
theorem dX3_back_27 : decode cX3_back 27 = .ok (.if_icmp .ge 39, 3) := dk_162 0 39 (dk_at dksX3_back_1 3 rfl rfl)
theorem dX3_back_30 : decode cX3_back 30 = .ok (.aload_n 0, 1) := dk_42 (dk_at dksX3_back_1 6 rfl rfl)
theorem dX3_back_31 : decode cX3_back 31 = .ok (.getfield 7, 3) := dk_180 0 7 (dk_at dksX3_back_1 7 rfl rfl)
theorem dX3_back_34 : decode cX3_back 34 = .ok (.iload_n 1, 1) := dk_27 (dk_at dksX3_back_1 10 rfl rfl)
theorem dX3_back_35 : decode cX3_back 35 = .ok (.iaload, 1) := dk_46 (dk_at dksX3_back_1 11 rfl rfl)
theorem dX3_back_36 : decode cX3_back 36 = .ok (.iconst 2, 1) := dk_5 (dk_at dksX3_back_1 12 rfl rfl)
theorem dX3_back_37 : decode cX3_back 37 = .ok (.if_icmp .ne 23, 3) := dk_160 0 23 (dk_at dksX3_back_1 13 rfl rfl)
theorem dX3_back_40 : decode cX3_back 40 = .ok (.aload_n 0, 1) := dk_42 (dk_at dksX3_back_1 16 rfl rfl)
theorem dX3_back_41 : decode cX3_back 41 = .ok (.getfield 28, 3) := dk_180 0 28 (dk_at dksX3_back_1 17 rfl rfl)
theorem dX3_back_44 : decode cX3_back 44 = .ok (.iload_n 1, 1) := dk_27 (dk_at dksX3_back_1 20 rfl rfl)
theorem dX3_back_45 : decode cX3_back 45 = .ok (.iaload, 1) := dk_46 (dk_at dksX3_back_1 21 rfl rfl)
theorem dX3_back_46 : decode cX3_back 46 = .ok (.aload_n 0, 1) := dk_42 (dk_at dksX3_back_1 22 rfl rfl)
theorem dX3_back_47 : decode cX3_back 47 = .ok (.getfield 80, 3) := dk_180 0 80 (dk_at dksX3_back_2 0 rfl rfl)
theorem dX3_back_50 : decode cX3_back 50 = .ok (.if_icmp .lt 10, 3) := dk_161 0 10 (dk_at dksX3_back_2 3 rfl rfl)
theorem dX3_back_53 : decode cX3_back 53 = .ok (.aload_n 0, 1) := dk_42 (dk_at dksX3_back_2 6 rfl rfl)
theorem dX3_back_54 : decode cX3_back 54 = .ok (.getfield 7, 3) := dk_180 0 7 (dk_at dksX3_back_2 7 rfl rfl)
theorem dX3_back_57 : decode cX3_back 57 = .ok (.iload_n 1, 1) := dk_27 (dk_at dksX3_back_2 10 rfl rfl)
theorem dX3_back_58 : decode cX3_back 58 = .ok (.iconst 0, 1) := dk_3 (dk_at dksX3_back_2 11 rfl rfl)
theorem dX3_back_59 : decode cX3_back 59 = .ok (.iastore, 1) := dk_79 (dk_at dksX3_back_2 12 rfl rfl)
theorem dX3_back_60 : decode cX3_back 60 = .ok (.iinc 1 1, 3) := dk_132 1 1 (dk_at dksX3_back_2 13 rfl rfl)
theorem dX3_back_63 : decode cX3_back 63 = .ok (.goto (-39), 3) := dk_167 255 217 (dk_at dksX3_back_2 16 rfl rfl)
theorem dX3_back_66 : decode cX3_back 66 = .ok (.iconst 1, 1) := dk_4 (dk_at dksX3_back_2 19 rfl rfl)
theorem dX3_back_67 : decode cX3_back 67 = .ok (.ireturn, 1) := dk_172 (dk_at dksX3_back_2 20 rfl rfl)
abbrev cX3_status : ByteArray := prog_16_method_108_code
def yX3_status : MethodName := ⟨RX3, "status", "(I)I"⟩
def dkwX3_status_9 : List UInt8 := [20, 1, 82, 184, 0, 76, 153, 0, 15, 42, 180, 0, 34, 27, 16, 10, 100, 46, 167, 0, 4, 2, 172]
abbrev dktX3_status_9 : List UInt8 := dkwX3_status_9 ++ []
def dkwX3_status_8 : List UInt8 := [46, 153, 0, 7, 4, 167, 0, 4, 3, 96, 61, 132, 3, 1, 167, 255, 230, 28, 172, 27, 133, 20, 0, 83]
abbrev dktX3_status_8 : List UInt8 := dkwX3_status_8 ++ dktX3_status_9
def dkwX3_status_7 : List UInt8 := [42, 180, 0, 147, 172, 42, 180, 0, 45, 172, 3, 62, 29, 16, 8, 162, 0, 26, 28, 42, 180, 0, 7, 29]
abbrev dktX3_status_7 : List UInt8 := dkwX3_status_7 ++ dktX3_status_8
def dkwX3_status_6 : List UInt8 := [28, 42, 180, 0, 42, 29, 50, 4, 46, 96, 61, 132, 3, 1, 167, 255, 234, 28, 172, 42, 180, 1, 37, 172]
abbrev dktX3_status_6 : List UInt8 := dkwX3_status_6 ++ dktX3_status_7
def dkwX3_status_5 : List UInt8 := [29, 50, 5, 46, 96, 61, 132, 3, 1, 167, 255, 234, 28, 172, 3, 62, 29, 42, 180, 0, 80, 162, 0, 20]
abbrev dktX3_status_5 : List UInt8 := dkwX3_status_5 ++ dktX3_status_6
def dkwX3_status_4 : List UInt8 := [61, 132, 3, 1, 167, 255, 223, 28, 172, 3, 62, 29, 42, 180, 0, 73, 162, 0, 20, 28, 42, 180, 0, 39]
abbrev dktX3_status_4 : List UInt8 := dkwX3_status_4 ++ dktX3_status_5
def dkwX3_status_3 : List UInt8 := [162, 0, 31, 28, 42, 180, 0, 39, 29, 50, 7, 46, 2, 159, 0, 9, 4, 29, 120, 167, 0, 4, 3, 128]
abbrev dktX3_status_3 : List UInt8 := dkwX3_status_3 ++ dktX3_status_4
def dkwX3_status_2 : List UInt8 := [42, 180, 0, 73, 172, 42, 180, 0, 80, 172, 42, 180, 0, 132, 172, 3, 62, 29, 42, 180, 0, 73]
abbrev dktX3_status_2 : List UInt8 := dkwX3_status_2 ++ dktX3_status_3
def dkwX3_status_1 : List UInt8 := [170, 0, 0, 0, 214, 0, 0, 0, 0, 0, 0, 0, 9, 0, 0, 0, 53, 0, 0, 0, 58, 0, 0, 0, 63, 0, 0, 0, 68, 0, 0, 0, 108, 0, 0, 0, 137, 0, 0, 0, 166, 0, 0, 0, 171, 0, 0, 0, 176, 0, 0, 0, 181]
abbrev dktX3_status_1 : List UInt8 := dkwX3_status_1 ++ dktX3_status_2
def dkwX3_status_0 : List UInt8 := [3, 61, 27]
abbrev dktX3_status_0 : List UInt8 := dkwX3_status_0 ++ dktX3_status_1
theorem dksX3_status_0 : cX3_status.data.toList.drop 0 = dktX3_status_0 := by decide +kernel
theorem dksX3_status_1 : cX3_status.data.toList.drop 3 = dktX3_status_1 := dk_seg dksX3_status_0 3 rfl rfl
theorem dksX3_status_2 : cX3_status.data.toList.drop 56 = dktX3_status_2 := dk_seg dksX3_status_1 53 rfl rfl
theorem dksX3_status_3 : cX3_status.data.toList.drop 78 = dktX3_status_3 := dk_seg dksX3_status_2 22 rfl rfl
theorem dksX3_status_4 : cX3_status.data.toList.drop 102 = dktX3_status_4 := dk_seg dksX3_status_3 24 rfl rfl
theorem dksX3_status_5 : cX3_status.data.toList.drop 126 = dktX3_status_5 := dk_seg dksX3_status_4 24 rfl rfl
theorem dksX3_status_6 : cX3_status.data.toList.drop 150 = dktX3_status_6 := dk_seg dksX3_status_5 24 rfl rfl
theorem dksX3_status_7 : cX3_status.data.toList.drop 174 = dktX3_status_7 := dk_seg dksX3_status_6 24 rfl rfl
theorem dksX3_status_8 : cX3_status.data.toList.drop 198 = dktX3_status_8 := dk_seg dksX3_status_7 24 rfl rfl
theorem dksX3_status_9 : cX3_status.data.toList.drop 222 = dktX3_status_9 := dk_seg dksX3_status_8 24 rfl rfl
theorem dX3_status_0 : decode cX3_status 0 = .ok (.iconst 0, 1) := dk_3 (dk_at dksX3_status_0 0 rfl rfl)
theorem dX3_status_1 : decode cX3_status 1 = .ok (.istore_n 2, 1) := dk_61 (dk_at dksX3_status_0 1 rfl rfl)
theorem dX3_status_2 : decode cX3_status 2 = .ok (.iload_n 1, 1) := dk_27 (dk_at dksX3_status_0 2 rfl rfl)
theorem dX3_status_3 : decode cX3_status 3 = .ok (.tableswitch 214 0 9 #[53, 58, 63, 68, 108, 137, 166, 171, 176, 181], 53) := by decide +kernel
theorem dX3_status_56 : decode cX3_status 56 = .ok (.aload_n 0, 1) := dk_42 (dk_at dksX3_status_2 0 rfl rfl)
theorem dX3_status_57 : decode cX3_status 57 = .ok (.getfield 73, 3) := dk_180 0 73 (dk_at dksX3_status_2 1 rfl rfl)
theorem dX3_status_60 : decode cX3_status 60 = .ok (.ireturn, 1) := dk_172 (dk_at dksX3_status_2 4 rfl rfl)
theorem dX3_status_61 : decode cX3_status 61 = .ok (.aload_n 0, 1) := dk_42 (dk_at dksX3_status_2 5 rfl rfl)
theorem dX3_status_62 : decode cX3_status 62 = .ok (.getfield 80, 3) := dk_180 0 80 (dk_at dksX3_status_2 6 rfl rfl)
theorem dX3_status_65 : decode cX3_status 65 = .ok (.ireturn, 1) := dk_172 (dk_at dksX3_status_2 9 rfl rfl)
theorem dX3_status_66 : decode cX3_status 66 = .ok (.aload_n 0, 1) := dk_42 (dk_at dksX3_status_2 10 rfl rfl)
theorem dX3_status_67 : decode cX3_status 67 = .ok (.getfield 132, 3) := dk_180 0 132 (dk_at dksX3_status_2 11 rfl rfl)
theorem dX3_status_70 : decode cX3_status 70 = .ok (.ireturn, 1) := dk_172 (dk_at dksX3_status_2 14 rfl rfl)
theorem dX3_status_71 : decode cX3_status 71 = .ok (.iconst 0, 1) := dk_3 (dk_at dksX3_status_2 15 rfl rfl)
theorem dX3_status_72 : decode cX3_status 72 = .ok (.istore_n 3, 1) := dk_62 (dk_at dksX3_status_2 16 rfl rfl)
theorem dX3_status_73 : decode cX3_status 73 = .ok (.iload_n 3, 1) := dk_29 (dk_at dksX3_status_2 17 rfl rfl)
theorem dX3_status_74 : decode cX3_status 74 = .ok (.aload_n 0, 1) := dk_42 (dk_at dksX3_status_2 18 rfl rfl)
theorem dX3_status_75 : decode cX3_status 75 = .ok (.getfield 73, 3) := dk_180 0 73 (dk_at dksX3_status_2 19 rfl rfl)
theorem dX3_status_78 : decode cX3_status 78 = .ok (.if_icmp .ge 31, 3) := dk_162 0 31 (dk_at dksX3_status_3 0 rfl rfl)
theorem dX3_status_81 : decode cX3_status 81 = .ok (.iload_n 2, 1) := dk_28 (dk_at dksX3_status_3 3 rfl rfl)
theorem dX3_status_82 : decode cX3_status 82 = .ok (.aload_n 0, 1) := dk_42 (dk_at dksX3_status_3 4 rfl rfl)
theorem dX3_status_83 : decode cX3_status 83 = .ok (.getfield 39, 3) := dk_180 0 39 (dk_at dksX3_status_3 5 rfl rfl)
theorem dX3_status_86 : decode cX3_status 86 = .ok (.iload_n 3, 1) := dk_29 (dk_at dksX3_status_3 8 rfl rfl)
theorem dX3_status_87 : decode cX3_status 87 = .ok (.aaload, 1) := dk_50 (dk_at dksX3_status_3 9 rfl rfl)
theorem dX3_status_88 : decode cX3_status 88 = .ok (.iconst 4, 1) := dk_7 (dk_at dksX3_status_3 10 rfl rfl)
theorem dX3_status_89 : decode cX3_status 89 = .ok (.iaload, 1) := dk_46 (dk_at dksX3_status_3 11 rfl rfl)
theorem dX3_status_90 : decode cX3_status 90 = .ok (.iconst (-1), 1) := dk_2 (dk_at dksX3_status_3 12 rfl rfl)
theorem dX3_status_91 : decode cX3_status 91 = .ok (.if_icmp .eq 9, 3) := dk_159 0 9 (dk_at dksX3_status_3 13 rfl rfl)
theorem dX3_status_94 : decode cX3_status 94 = .ok (.iconst 1, 1) := dk_4 (dk_at dksX3_status_3 16 rfl rfl)
theorem dX3_status_95 : decode cX3_status 95 = .ok (.iload_n 3, 1) := dk_29 (dk_at dksX3_status_3 17 rfl rfl)
theorem dX3_status_96 : decode cX3_status 96 = .ok (.ishl, 1) := dk_120 (dk_at dksX3_status_3 18 rfl rfl)
theorem dX3_status_97 : decode cX3_status 97 = .ok (.goto 4, 3) := dk_167 0 4 (dk_at dksX3_status_3 19 rfl rfl)
theorem dX3_status_100 : decode cX3_status 100 = .ok (.iconst 0, 1) := dk_3 (dk_at dksX3_status_3 22 rfl rfl)
theorem dX3_status_101 : decode cX3_status 101 = .ok (.ior, 1) := dk_128 (dk_at dksX3_status_3 23 rfl rfl)
theorem dX3_status_102 : decode cX3_status 102 = .ok (.istore_n 2, 1) := dk_61 (dk_at dksX3_status_4 0 rfl rfl)
theorem dX3_status_103 : decode cX3_status 103 = .ok (.iinc 3 1, 3) := dk_132 3 1 (dk_at dksX3_status_4 1 rfl rfl)
theorem dX3_status_106 : decode cX3_status 106 = .ok (.goto (-33), 3) := dk_167 255 223 (dk_at dksX3_status_4 4 rfl rfl)
theorem dX3_status_109 : decode cX3_status 109 = .ok (.iload_n 2, 1) := dk_28 (dk_at dksX3_status_4 7 rfl rfl)
theorem dX3_status_110 : decode cX3_status 110 = .ok (.ireturn, 1) := dk_172 (dk_at dksX3_status_4 8 rfl rfl)
theorem dX3_status_111 : decode cX3_status 111 = .ok (.iconst 0, 1) := dk_3 (dk_at dksX3_status_4 9 rfl rfl)
theorem dX3_status_112 : decode cX3_status 112 = .ok (.istore_n 3, 1) := dk_62 (dk_at dksX3_status_4 10 rfl rfl)
theorem dX3_status_113 : decode cX3_status 113 = .ok (.iload_n 3, 1) := dk_29 (dk_at dksX3_status_4 11 rfl rfl)
theorem dX3_status_114 : decode cX3_status 114 = .ok (.aload_n 0, 1) := dk_42 (dk_at dksX3_status_4 12 rfl rfl)
theorem dX3_status_115 : decode cX3_status 115 = .ok (.getfield 73, 3) := dk_180 0 73 (dk_at dksX3_status_4 13 rfl rfl)
theorem dX3_status_118 : decode cX3_status 118 = .ok (.if_icmp .ge 20, 3) := dk_162 0 20 (dk_at dksX3_status_4 16 rfl rfl)
theorem dX3_status_121 : decode cX3_status 121 = .ok (.iload_n 2, 1) := dk_28 (dk_at dksX3_status_4 19 rfl rfl)
theorem dX3_status_122 : decode cX3_status 122 = .ok (.aload_n 0, 1) := dk_42 (dk_at dksX3_status_4 20 rfl rfl)
theorem dX3_status_123 : decode cX3_status 123 = .ok (.getfield 39, 3) := dk_180 0 39 (dk_at dksX3_status_4 21 rfl rfl)
theorem dX3_status_126 : decode cX3_status 126 = .ok (.iload_n 3, 1) := dk_29 (dk_at dksX3_status_5 0 rfl rfl)
theorem dX3_status_127 : decode cX3_status 127 = .ok (.aaload, 1) := dk_50 (dk_at dksX3_status_5 1 rfl rfl)
theorem dX3_status_128 : decode cX3_status 128 = .ok (.iconst 2, 1) := dk_5 (dk_at dksX3_status_5 2 rfl rfl)
theorem dX3_status_129 : decode cX3_status 129 = .ok (.iaload, 1) := dk_46 (dk_at dksX3_status_5 3 rfl rfl)
theorem dX3_status_130 : decode cX3_status 130 = .ok (.iadd, 1) := dk_96 (dk_at dksX3_status_5 4 rfl rfl)
theorem dX3_status_131 : decode cX3_status 131 = .ok (.istore_n 2, 1) := dk_61 (dk_at dksX3_status_5 5 rfl rfl)
theorem dX3_status_132 : decode cX3_status 132 = .ok (.iinc 3 1, 3) := dk_132 3 1 (dk_at dksX3_status_5 6 rfl rfl)
theorem dX3_status_135 : decode cX3_status 135 = .ok (.goto (-22), 3) := dk_167 255 234 (dk_at dksX3_status_5 9 rfl rfl)
theorem dX3_status_138 : decode cX3_status 138 = .ok (.iload_n 2, 1) := dk_28 (dk_at dksX3_status_5 12 rfl rfl)
theorem dX3_status_139 : decode cX3_status 139 = .ok (.ireturn, 1) := dk_172 (dk_at dksX3_status_5 13 rfl rfl)
theorem dX3_status_140 : decode cX3_status 140 = .ok (.iconst 0, 1) := dk_3 (dk_at dksX3_status_5 14 rfl rfl)
theorem dX3_status_141 : decode cX3_status 141 = .ok (.istore_n 3, 1) := dk_62 (dk_at dksX3_status_5 15 rfl rfl)
theorem dX3_status_142 : decode cX3_status 142 = .ok (.iload_n 3, 1) := dk_29 (dk_at dksX3_status_5 16 rfl rfl)
theorem dX3_status_143 : decode cX3_status 143 = .ok (.aload_n 0, 1) := dk_42 (dk_at dksX3_status_5 17 rfl rfl)
theorem dX3_status_144 : decode cX3_status 144 = .ok (.getfield 80, 3) := dk_180 0 80 (dk_at dksX3_status_5 18 rfl rfl)
theorem dX3_status_147 : decode cX3_status 147 = .ok (.if_icmp .ge 20, 3) := dk_162 0 20 (dk_at dksX3_status_5 21 rfl rfl)
theorem dX3_status_150 : decode cX3_status 150 = .ok (.iload_n 2, 1) := dk_28 (dk_at dksX3_status_6 0 rfl rfl)
theorem dX3_status_151 : decode cX3_status 151 = .ok (.aload_n 0, 1) := dk_42 (dk_at dksX3_status_6 1 rfl rfl)
theorem dX3_status_152 : decode cX3_status 152 = .ok (.getfield 42, 3) := dk_180 0 42 (dk_at dksX3_status_6 2 rfl rfl)
theorem dX3_status_155 : decode cX3_status 155 = .ok (.iload_n 3, 1) := dk_29 (dk_at dksX3_status_6 5 rfl rfl)
theorem dX3_status_156 : decode cX3_status 156 = .ok (.aaload, 1) := dk_50 (dk_at dksX3_status_6 6 rfl rfl)
theorem dX3_status_157 : decode cX3_status 157 = .ok (.iconst 1, 1) := dk_4 (dk_at dksX3_status_6 7 rfl rfl)
theorem dX3_status_158 : decode cX3_status 158 = .ok (.iaload, 1) := dk_46 (dk_at dksX3_status_6 8 rfl rfl)
theorem dX3_status_159 : decode cX3_status 159 = .ok (.iadd, 1) := dk_96 (dk_at dksX3_status_6 9 rfl rfl)
theorem dX3_status_160 : decode cX3_status 160 = .ok (.istore_n 2, 1) := dk_61 (dk_at dksX3_status_6 10 rfl rfl)
theorem dX3_status_161 : decode cX3_status 161 = .ok (.iinc 3 1, 3) := dk_132 3 1 (dk_at dksX3_status_6 11 rfl rfl)
theorem dX3_status_164 : decode cX3_status 164 = .ok (.goto (-22), 3) := dk_167 255 234 (dk_at dksX3_status_6 14 rfl rfl)
theorem dX3_status_167 : decode cX3_status 167 = .ok (.iload_n 2, 1) := dk_28 (dk_at dksX3_status_6 17 rfl rfl)
theorem dX3_status_168 : decode cX3_status 168 = .ok (.ireturn, 1) := dk_172 (dk_at dksX3_status_6 18 rfl rfl)
theorem dX3_status_169 : decode cX3_status 169 = .ok (.aload_n 0, 1) := dk_42 (dk_at dksX3_status_6 19 rfl rfl)
theorem dX3_status_170 : decode cX3_status 170 = .ok (.getfield 293, 3) := dk_180 1 37 (dk_at dksX3_status_6 20 rfl rfl)
theorem dX3_status_173 : decode cX3_status 173 = .ok (.ireturn, 1) := dk_172 (dk_at dksX3_status_6 23 rfl rfl)
theorem dX3_status_174 : decode cX3_status 174 = .ok (.aload_n 0, 1) := dk_42 (dk_at dksX3_status_7 0 rfl rfl)
theorem dX3_status_175 : decode cX3_status 175 = .ok (.getfield 147, 3) := dk_180 0 147 (dk_at dksX3_status_7 1 rfl rfl)
theorem dX3_status_178 : decode cX3_status 178 = .ok (.ireturn, 1) := dk_172 (dk_at dksX3_status_7 4 rfl rfl)
theorem dX3_status_179 : decode cX3_status 179 = .ok (.aload_n 0, 1) := dk_42 (dk_at dksX3_status_7 5 rfl rfl)
theorem dX3_status_180 : decode cX3_status 180 = .ok (.getfield 45, 3) := dk_180 0 45 (dk_at dksX3_status_7 6 rfl rfl)
theorem dX3_status_183 : decode cX3_status 183 = .ok (.ireturn, 1) := dk_172 (dk_at dksX3_status_7 9 rfl rfl)
theorem dX3_status_184 : decode cX3_status 184 = .ok (.iconst 0, 1) := dk_3 (dk_at dksX3_status_7 10 rfl rfl)
theorem dX3_status_185 : decode cX3_status 185 = .ok (.istore_n 3, 1) := dk_62 (dk_at dksX3_status_7 11 rfl rfl)
theorem dX3_status_186 : decode cX3_status 186 = .ok (.iload_n 3, 1) := dk_29 (dk_at dksX3_status_7 12 rfl rfl)
theorem dX3_status_187 : decode cX3_status 187 = .ok (.bipush 8, 2) := dk_16 8 (dk_at dksX3_status_7 13 rfl rfl)
theorem dX3_status_189 : decode cX3_status 189 = .ok (.if_icmp .ge 26, 3) := dk_162 0 26 (dk_at dksX3_status_7 15 rfl rfl)
theorem dX3_status_192 : decode cX3_status 192 = .ok (.iload_n 2, 1) := dk_28 (dk_at dksX3_status_7 18 rfl rfl)
theorem dX3_status_193 : decode cX3_status 193 = .ok (.aload_n 0, 1) := dk_42 (dk_at dksX3_status_7 19 rfl rfl)
theorem dX3_status_194 : decode cX3_status 194 = .ok (.getfield 7, 3) := dk_180 0 7 (dk_at dksX3_status_7 20 rfl rfl)
theorem dX3_status_197 : decode cX3_status 197 = .ok (.iload_n 3, 1) := dk_29 (dk_at dksX3_status_7 23 rfl rfl)
theorem dX3_status_198 : decode cX3_status 198 = .ok (.iaload, 1) := dk_46 (dk_at dksX3_status_8 0 rfl rfl)
theorem dX3_status_199 : decode cX3_status 199 = .ok (.ifCond .eq 7, 3) := dk_153 0 7 (dk_at dksX3_status_8 1 rfl rfl)
theorem dX3_status_202 : decode cX3_status 202 = .ok (.iconst 1, 1) := dk_4 (dk_at dksX3_status_8 4 rfl rfl)
theorem dX3_status_203 : decode cX3_status 203 = .ok (.goto 4, 3) := dk_167 0 4 (dk_at dksX3_status_8 5 rfl rfl)
theorem dX3_status_206 : decode cX3_status 206 = .ok (.iconst 0, 1) := dk_3 (dk_at dksX3_status_8 8 rfl rfl)
theorem dX3_status_207 : decode cX3_status 207 = .ok (.iadd, 1) := dk_96 (dk_at dksX3_status_8 9 rfl rfl)
theorem dX3_status_208 : decode cX3_status 208 = .ok (.istore_n 2, 1) := dk_61 (dk_at dksX3_status_8 10 rfl rfl)
theorem dX3_status_209 : decode cX3_status 209 = .ok (.iinc 3 1, 3) := dk_132 3 1 (dk_at dksX3_status_8 11 rfl rfl)
theorem dX3_status_212 : decode cX3_status 212 = .ok (.goto (-26), 3) := dk_167 255 230 (dk_at dksX3_status_8 14 rfl rfl)
theorem dX3_status_215 : decode cX3_status 215 = .ok (.iload_n 2, 1) := dk_28 (dk_at dksX3_status_8 17 rfl rfl)
theorem dX3_status_216 : decode cX3_status 216 = .ok (.ireturn, 1) := dk_172 (dk_at dksX3_status_8 18 rfl rfl)
theorem dX3_status_217 : decode cX3_status 217 = .ok (.iload_n 1, 1) := dk_27 (dk_at dksX3_status_8 19 rfl rfl)
theorem dX3_status_218 : decode cX3_status 218 = .ok (.i2l, 1) := dk_133 (dk_at dksX3_status_8 20 rfl rfl)
theorem dX3_status_219 : decode cX3_status 219 = .ok (.ldc2_w 83, 3) := dk_20 0 83 (dk_at dksX3_status_8 21 rfl rfl)
theorem dX3_status_222 : decode cX3_status 222 = .ok (.ldc2_w 338, 3) := dk_20 1 82 (dk_at dksX3_status_9 0 rfl rfl)
theorem dX3_status_225 : decode cX3_status 225 = .ok (.invokestatic 76, 3) := dk_184 0 76 (dk_at dksX3_status_9 3 rfl rfl)
theorem dX3_status_228 : decode cX3_status 228 = .ok (.ifCond .eq 15, 3) := dk_153 0 15 (dk_at dksX3_status_9 6 rfl rfl)
theorem dX3_status_231 : decode cX3_status 231 = .ok (.aload_n 0, 1) := dk_42 (dk_at dksX3_status_9 9 rfl rfl)
theorem dX3_status_232 : decode cX3_status 232 = .ok (.getfield 34, 3) := dk_180 0 34 (dk_at dksX3_status_9 10 rfl rfl)
theorem dX3_status_235 : decode cX3_status 235 = .ok (.iload_n 1, 1) := dk_27 (dk_at dksX3_status_9 13 rfl rfl)
theorem dX3_status_236 : decode cX3_status 236 = .ok (.bipush 10, 2) := dk_16 10 (dk_at dksX3_status_9 14 rfl rfl)
theorem dX3_status_238 : decode cX3_status 238 = .ok (.isub, 1) := dk_100 (dk_at dksX3_status_9 16 rfl rfl)
theorem dX3_status_239 : decode cX3_status 239 = .ok (.iaload, 1) := dk_46 (dk_at dksX3_status_9 17 rfl rfl)
theorem dX3_status_240 : decode cX3_status 240 = .ok (.goto 4, 3) := dk_167 0 4 (dk_at dksX3_status_9 18 rfl rfl)
theorem dX3_status_243 : decode cX3_status 243 = .ok (.iconst (-1), 1) := dk_2 (dk_at dksX3_status_9 21 rfl rfl)
theorem dX3_status_244 : decode cX3_status 244 = .ok (.ireturn, 1) := dk_172 (dk_at dksX3_status_9 22 rfl rfl)
theorem q79 : (Jvm.Cond.initialized "EverybodyHasTheBookModel") ∈ lw_all := lw_g (lw_at lw_m1 4 rfl) rfl
theorem q1451 : (Jvm.Cond.instantiable "EverybodyHasTheBookModel" (34 : Nat)) ∈ lw_all := lw_g (lw_at lw_m6 176 rfl) rfl
theorem q1453 : (Jvm.Cond.instanceMethod ({ cls := "EverybodyHasTheBookModel", name := "<init>", desc := "()V" } : Jvm.MethodName)) ∈ lw_all := lw_g (lw_at lw_m6 178 rfl) rfl
theorem q1454 : (Jvm.Cond.code ({ cls := "EverybodyHasTheBookModel", name := "<init>", desc := "()V" } : Jvm.MethodName) prog_16_method_1_code (1 : Nat) (Option.none : Option Jvm.ClassFile.FieldType)) ∈ lw_all := lw_g (lw_at lw_m6 179 rfl) rfl
theorem q1455 : (Jvm.Cond.methodLink "EverybodyHasTheBookModel" (1 : Nat) ({ cls := "java/lang/Object", name := "<init>", desc := "()V" } : Jvm.MethodName)) ∈ lw_all := lw_g (lw_at lw_m6 180 rfl) rfl
theorem q1456 : (Jvm.Cond.classLink "EverybodyHasTheBookModel" (19 : Nat) "[[J") ∈ lw_all := lw_g (lw_at lw_m6 181 rfl) rfl
theorem q1458 : (Jvm.Cond.classLink "EverybodyHasTheBookModel" (37 : Nat) "[[I") ∈ lw_all := lw_g (lw_at lw_m6 183 rfl) rfl
theorem q1459 : (Jvm.Cond.fieldLink "EverybodyHasTheBookModel" (7 : Nat) "EverybodyHasTheBookModel" "shelf" "[I") ∈ lw_all := lw_g (lw_at lw_m6 184 rfl) rfl
theorem q1460 : (Jvm.Cond.fieldLink "EverybodyHasTheBookModel" (13 : Nat) "EverybodyHasTheBookModel" "rowSort" "[I") ∈ lw_all := lw_g (lw_at lw_m6 185 rfl) rfl
theorem q1461 : (Jvm.Cond.fieldLink "EverybodyHasTheBookModel" (16 : Nat) "EverybodyHasTheBookModel" "rowSize" "[I") ∈ lw_all := lw_g (lw_at lw_m6 186 rfl) rfl
theorem q1462 : (Jvm.Cond.fieldLink "EverybodyHasTheBookModel" (21 : Nat) "EverybodyHasTheBookModel" "rows" "[[J") ∈ lw_all := lw_g (lw_at lw_m6 187 rfl) rfl
theorem q1463 : (Jvm.Cond.fieldLink "EverybodyHasTheBookModel" (24 : Nat) "EverybodyHasTheBookModel" "moved" "[J") ∈ lw_all := lw_g (lw_at lw_m6 188 rfl) rfl
theorem q1464 : (Jvm.Cond.fieldLink "EverybodyHasTheBookModel" (28 : Nat) "EverybodyHasTheBookModel" "shown" "[I") ∈ lw_all := lw_g (lw_at lw_m6 189 rfl) rfl
theorem q1465 : (Jvm.Cond.fieldLink "EverybodyHasTheBookModel" (31 : Nat) "EverybodyHasTheBookModel" "tape" "[I") ∈ lw_all := lw_g (lw_at lw_m6 190 rfl) rfl
theorem q1466 : (Jvm.Cond.fieldLink "EverybodyHasTheBookModel" (147 : Nat) "EverybodyHasTheBookModel" "tapeSize" "I") ∈ lw_all := lw_g (lw_at lw_m6 191 rfl) rfl
theorem q1467 : (Jvm.Cond.fieldLink "EverybodyHasTheBookModel" (34 : Nat) "EverybodyHasTheBookModel" "refused" "[I") ∈ lw_all := lw_g (lw_at lw_m6 192 rfl) rfl
theorem q1468 : (Jvm.Cond.fieldLink "EverybodyHasTheBookModel" (73 : Nat) "EverybodyHasTheBookModel" "inns" "I") ∈ lw_all := lw_g (lw_at lw_m6 193 rfl) rfl
theorem q1469 : (Jvm.Cond.fieldLink "EverybodyHasTheBookModel" (39 : Nat) "EverybodyHasTheBookModel" "inn" "[[I") ∈ lw_all := lw_g (lw_at lw_m6 194 rfl) rfl
theorem q1470 : (Jvm.Cond.fieldLink "EverybodyHasTheBookModel" (80 : Nat) "EverybodyHasTheBookModel" "goers" "I") ∈ lw_all := lw_g (lw_at lw_m6 195 rfl) rfl
theorem q1471 : (Jvm.Cond.fieldLink "EverybodyHasTheBookModel" (42 : Nat) "EverybodyHasTheBookModel" "goer" "[[I") ∈ lw_all := lw_g (lw_at lw_m6 196 rfl) rfl
theorem q1472 : (Jvm.Cond.fieldLink "EverybodyHasTheBookModel" (132 : Nat) "EverybodyHasTheBookModel" "age" "I") ∈ lw_all := lw_g (lw_at lw_m6 197 rfl) rfl
theorem q1473 : (Jvm.Cond.fieldLink "EverybodyHasTheBookModel" (293 : Nat) "EverybodyHasTheBookModel" "yearsGone" "I") ∈ lw_all := lw_g (lw_at lw_m6 198 rfl) rfl
theorem q1474 : (Jvm.Cond.fieldLink "EverybodyHasTheBookModel" (45 : Nat) "EverybodyHasTheBookModel" "seed" "I") ∈ lw_all := lw_g (lw_at lw_m6 199 rfl) rfl
theorem q1475 : (Jvm.Cond.fieldLink "EverybodyHasTheBookModel" (335 : Nat) "EverybodyHasTheBookModel" "kept" "LEverybodyHasTheBookModel;") ∈ lw_all := lw_g (lw_at lw_m6 200 rfl) rfl
theorem q1476 : (Jvm.Cond.fieldLink "EverybodyHasTheBookModel" (326 : Nat) "EverybodyHasTheBookModel" "tried" "LEverybodyHasTheBookModel;") ∈ lw_all := lw_g (lw_at lw_m6 201 rfl) rfl
theorem q1477 : (Jvm.Cond.fieldLink "EverybodyHasTheBookModel" (150 : Nat) "EverybodyHasTheBookModel" "at" "I") ∈ lw_all := lw_g (lw_at lw_m6 202 rfl) rfl
theorem q1478 : (Jvm.Cond.fieldLink "EverybodyHasTheBookModel" (159 : Nat) "EverybodyHasTheBookModel" "token" "I") ∈ lw_all := lw_g (lw_at lw_m6 203 rfl) rfl
theorem q1479 : (Jvm.Cond.fieldLink "EverybodyHasTheBookModel" (153 : Nat) "EverybodyHasTheBookModel" "from" "I") ∈ lw_all := lw_g (lw_at lw_m6 204 rfl) rfl
theorem q1480 : (Jvm.Cond.fieldLink "EverybodyHasTheBookModel" (156 : Nat) "EverybodyHasTheBookModel" "figures" "I") ∈ lw_all := lw_g (lw_at lw_m6 205 rfl) rfl
theorem q1481 : (Jvm.Cond.fieldLink "EverybodyHasTheBookModel" (169 : Nat) "EverybodyHasTheBookModel" "fault" "I") ∈ lw_all := lw_g (lw_at lw_m6 206 rfl) rfl
theorem q1482 : (Jvm.Cond.fieldLink "EverybodyHasTheBookModel" (49 : Nat) "EverybodyHasTheBookModel" "told" "[I") ∈ lw_all := lw_g (lw_at lw_m6 207 rfl) rfl
theorem q1483 : (Jvm.Cond.fieldLink "EverybodyHasTheBookModel" (221 : Nat) "EverybodyHasTheBookModel" "statements" "I") ∈ lw_all := lw_g (lw_at lw_m6 208 rfl) rfl
theorem q1484 : (Jvm.Cond.fieldLink "EverybodyHasTheBookModel" (52 : Nat) "EverybodyHasTheBookModel" "sleeps" "[[I") ∈ lw_all := lw_g (lw_at lw_m6 209 rfl) rfl
theorem q1485 : (Jvm.Cond.fieldLink "EverybodyHasTheBookModel" (55 : Nat) "EverybodyHasTheBookModel" "out" "[I") ∈ lw_all := lw_g (lw_at lw_m6 210 rfl) rfl
theorem q1486 : (Jvm.Cond.fieldLink "EverybodyHasTheBookModel" (58 : Nat) "EverybodyHasTheBookModel" "left" "[I") ∈ lw_all := lw_g (lw_at lw_m6 211 rfl) rfl
theorem q1487 : (Jvm.Cond.fieldLink "EverybodyHasTheBookModel" (61 : Nat) "EverybodyHasTheBookModel" "saidNow" "[I") ∈ lw_all := lw_g (lw_at lw_m6 212 rfl) rfl
theorem q1488 : (Jvm.Cond.fieldLink "EverybodyHasTheBookModel" (287 : Nat) "EverybodyHasTheBookModel" "thisJoy" "I") ∈ lw_all := lw_g (lw_at lw_m6 213 rfl) rfl
theorem q1489 : (Jvm.Cond.fieldLink "EverybodyHasTheBookModel" (64 : Nat) "EverybodyHasTheBookModel" "joys" "[I") ∈ lw_all := lw_g (lw_at lw_m6 214 rfl) rfl
theorem q1490 : (Jvm.Cond.fieldLink "EverybodyHasTheBookModel" (67 : Nat) "EverybodyHasTheBookModel" "yearJoy" "[I") ∈ lw_all := lw_g (lw_at lw_m6 215 rfl) rfl
theorem q1491 : (Jvm.Cond.fieldLink "EverybodyHasTheBookModel" (308 : Nat) "EverybodyHasTheBookModel" "bestJoy" "I") ∈ lw_all := lw_g (lw_at lw_m6 216 rfl) rfl
theorem q1492 : (Jvm.Cond.fieldLink "EverybodyHasTheBookModel" (70 : Nat) "EverybodyHasTheBookModel" "bestRound" "[I") ∈ lw_all := lw_g (lw_at lw_m6 217 rfl) rfl
theorem q1493 : (Jvm.Cond.laysFinal "EverybodyHasTheBookModel" "EverybodyHasTheBookModel" "shelf" "[I") ∈ lw_all := lw_g (lw_at lw_m6 218 rfl) rfl
theorem q1494 : (Jvm.Cond.soleField "EverybodyHasTheBookModel" "shelf") ∈ lw_all := lw_g (lw_at lw_m6 219 rfl) rfl
theorem q1495 : (Jvm.Cond.laysFinal "EverybodyHasTheBookModel" "EverybodyHasTheBookModel" "rowSort" "[I") ∈ lw_all := lw_g (lw_at lw_m6 220 rfl) rfl
theorem q1496 : (Jvm.Cond.soleField "EverybodyHasTheBookModel" "rowSort") ∈ lw_all := lw_g (lw_at lw_m6 221 rfl) rfl
theorem q1497 : (Jvm.Cond.laysFinal "EverybodyHasTheBookModel" "EverybodyHasTheBookModel" "rowSize" "[I") ∈ lw_all := lw_g (lw_at lw_m6 222 rfl) rfl
theorem q1498 : (Jvm.Cond.soleField "EverybodyHasTheBookModel" "rowSize") ∈ lw_all := lw_g (lw_at lw_m6 223 rfl) rfl
theorem q1499 : (Jvm.Cond.laysFinal "EverybodyHasTheBookModel" "EverybodyHasTheBookModel" "rows" "[[J") ∈ lw_all := lw_g (lw_at lw_m6 224 rfl) rfl
theorem q1500 : (Jvm.Cond.soleField "EverybodyHasTheBookModel" "rows") ∈ lw_all := lw_g (lw_at lw_m6 225 rfl) rfl
theorem q1501 : (Jvm.Cond.laysFinal "EverybodyHasTheBookModel" "EverybodyHasTheBookModel" "moved" "[J") ∈ lw_all := lw_g (lw_at lw_m6 226 rfl) rfl
theorem q1502 : (Jvm.Cond.soleField "EverybodyHasTheBookModel" "moved") ∈ lw_all := lw_g (lw_at lw_m6 227 rfl) rfl
theorem q1503 : (Jvm.Cond.laysFinal "EverybodyHasTheBookModel" "EverybodyHasTheBookModel" "shown" "[I") ∈ lw_all := lw_g (lw_at lw_m6 228 rfl) rfl
theorem q1504 : (Jvm.Cond.soleField "EverybodyHasTheBookModel" "shown") ∈ lw_all := lw_g (lw_at lw_m6 229 rfl) rfl
theorem q1505 : (Jvm.Cond.laysFinal "EverybodyHasTheBookModel" "EverybodyHasTheBookModel" "tape" "[I") ∈ lw_all := lw_g (lw_at lw_m6 230 rfl) rfl
theorem q1506 : (Jvm.Cond.soleField "EverybodyHasTheBookModel" "tape") ∈ lw_all := lw_g (lw_at lw_m6 231 rfl) rfl
theorem q1507 : (Jvm.Cond.lays "EverybodyHasTheBookModel" "EverybodyHasTheBookModel" "tapeSize" "I") ∈ lw_all := lw_g (lw_at lw_m6 232 rfl) rfl
theorem q1508 : (Jvm.Cond.soleField "EverybodyHasTheBookModel" "tapeSize") ∈ lw_all := lw_g (lw_at lw_m6 233 rfl) rfl
theorem q1509 : (Jvm.Cond.laysFinal "EverybodyHasTheBookModel" "EverybodyHasTheBookModel" "refused" "[I") ∈ lw_all := lw_g (lw_at lw_m6 234 rfl) rfl
theorem q1510 : (Jvm.Cond.soleField "EverybodyHasTheBookModel" "refused") ∈ lw_all := lw_g (lw_at lw_m6 235 rfl) rfl
theorem q1511 : (Jvm.Cond.lays "EverybodyHasTheBookModel" "EverybodyHasTheBookModel" "inns" "I") ∈ lw_all := lw_g (lw_at lw_m6 236 rfl) rfl
theorem q1512 : (Jvm.Cond.soleField "EverybodyHasTheBookModel" "inns") ∈ lw_all := lw_g (lw_at lw_m6 237 rfl) rfl
theorem q1513 : (Jvm.Cond.laysFinal "EverybodyHasTheBookModel" "EverybodyHasTheBookModel" "inn" "[[I") ∈ lw_all := lw_g (lw_at lw_m6 238 rfl) rfl
theorem q1514 : (Jvm.Cond.soleField "EverybodyHasTheBookModel" "inn") ∈ lw_all := lw_g (lw_at lw_m6 239 rfl) rfl
theorem q1515 : (Jvm.Cond.lays "EverybodyHasTheBookModel" "EverybodyHasTheBookModel" "goers" "I") ∈ lw_all := lw_g (lw_at lw_m7 0 rfl) rfl
theorem q1516 : (Jvm.Cond.soleField "EverybodyHasTheBookModel" "goers") ∈ lw_all := lw_g (lw_at lw_m7 1 rfl) rfl
theorem q1517 : (Jvm.Cond.laysFinal "EverybodyHasTheBookModel" "EverybodyHasTheBookModel" "goer" "[[I") ∈ lw_all := lw_g (lw_at lw_m7 2 rfl) rfl
theorem q1518 : (Jvm.Cond.soleField "EverybodyHasTheBookModel" "goer") ∈ lw_all := lw_g (lw_at lw_m7 3 rfl) rfl
theorem q1519 : (Jvm.Cond.lays "EverybodyHasTheBookModel" "EverybodyHasTheBookModel" "age" "I") ∈ lw_all := lw_g (lw_at lw_m7 4 rfl) rfl
theorem q1520 : (Jvm.Cond.soleField "EverybodyHasTheBookModel" "age") ∈ lw_all := lw_g (lw_at lw_m7 5 rfl) rfl
theorem q1521 : (Jvm.Cond.lays "EverybodyHasTheBookModel" "EverybodyHasTheBookModel" "yearsGone" "I") ∈ lw_all := lw_g (lw_at lw_m7 6 rfl) rfl
theorem q1522 : (Jvm.Cond.soleField "EverybodyHasTheBookModel" "yearsGone") ∈ lw_all := lw_g (lw_at lw_m7 7 rfl) rfl
theorem q1523 : (Jvm.Cond.lays "EverybodyHasTheBookModel" "EverybodyHasTheBookModel" "seed" "I") ∈ lw_all := lw_g (lw_at lw_m7 8 rfl) rfl
theorem q1524 : (Jvm.Cond.soleField "EverybodyHasTheBookModel" "seed") ∈ lw_all := lw_g (lw_at lw_m7 9 rfl) rfl
theorem q1525 : (Jvm.Cond.lays "EverybodyHasTheBookModel" "EverybodyHasTheBookModel" "kept" "LEverybodyHasTheBookModel;") ∈ lw_all := lw_g (lw_at lw_m7 10 rfl) rfl
theorem q1526 : (Jvm.Cond.soleField "EverybodyHasTheBookModel" "kept") ∈ lw_all := lw_g (lw_at lw_m7 11 rfl) rfl
theorem q1527 : (Jvm.Cond.lays "EverybodyHasTheBookModel" "EverybodyHasTheBookModel" "tried" "LEverybodyHasTheBookModel;") ∈ lw_all := lw_g (lw_at lw_m7 12 rfl) rfl
theorem q1528 : (Jvm.Cond.soleField "EverybodyHasTheBookModel" "tried") ∈ lw_all := lw_g (lw_at lw_m7 13 rfl) rfl
theorem q1529 : (Jvm.Cond.lays "EverybodyHasTheBookModel" "EverybodyHasTheBookModel" "at" "I") ∈ lw_all := lw_g (lw_at lw_m7 14 rfl) rfl
theorem q1530 : (Jvm.Cond.soleField "EverybodyHasTheBookModel" "at") ∈ lw_all := lw_g (lw_at lw_m7 15 rfl) rfl
theorem q1531 : (Jvm.Cond.lays "EverybodyHasTheBookModel" "EverybodyHasTheBookModel" "token" "I") ∈ lw_all := lw_g (lw_at lw_m7 16 rfl) rfl
theorem q1532 : (Jvm.Cond.soleField "EverybodyHasTheBookModel" "token") ∈ lw_all := lw_g (lw_at lw_m7 17 rfl) rfl
theorem q1533 : (Jvm.Cond.lays "EverybodyHasTheBookModel" "EverybodyHasTheBookModel" "from" "I") ∈ lw_all := lw_g (lw_at lw_m7 18 rfl) rfl
theorem q1534 : (Jvm.Cond.soleField "EverybodyHasTheBookModel" "from") ∈ lw_all := lw_g (lw_at lw_m7 19 rfl) rfl
theorem q1535 : (Jvm.Cond.lays "EverybodyHasTheBookModel" "EverybodyHasTheBookModel" "figures" "I") ∈ lw_all := lw_g (lw_at lw_m7 20 rfl) rfl
theorem q1536 : (Jvm.Cond.soleField "EverybodyHasTheBookModel" "figures") ∈ lw_all := lw_g (lw_at lw_m7 21 rfl) rfl
theorem q1537 : (Jvm.Cond.lays "EverybodyHasTheBookModel" "EverybodyHasTheBookModel" "fault" "I") ∈ lw_all := lw_g (lw_at lw_m7 22 rfl) rfl
theorem q1538 : (Jvm.Cond.soleField "EverybodyHasTheBookModel" "fault") ∈ lw_all := lw_g (lw_at lw_m7 23 rfl) rfl
theorem q1539 : (Jvm.Cond.laysFinal "EverybodyHasTheBookModel" "EverybodyHasTheBookModel" "told" "[I") ∈ lw_all := lw_g (lw_at lw_m7 24 rfl) rfl
theorem q1540 : (Jvm.Cond.soleField "EverybodyHasTheBookModel" "told") ∈ lw_all := lw_g (lw_at lw_m7 25 rfl) rfl
theorem q1541 : (Jvm.Cond.lays "EverybodyHasTheBookModel" "EverybodyHasTheBookModel" "statements" "I") ∈ lw_all := lw_g (lw_at lw_m7 26 rfl) rfl
theorem q1542 : (Jvm.Cond.soleField "EverybodyHasTheBookModel" "statements") ∈ lw_all := lw_g (lw_at lw_m7 27 rfl) rfl
theorem q1543 : (Jvm.Cond.laysFinal "EverybodyHasTheBookModel" "EverybodyHasTheBookModel" "sleeps" "[[I") ∈ lw_all := lw_g (lw_at lw_m7 28 rfl) rfl
theorem q1544 : (Jvm.Cond.soleField "EverybodyHasTheBookModel" "sleeps") ∈ lw_all := lw_g (lw_at lw_m7 29 rfl) rfl
theorem q1545 : (Jvm.Cond.laysFinal "EverybodyHasTheBookModel" "EverybodyHasTheBookModel" "out" "[I") ∈ lw_all := lw_g (lw_at lw_m7 30 rfl) rfl
theorem q1546 : (Jvm.Cond.soleField "EverybodyHasTheBookModel" "out") ∈ lw_all := lw_g (lw_at lw_m7 31 rfl) rfl
theorem q1547 : (Jvm.Cond.laysFinal "EverybodyHasTheBookModel" "EverybodyHasTheBookModel" "left" "[I") ∈ lw_all := lw_g (lw_at lw_m7 32 rfl) rfl
theorem q1548 : (Jvm.Cond.soleField "EverybodyHasTheBookModel" "left") ∈ lw_all := lw_g (lw_at lw_m7 33 rfl) rfl
theorem q1549 : (Jvm.Cond.laysFinal "EverybodyHasTheBookModel" "EverybodyHasTheBookModel" "saidNow" "[I") ∈ lw_all := lw_g (lw_at lw_m7 34 rfl) rfl
theorem q1550 : (Jvm.Cond.soleField "EverybodyHasTheBookModel" "saidNow") ∈ lw_all := lw_g (lw_at lw_m7 35 rfl) rfl
theorem q1551 : (Jvm.Cond.lays "EverybodyHasTheBookModel" "EverybodyHasTheBookModel" "thisJoy" "I") ∈ lw_all := lw_g (lw_at lw_m7 36 rfl) rfl
theorem q1552 : (Jvm.Cond.soleField "EverybodyHasTheBookModel" "thisJoy") ∈ lw_all := lw_g (lw_at lw_m7 37 rfl) rfl
theorem q1553 : (Jvm.Cond.laysFinal "EverybodyHasTheBookModel" "EverybodyHasTheBookModel" "joys" "[I") ∈ lw_all := lw_g (lw_at lw_m7 38 rfl) rfl
theorem q1554 : (Jvm.Cond.soleField "EverybodyHasTheBookModel" "joys") ∈ lw_all := lw_g (lw_at lw_m7 39 rfl) rfl
theorem q1555 : (Jvm.Cond.laysFinal "EverybodyHasTheBookModel" "EverybodyHasTheBookModel" "yearJoy" "[I") ∈ lw_all := lw_g (lw_at lw_m7 40 rfl) rfl
theorem q1556 : (Jvm.Cond.soleField "EverybodyHasTheBookModel" "yearJoy") ∈ lw_all := lw_g (lw_at lw_m7 41 rfl) rfl
theorem q1557 : (Jvm.Cond.lays "EverybodyHasTheBookModel" "EverybodyHasTheBookModel" "bestJoy" "I") ∈ lw_all := lw_g (lw_at lw_m7 42 rfl) rfl
theorem q1558 : (Jvm.Cond.soleField "EverybodyHasTheBookModel" "bestJoy") ∈ lw_all := lw_g (lw_at lw_m7 43 rfl) rfl
theorem q1559 : (Jvm.Cond.laysFinal "EverybodyHasTheBookModel" "EverybodyHasTheBookModel" "bestRound" "[I") ∈ lw_all := lw_g (lw_at lw_m7 44 rfl) rfl
theorem q1560 : (Jvm.Cond.soleField "EverybodyHasTheBookModel" "bestRound") ∈ lw_all := lw_g (lw_at lw_m7 45 rfl) rfl
theorem q1561 : (Jvm.Cond.superclass "EverybodyHasTheBookModel" "java/lang/Object") ∈ lw_all := lw_g (lw_at lw_m7 46 rfl) rfl
theorem q1563 : (Jvm.Cond.instanceMethod ({ cls := "EverybodyHasTheBookModel", name := "row", desc := "(III)I" } : Jvm.MethodName)) ∈ lw_all := lw_g (lw_at lw_m7 48 rfl) rfl
theorem q1564 : (Jvm.Cond.selects "EverybodyHasTheBookModel" ({ cls := "EverybodyHasTheBookModel", name := "row", desc := "(III)I" } : Jvm.MethodName) ({ cls := "EverybodyHasTheBookModel", name := "row", desc := "(III)I" } : Jvm.MethodName)) ∈ lw_all := lw_g (lw_at lw_m7 49 rfl) rfl
theorem q1565 : (Jvm.Cond.code ({ cls := "EverybodyHasTheBookModel", name := "row", desc := "(III)I" } : Jvm.MethodName) prog_16_method_8_code (5 : Nat) (Option.some Jvm.ClassFile.FieldType.int)) ∈ lw_all := lw_g (lw_at lw_m7 50 rfl) rfl
theorem q1566 : (Jvm.Cond.constantLong "EverybodyHasTheBookModel" (85 : Nat) (7 : Int64)) ∈ lw_all := lw_g (lw_at lw_m7 51 rfl) rfl
theorem q1567 : (Jvm.Cond.methodLink "EverybodyHasTheBookModel" (76 : Nat) ({ cls := "EverybodyHasTheBookModel", name := "in", desc := "(JJJ)Z" } : Jvm.MethodName)) ∈ lw_all := lw_g (lw_at lw_m7 52 rfl) rfl
theorem q1568 : (Jvm.Cond.static ({ cls := "EverybodyHasTheBookModel", name := "in", desc := "(JJJ)Z" } : Jvm.MethodName)) ∈ lw_all := lw_g (lw_at lw_m7 53 rfl) rfl
theorem q1569 : (Jvm.Cond.code ({ cls := "EverybodyHasTheBookModel", name := "in", desc := "(JJJ)Z" } : Jvm.MethodName) prog_16_method_3_code (6 : Nat) (Option.some Jvm.ClassFile.FieldType.boolean)) ∈ lw_all := lw_g (lw_at lw_m7 54 rfl) rfl
theorem q1570 : (Jvm.Cond.constantLong "EverybodyHasTheBookModel" (87 : Nat) (4 : Int64)) ∈ lw_all := lw_g (lw_at lw_m7 55 rfl) rfl
theorem q1571 : (Jvm.Cond.constantLong "EverybodyHasTheBookModel" (89 : Nat) (40 : Int64)) ∈ lw_all := lw_g (lw_at lw_m7 56 rfl) rfl
theorem q1572 : (Jvm.Cond.methodLink "EverybodyHasTheBookModel" (91 : Nat) ({ cls := "EverybodyHasTheBookModel", name := "refuse", desc := "(I)I" } : Jvm.MethodName)) ∈ lw_all := lw_g (lw_at lw_m7 57 rfl) rfl
theorem q1573 : (Jvm.Cond.privateMethod ({ cls := "EverybodyHasTheBookModel", name := "refuse", desc := "(I)I" } : Jvm.MethodName)) ∈ lw_tbl := lw_at lw_m7 58 rfl
theorem q1574 : (Jvm.Cond.instanceMethod ({ cls := "EverybodyHasTheBookModel", name := "refuse", desc := "(I)I" } : Jvm.MethodName)) ∈ lw_all := lw_g (lw_at lw_m7 59 rfl) rfl
theorem q1575 : (Jvm.Cond.code ({ cls := "EverybodyHasTheBookModel", name := "refuse", desc := "(I)I" } : Jvm.MethodName) prog_16_method_2_code (2 : Nat) (Option.some Jvm.ClassFile.FieldType.int)) ∈ lw_all := lw_g (lw_at lw_m7 60 rfl) rfl
theorem q1577 : (Jvm.Cond.instanceMethod ({ cls := "EverybodyHasTheBookModel", name := "set", desc := "(IIJ)I" } : Jvm.MethodName)) ∈ lw_all := lw_g (lw_at lw_m7 62 rfl) rfl
theorem q1578 : (Jvm.Cond.selects "EverybodyHasTheBookModel" ({ cls := "EverybodyHasTheBookModel", name := "set", desc := "(IIJ)I" } : Jvm.MethodName) ({ cls := "EverybodyHasTheBookModel", name := "set", desc := "(IIJ)I" } : Jvm.MethodName)) ∈ lw_all := lw_g (lw_at lw_m7 63 rfl) rfl
theorem q1579 : (Jvm.Cond.code ({ cls := "EverybodyHasTheBookModel", name := "set", desc := "(IIJ)I" } : Jvm.MethodName) prog_16_method_11_code (6 : Nat) (Option.some Jvm.ClassFile.FieldType.int)) ∈ lw_all := lw_g (lw_at lw_m7 64 rfl) rfl
theorem q1580 : (Jvm.Cond.methodLink "EverybodyHasTheBookModel" (95 : Nat) ({ cls := "EverybodyHasTheBookModel", name := "noRow", desc := "(I)I" } : Jvm.MethodName)) ∈ lw_all := lw_g (lw_at lw_m7 65 rfl) rfl
theorem q1581 : (Jvm.Cond.privateMethod ({ cls := "EverybodyHasTheBookModel", name := "noRow", desc := "(I)I" } : Jvm.MethodName)) ∈ lw_tbl := lw_at lw_m7 66 rfl
theorem q1582 : (Jvm.Cond.instanceMethod ({ cls := "EverybodyHasTheBookModel", name := "noRow", desc := "(I)I" } : Jvm.MethodName)) ∈ lw_all := lw_g (lw_at lw_m7 67 rfl) rfl
theorem q1583 : (Jvm.Cond.code ({ cls := "EverybodyHasTheBookModel", name := "noRow", desc := "(I)I" } : Jvm.MethodName) prog_16_method_10_code (2 : Nat) (Option.some Jvm.ClassFile.FieldType.int)) ∈ lw_all := lw_g (lw_at lw_m7 68 rfl) rfl
theorem q1584 : (Jvm.Cond.methodLink "EverybodyHasTheBookModel" (98 : Nat) ({ cls := "EverybodyHasTheBookModel", name := "fit", desc := "(IJ)J" } : Jvm.MethodName)) ∈ lw_all := lw_g (lw_at lw_m7 69 rfl) rfl
theorem q1585 : (Jvm.Cond.static ({ cls := "EverybodyHasTheBookModel", name := "fit", desc := "(IJ)J" } : Jvm.MethodName)) ∈ lw_all := lw_g (lw_at lw_m7 70 rfl) rfl
theorem q1586 : (Jvm.Cond.code ({ cls := "EverybodyHasTheBookModel", name := "fit", desc := "(IJ)J" } : Jvm.MethodName) prog_16_method_9_code (3 : Nat) (Option.some Jvm.ClassFile.FieldType.long)) ∈ lw_all := lw_g (lw_at lw_m7 71 rfl) rfl
theorem q1588 : (Jvm.Cond.instanceMethod ({ cls := "EverybodyHasTheBookModel", name := "copy", desc := "(IIIII)I" } : Jvm.MethodName)) ∈ lw_all := lw_g (lw_at lw_m7 73 rfl) rfl
theorem q1589 : (Jvm.Cond.selects "EverybodyHasTheBookModel" ({ cls := "EverybodyHasTheBookModel", name := "copy", desc := "(IIIII)I" } : Jvm.MethodName) ({ cls := "EverybodyHasTheBookModel", name := "copy", desc := "(IIIII)I" } : Jvm.MethodName)) ∈ lw_all := lw_g (lw_at lw_m7 74 rfl) rfl
theorem q1590 : (Jvm.Cond.code ({ cls := "EverybodyHasTheBookModel", name := "copy", desc := "(IIIII)I" } : Jvm.MethodName) prog_16_method_12_code (7 : Nat) (Option.some Jvm.ClassFile.FieldType.int)) ∈ lw_all := lw_g (lw_at lw_m7 75 rfl) rfl
theorem q1592 : (Jvm.Cond.instanceMethod ({ cls := "EverybodyHasTheBookModel", name := "element", desc := "(II)J" } : Jvm.MethodName)) ∈ lw_all := lw_g (lw_at lw_m7 77 rfl) rfl
theorem q1593 : (Jvm.Cond.selects "EverybodyHasTheBookModel" ({ cls := "EverybodyHasTheBookModel", name := "element", desc := "(II)J" } : Jvm.MethodName) ({ cls := "EverybodyHasTheBookModel", name := "element", desc := "(II)J" } : Jvm.MethodName)) ∈ lw_all := lw_g (lw_at lw_m7 78 rfl) rfl
theorem q1594 : (Jvm.Cond.code ({ cls := "EverybodyHasTheBookModel", name := "element", desc := "(II)J" } : Jvm.MethodName) prog_16_method_13_code (3 : Nat) (Option.some Jvm.ClassFile.FieldType.long)) ∈ lw_all := lw_g (lw_at lw_m7 79 rfl) rfl
theorem q1596 : (Jvm.Cond.instanceMethod ({ cls := "EverybodyHasTheBookModel", name := "holds", desc := "(I)I" } : Jvm.MethodName)) ∈ lw_all := lw_g (lw_at lw_m7 81 rfl) rfl
theorem q1597 : (Jvm.Cond.selects "EverybodyHasTheBookModel" ({ cls := "EverybodyHasTheBookModel", name := "holds", desc := "(I)I" } : Jvm.MethodName) ({ cls := "EverybodyHasTheBookModel", name := "holds", desc := "(I)I" } : Jvm.MethodName)) ∈ lw_all := lw_g (lw_at lw_m7 82 rfl) rfl
theorem q1598 : (Jvm.Cond.code ({ cls := "EverybodyHasTheBookModel", name := "holds", desc := "(I)I" } : Jvm.MethodName) prog_16_method_14_code (2 : Nat) (Option.some Jvm.ClassFile.FieldType.int)) ∈ lw_all := lw_g (lw_at lw_m7 83 rfl) rfl
theorem q1600 : (Jvm.Cond.instanceMethod ({ cls := "EverybodyHasTheBookModel", name := "show", desc := "(II)I" } : Jvm.MethodName)) ∈ lw_all := lw_g (lw_at lw_m7 85 rfl) rfl
theorem q1601 : (Jvm.Cond.selects "EverybodyHasTheBookModel" ({ cls := "EverybodyHasTheBookModel", name := "show", desc := "(II)I" } : Jvm.MethodName) ({ cls := "EverybodyHasTheBookModel", name := "show", desc := "(II)I" } : Jvm.MethodName)) ∈ lw_all := lw_g (lw_at lw_m7 86 rfl) rfl
theorem q1602 : (Jvm.Cond.code ({ cls := "EverybodyHasTheBookModel", name := "show", desc := "(II)I" } : Jvm.MethodName) prog_16_method_15_code (3 : Nat) (Option.some Jvm.ClassFile.FieldType.int)) ∈ lw_all := lw_g (lw_at lw_m7 87 rfl) rfl
theorem q1603 : (Jvm.Cond.methodLink "EverybodyHasTheBookModel" (102 : Nat) ({ cls := "EverybodyHasTheBookModel", name := "isGoer", desc := "(I)Z" } : Jvm.MethodName)) ∈ lw_all := lw_g (lw_at lw_m7 88 rfl) rfl
theorem q1604 : (Jvm.Cond.privateMethod ({ cls := "EverybodyHasTheBookModel", name := "isGoer", desc := "(I)Z" } : Jvm.MethodName)) ∈ lw_tbl := lw_at lw_m7 89 rfl
theorem q1605 : (Jvm.Cond.instanceMethod ({ cls := "EverybodyHasTheBookModel", name := "isGoer", desc := "(I)Z" } : Jvm.MethodName)) ∈ lw_all := lw_g (lw_at lw_m7 90 rfl) rfl
theorem q1606 : (Jvm.Cond.code ({ cls := "EverybodyHasTheBookModel", name := "isGoer", desc := "(I)Z" } : Jvm.MethodName) prog_16_method_6_code (2 : Nat) (Option.some Jvm.ClassFile.FieldType.boolean)) ∈ lw_all := lw_g (lw_at lw_m7 91 rfl) rfl
theorem q1608 : (Jvm.Cond.instanceMethod ({ cls := "EverybodyHasTheBookModel", name := "says", desc := "(II)I" } : Jvm.MethodName)) ∈ lw_all := lw_g (lw_at lw_m7 93 rfl) rfl
theorem q1609 : (Jvm.Cond.selects "EverybodyHasTheBookModel" ({ cls := "EverybodyHasTheBookModel", name := "says", desc := "(II)I" } : Jvm.MethodName) ({ cls := "EverybodyHasTheBookModel", name := "says", desc := "(II)I" } : Jvm.MethodName)) ∈ lw_all := lw_g (lw_at lw_m7 94 rfl) rfl
theorem q1610 : (Jvm.Cond.code ({ cls := "EverybodyHasTheBookModel", name := "says", desc := "(II)I" } : Jvm.MethodName) prog_16_method_17_code (3 : Nat) (Option.some Jvm.ClassFile.FieldType.int)) ∈ lw_all := lw_g (lw_at lw_m7 95 rfl) rfl
theorem q1611 : (Jvm.Cond.constantLong "EverybodyHasTheBookModel" (106 : Nat) (5 : Int64)) ∈ lw_all := lw_g (lw_at lw_m7 96 rfl) rfl
theorem q1612 : (Jvm.Cond.methodLink "EverybodyHasTheBookModel" (108 : Nat) ({ cls := "EverybodyHasTheBookModel", name := "isUnder", desc := "(II)Z" } : Jvm.MethodName)) ∈ lw_all := lw_g (lw_at lw_m7 97 rfl) rfl
theorem q1613 : (Jvm.Cond.static ({ cls := "EverybodyHasTheBookModel", name := "isUnder", desc := "(II)Z" } : Jvm.MethodName)) ∈ lw_all := lw_g (lw_at lw_m7 98 rfl) rfl
theorem q1614 : (Jvm.Cond.code ({ cls := "EverybodyHasTheBookModel", name := "isUnder", desc := "(II)Z" } : Jvm.MethodName) prog_16_method_16_code (2 : Nat) (Option.some Jvm.ClassFile.FieldType.boolean)) ∈ lw_all := lw_g (lw_at lw_m7 99 rfl) rfl
theorem q1615 : (Jvm.Cond.methodLink "EverybodyHasTheBookModel" (112 : Nat) ({ cls := "EverybodyHasTheBookModel", name := "choiceOf", desc := "(I)I" } : Jvm.MethodName)) ∈ lw_all := lw_g (lw_at lw_m7 100 rfl) rfl
theorem q1616 : (Jvm.Cond.privateMethod ({ cls := "EverybodyHasTheBookModel", name := "choiceOf", desc := "(I)I" } : Jvm.MethodName)) ∈ lw_tbl := lw_at lw_m7 101 rfl
theorem q1617 : (Jvm.Cond.instanceMethod ({ cls := "EverybodyHasTheBookModel", name := "choiceOf", desc := "(I)I" } : Jvm.MethodName)) ∈ lw_all := lw_g (lw_at lw_m7 102 rfl) rfl
theorem q1618 : (Jvm.Cond.code ({ cls := "EverybodyHasTheBookModel", name := "choiceOf", desc := "(I)I" } : Jvm.MethodName) prog_16_method_51_code (4 : Nat) (Option.some Jvm.ClassFile.FieldType.int)) ∈ lw_all := lw_g (lw_at lw_m7 103 rfl) rfl
theorem q1619 : (Jvm.Cond.methodLink "EverybodyHasTheBookModel" (248 : Nat) ({ cls := "EverybodyHasTheBookModel", name := "scoreOf", desc := "(II)I" } : Jvm.MethodName)) ∈ lw_all := lw_g (lw_at lw_m7 104 rfl) rfl
theorem q1620 : (Jvm.Cond.privateMethod ({ cls := "EverybodyHasTheBookModel", name := "scoreOf", desc := "(II)I" } : Jvm.MethodName)) ∈ lw_tbl := lw_at lw_m7 105 rfl
theorem q1621 : (Jvm.Cond.instanceMethod ({ cls := "EverybodyHasTheBookModel", name := "scoreOf", desc := "(II)I" } : Jvm.MethodName)) ∈ lw_all := lw_g (lw_at lw_m7 106 rfl) rfl
theorem q1622 : (Jvm.Cond.code ({ cls := "EverybodyHasTheBookModel", name := "scoreOf", desc := "(II)I" } : Jvm.MethodName) prog_16_method_49_code (3 : Nat) (Option.some Jvm.ClassFile.FieldType.int)) ∈ lw_all := lw_g (lw_at lw_m7 107 rfl) rfl
theorem q1623 : (Jvm.Cond.methodLink "EverybodyHasTheBookModel" (245 : Nat) ({ cls := "EverybodyHasTheBookModel", name := "scoreBy", desc := "(III)I" } : Jvm.MethodName)) ∈ lw_all := lw_g (lw_at lw_m7 108 rfl) rfl
theorem q1624 : (Jvm.Cond.privateMethod ({ cls := "EverybodyHasTheBookModel", name := "scoreBy", desc := "(III)I" } : Jvm.MethodName)) ∈ lw_tbl := lw_at lw_m7 109 rfl
theorem q1625 : (Jvm.Cond.instanceMethod ({ cls := "EverybodyHasTheBookModel", name := "scoreBy", desc := "(III)I" } : Jvm.MethodName)) ∈ lw_all := lw_g (lw_at lw_m7 110 rfl) rfl
theorem q1626 : (Jvm.Cond.code ({ cls := "EverybodyHasTheBookModel", name := "scoreBy", desc := "(III)I" } : Jvm.MethodName) prog_16_method_48_code (6 : Nat) (Option.some Jvm.ClassFile.FieldType.int)) ∈ lw_all := lw_g (lw_at lw_m7 111 rfl) rfl
theorem q1627 : (Jvm.Cond.methodLink "EverybodyHasTheBookModel" (242 : Nat) ({ cls := "EverybodyHasTheBookModel", name := "booked", desc := "(I)I" } : Jvm.MethodName)) ∈ lw_all := lw_g (lw_at lw_m7 112 rfl) rfl
theorem q1628 : (Jvm.Cond.privateMethod ({ cls := "EverybodyHasTheBookModel", name := "booked", desc := "(I)I" } : Jvm.MethodName)) ∈ lw_tbl := lw_at lw_m7 113 rfl
theorem q1629 : (Jvm.Cond.instanceMethod ({ cls := "EverybodyHasTheBookModel", name := "booked", desc := "(I)I" } : Jvm.MethodName)) ∈ lw_all := lw_g (lw_at lw_m7 114 rfl) rfl
theorem q1630 : (Jvm.Cond.code ({ cls := "EverybodyHasTheBookModel", name := "booked", desc := "(I)I" } : Jvm.MethodName) prog_16_method_47_code (3 : Nat) (Option.some Jvm.ClassFile.FieldType.int)) ∈ lw_all := lw_g (lw_at lw_m7 115 rfl) rfl
theorem q1632 : (Jvm.Cond.instanceMethod ({ cls := "EverybodyHasTheBookModel", name := "inn", desc := "(III)I" } : Jvm.MethodName)) ∈ lw_all := lw_g (lw_at lw_m7 117 rfl) rfl
theorem q1633 : (Jvm.Cond.selects "EverybodyHasTheBookModel" ({ cls := "EverybodyHasTheBookModel", name := "inn", desc := "(III)I" } : Jvm.MethodName) ({ cls := "EverybodyHasTheBookModel", name := "inn", desc := "(III)I" } : Jvm.MethodName)) ∈ lw_all := lw_g (lw_at lw_m7 118 rfl) rfl
theorem q1634 : (Jvm.Cond.code ({ cls := "EverybodyHasTheBookModel", name := "inn", desc := "(III)I" } : Jvm.MethodName) prog_16_method_19_code (4 : Nat) (Option.some Jvm.ClassFile.FieldType.int)) ∈ lw_all := lw_g (lw_at lw_m7 119 rfl) rfl
theorem q1635 : (Jvm.Cond.constantLong "EverybodyHasTheBookModel" (115 : Nat) (100 : Int64)) ∈ lw_all := lw_g (lw_at lw_m7 120 rfl) rfl
theorem q1636 : (Jvm.Cond.constantLong "EverybodyHasTheBookModel" (117 : Nat) (20 : Int64)) ∈ lw_all := lw_g (lw_at lw_m7 121 rfl) rfl
theorem q1637 : (Jvm.Cond.constantLong "EverybodyHasTheBookModel" (119 : Nat) (99 : Int64)) ∈ lw_all := lw_g (lw_at lw_m7 122 rfl) rfl
theorem q1638 : (Jvm.Cond.methodLink "EverybodyHasTheBookModel" (121 : Nat) ({ cls := "EverybodyHasTheBookModel", name := "addInn", desc := "(IIII)V" } : Jvm.MethodName)) ∈ lw_all := lw_g (lw_at lw_m7 123 rfl) rfl
theorem q1639 : (Jvm.Cond.privateMethod ({ cls := "EverybodyHasTheBookModel", name := "addInn", desc := "(IIII)V" } : Jvm.MethodName)) ∈ lw_tbl := lw_at lw_m7 124 rfl
theorem q1640 : (Jvm.Cond.instanceMethod ({ cls := "EverybodyHasTheBookModel", name := "addInn", desc := "(IIII)V" } : Jvm.MethodName)) ∈ lw_all := lw_g (lw_at lw_m7 125 rfl) rfl
theorem q1641 : (Jvm.Cond.code ({ cls := "EverybodyHasTheBookModel", name := "addInn", desc := "(IIII)V" } : Jvm.MethodName) prog_16_method_18_code (6 : Nat) (Option.none : Option Jvm.ClassFile.FieldType)) ∈ lw_all := lw_g (lw_at lw_m7 126 rfl) rfl
theorem q1643 : (Jvm.Cond.instanceMethod ({ cls := "EverybodyHasTheBookModel", name := "goer", desc := "(III)I" } : Jvm.MethodName)) ∈ lw_all := lw_g (lw_at lw_m7 128 rfl) rfl
theorem q1644 : (Jvm.Cond.selects "EverybodyHasTheBookModel" ({ cls := "EverybodyHasTheBookModel", name := "goer", desc := "(III)I" } : Jvm.MethodName) ({ cls := "EverybodyHasTheBookModel", name := "goer", desc := "(III)I" } : Jvm.MethodName)) ∈ lw_all := lw_g (lw_at lw_m7 129 rfl) rfl
theorem q1645 : (Jvm.Cond.code ({ cls := "EverybodyHasTheBookModel", name := "goer", desc := "(III)I" } : Jvm.MethodName) prog_16_method_20_code (4 : Nat) (Option.some Jvm.ClassFile.FieldType.int)) ∈ lw_all := lw_g (lw_at lw_m7 130 rfl) rfl
theorem q1646 : (Jvm.Cond.constantLong "EverybodyHasTheBookModel" (125 : Nat) (30 : Int64)) ∈ lw_all := lw_g (lw_at lw_m7 131 rfl) rfl
theorem q1648 : (Jvm.Cond.instanceMethod ({ cls := "EverybodyHasTheBookModel", name := "change", desc := "(III)I" } : Jvm.MethodName)) ∈ lw_all := lw_g (lw_at lw_m7 133 rfl) rfl
theorem q1649 : (Jvm.Cond.selects "EverybodyHasTheBookModel" ({ cls := "EverybodyHasTheBookModel", name := "change", desc := "(III)I" } : Jvm.MethodName) ({ cls := "EverybodyHasTheBookModel", name := "change", desc := "(III)I" } : Jvm.MethodName)) ∈ lw_all := lw_g (lw_at lw_m7 134 rfl) rfl
theorem q1650 : (Jvm.Cond.code ({ cls := "EverybodyHasTheBookModel", name := "change", desc := "(III)I" } : Jvm.MethodName) prog_16_method_21_code (6 : Nat) (Option.some Jvm.ClassFile.FieldType.int)) ∈ lw_all := lw_g (lw_at lw_m7 135 rfl) rfl
theorem q1651 : (Jvm.Cond.methodLink "EverybodyHasTheBookModel" (127 : Nat) ({ cls := "EverybodyHasTheBookModel", name := "isInn", desc := "(I)Z" } : Jvm.MethodName)) ∈ lw_all := lw_g (lw_at lw_m7 136 rfl) rfl
theorem q1652 : (Jvm.Cond.privateMethod ({ cls := "EverybodyHasTheBookModel", name := "isInn", desc := "(I)Z" } : Jvm.MethodName)) ∈ lw_tbl := lw_at lw_m7 137 rfl
theorem q1653 : (Jvm.Cond.instanceMethod ({ cls := "EverybodyHasTheBookModel", name := "isInn", desc := "(I)Z" } : Jvm.MethodName)) ∈ lw_all := lw_g (lw_at lw_m7 138 rfl) rfl
theorem q1654 : (Jvm.Cond.code ({ cls := "EverybodyHasTheBookModel", name := "isInn", desc := "(I)Z" } : Jvm.MethodName) prog_16_method_5_code (2 : Nat) (Option.some Jvm.ClassFile.FieldType.boolean)) ∈ lw_all := lw_g (lw_at lw_m7 139 rfl) rfl
theorem q1656 : (Jvm.Cond.instanceMethod ({ cls := "EverybodyHasTheBookModel", name := "say", desc := "(II)I" } : Jvm.MethodName)) ∈ lw_all := lw_g (lw_at lw_m7 141 rfl) rfl
theorem q1657 : (Jvm.Cond.selects "EverybodyHasTheBookModel" ({ cls := "EverybodyHasTheBookModel", name := "say", desc := "(II)I" } : Jvm.MethodName) ({ cls := "EverybodyHasTheBookModel", name := "say", desc := "(II)I" } : Jvm.MethodName)) ∈ lw_all := lw_g (lw_at lw_m7 142 rfl) rfl
theorem q1658 : (Jvm.Cond.code ({ cls := "EverybodyHasTheBookModel", name := "say", desc := "(II)I" } : Jvm.MethodName) prog_16_method_22_code (4 : Nat) (Option.some Jvm.ClassFile.FieldType.int)) ∈ lw_all := lw_g (lw_at lw_m7 143 rfl) rfl
theorem q1659 : (Jvm.Cond.constantLong "EverybodyHasTheBookModel" (130 : Nat) (-1 : Int64)) ∈ lw_all := lw_g (lw_at lw_m7 144 rfl) rfl
theorem q1661 : (Jvm.Cond.instanceMethod ({ cls := "EverybodyHasTheBookModel", name := "write", desc := "(I)I" } : Jvm.MethodName)) ∈ lw_all := lw_g (lw_at lw_m7 146 rfl) rfl
theorem q1662 : (Jvm.Cond.selects "EverybodyHasTheBookModel" ({ cls := "EverybodyHasTheBookModel", name := "write", desc := "(I)I" } : Jvm.MethodName) ({ cls := "EverybodyHasTheBookModel", name := "write", desc := "(I)I" } : Jvm.MethodName)) ∈ lw_all := lw_g (lw_at lw_m7 147 rfl) rfl
theorem q1663 : (Jvm.Cond.code ({ cls := "EverybodyHasTheBookModel", name := "write", desc := "(I)I" } : Jvm.MethodName) prog_16_method_25_code (2 : Nat) (Option.some Jvm.ClassFile.FieldType.int)) ∈ lw_all := lw_g (lw_at lw_m7 148 rfl) rfl
theorem q1664 : (Jvm.Cond.methodLink "EverybodyHasTheBookModel" (135 : Nat) ({ cls := "EverybodyHasTheBookModel", name := "isSet", desc := "(I)Z" } : Jvm.MethodName)) ∈ lw_all := lw_g (lw_at lw_m7 149 rfl) rfl
theorem q1665 : (Jvm.Cond.privateMethod ({ cls := "EverybodyHasTheBookModel", name := "isSet", desc := "(I)Z" } : Jvm.MethodName)) ∈ lw_tbl := lw_at lw_m7 150 rfl
theorem q1666 : (Jvm.Cond.instanceMethod ({ cls := "EverybodyHasTheBookModel", name := "isSet", desc := "(I)Z" } : Jvm.MethodName)) ∈ lw_all := lw_g (lw_at lw_m7 151 rfl) rfl
theorem q1667 : (Jvm.Cond.code ({ cls := "EverybodyHasTheBookModel", name := "isSet", desc := "(I)Z" } : Jvm.MethodName) prog_16_method_24_code (2 : Nat) (Option.some Jvm.ClassFile.FieldType.boolean)) ∈ lw_all := lw_g (lw_at lw_m7 152 rfl) rfl
theorem q1668 : (Jvm.Cond.methodLink "EverybodyHasTheBookModel" (138 : Nat) ({ cls := "EverybodyHasTheBookModel", name := "writes", desc := "(I)I" } : Jvm.MethodName)) ∈ lw_all := lw_g (lw_at lw_m7 153 rfl) rfl
theorem q1669 : (Jvm.Cond.privateMethod ({ cls := "EverybodyHasTheBookModel", name := "writes", desc := "(I)I" } : Jvm.MethodName)) ∈ lw_tbl := lw_at lw_m7 154 rfl
theorem q1670 : (Jvm.Cond.instanceMethod ({ cls := "EverybodyHasTheBookModel", name := "writes", desc := "(I)I" } : Jvm.MethodName)) ∈ lw_all := lw_g (lw_at lw_m7 155 rfl) rfl
theorem q1671 : (Jvm.Cond.code ({ cls := "EverybodyHasTheBookModel", name := "writes", desc := "(I)I" } : Jvm.MethodName) prog_16_method_23_code (5 : Nat) (Option.some Jvm.ClassFile.FieldType.int)) ∈ lw_all := lw_g (lw_at lw_m7 156 rfl) rfl
theorem q1673 : (Jvm.Cond.instanceMethod ({ cls := "EverybodyHasTheBookModel", name := "letter", desc := "(II)I" } : Jvm.MethodName)) ∈ lw_all := lw_g (lw_at lw_m7 158 rfl) rfl
theorem q1674 : (Jvm.Cond.selects "EverybodyHasTheBookModel" ({ cls := "EverybodyHasTheBookModel", name := "letter", desc := "(II)I" } : Jvm.MethodName) ({ cls := "EverybodyHasTheBookModel", name := "letter", desc := "(II)I" } : Jvm.MethodName)) ∈ lw_all := lw_g (lw_at lw_m7 159 rfl) rfl
theorem q1675 : (Jvm.Cond.code ({ cls := "EverybodyHasTheBookModel", name := "letter", desc := "(II)I" } : Jvm.MethodName) prog_16_method_27_code (3 : Nat) (Option.some Jvm.ClassFile.FieldType.int)) ∈ lw_all := lw_g (lw_at lw_m7 160 rfl) rfl
theorem q1676 : (Jvm.Cond.methodLink "EverybodyHasTheBookModel" (141 : Nat) ({ cls := "EverybodyHasTheBookModel", name := "getsLetter", desc := "(II)V" } : Jvm.MethodName)) ∈ lw_all := lw_g (lw_at lw_m7 161 rfl) rfl
theorem q1677 : (Jvm.Cond.privateMethod ({ cls := "EverybodyHasTheBookModel", name := "getsLetter", desc := "(II)V" } : Jvm.MethodName)) ∈ lw_tbl := lw_at lw_m7 162 rfl
theorem q1678 : (Jvm.Cond.instanceMethod ({ cls := "EverybodyHasTheBookModel", name := "getsLetter", desc := "(II)V" } : Jvm.MethodName)) ∈ lw_all := lw_g (lw_at lw_m7 163 rfl) rfl
theorem q1679 : (Jvm.Cond.code ({ cls := "EverybodyHasTheBookModel", name := "getsLetter", desc := "(II)V" } : Jvm.MethodName) prog_16_method_26_code (3 : Nat) (Option.none : Option Jvm.ClassFile.FieldType)) ∈ lw_all := lw_g (lw_at lw_m7 164 rfl) rfl
theorem q1681 : (Jvm.Cond.instanceMethod ({ cls := "EverybodyHasTheBookModel", name := "age", desc := "(I)I" } : Jvm.MethodName)) ∈ lw_all := lw_g (lw_at lw_m7 166 rfl) rfl
theorem q1682 : (Jvm.Cond.selects "EverybodyHasTheBookModel" ({ cls := "EverybodyHasTheBookModel", name := "age", desc := "(I)I" } : Jvm.MethodName) ({ cls := "EverybodyHasTheBookModel", name := "age", desc := "(I)I" } : Jvm.MethodName)) ∈ lw_all := lw_g (lw_at lw_m7 167 rfl) rfl
theorem q1683 : (Jvm.Cond.code ({ cls := "EverybodyHasTheBookModel", name := "age", desc := "(I)I" } : Jvm.MethodName) prog_16_method_28_code (3 : Nat) (Option.some Jvm.ClassFile.FieldType.int)) ∈ lw_all := lw_g (lw_at lw_m7 168 rfl) rfl
theorem q1685 : (Jvm.Cond.instanceMethod ({ cls := "EverybodyHasTheBookModel", name := "heads", desc := "(II)I" } : Jvm.MethodName)) ∈ lw_all := lw_g (lw_at lw_m7 170 rfl) rfl
theorem q1686 : (Jvm.Cond.selects "EverybodyHasTheBookModel" ({ cls := "EverybodyHasTheBookModel", name := "heads", desc := "(II)I" } : Jvm.MethodName) ({ cls := "EverybodyHasTheBookModel", name := "heads", desc := "(II)I" } : Jvm.MethodName)) ∈ lw_all := lw_g (lw_at lw_m7 171 rfl) rfl
theorem q1687 : (Jvm.Cond.code ({ cls := "EverybodyHasTheBookModel", name := "heads", desc := "(II)I" } : Jvm.MethodName) prog_16_method_29_code (4 : Nat) (Option.some Jvm.ClassFile.FieldType.int)) ∈ lw_all := lw_g (lw_at lw_m7 172 rfl) rfl
theorem q1689 : (Jvm.Cond.instanceMethod ({ cls := "EverybodyHasTheBookModel", name := "feed", desc := "(I)I" } : Jvm.MethodName)) ∈ lw_all := lw_g (lw_at lw_m7 174 rfl) rfl
theorem q1690 : (Jvm.Cond.selects "EverybodyHasTheBookModel" ({ cls := "EverybodyHasTheBookModel", name := "feed", desc := "(I)I" } : Jvm.MethodName) ({ cls := "EverybodyHasTheBookModel", name := "feed", desc := "(I)I" } : Jvm.MethodName)) ∈ lw_all := lw_g (lw_at lw_m7 175 rfl) rfl
theorem q1691 : (Jvm.Cond.code ({ cls := "EverybodyHasTheBookModel", name := "feed", desc := "(I)I" } : Jvm.MethodName) prog_16_method_30_code (2 : Nat) (Option.some Jvm.ClassFile.FieldType.int)) ∈ lw_all := lw_g (lw_at lw_m7 176 rfl) rfl
theorem q1692 : (Jvm.Cond.constantLong "EverybodyHasTheBookModel" (145 : Nat) (255 : Int64)) ∈ lw_all := lw_g (lw_at lw_m7 177 rfl) rfl
theorem q1694 : (Jvm.Cond.instanceMethod ({ cls := "EverybodyHasTheBookModel", name := "wipe", desc := "()I" } : Jvm.MethodName)) ∈ lw_all := lw_g (lw_at lw_m7 179 rfl) rfl
theorem q1695 : (Jvm.Cond.selects "EverybodyHasTheBookModel" ({ cls := "EverybodyHasTheBookModel", name := "wipe", desc := "()I" } : Jvm.MethodName) ({ cls := "EverybodyHasTheBookModel", name := "wipe", desc := "()I" } : Jvm.MethodName)) ∈ lw_all := lw_g (lw_at lw_m7 180 rfl) rfl
theorem q1696 : (Jvm.Cond.code ({ cls := "EverybodyHasTheBookModel", name := "wipe", desc := "()I" } : Jvm.MethodName) prog_16_method_31_code (2 : Nat) (Option.some Jvm.ClassFile.FieldType.int)) ∈ lw_all := lw_g (lw_at lw_m7 181 rfl) rfl
theorem q1698 : (Jvm.Cond.instanceMethod ({ cls := "EverybodyHasTheBookModel", name := "valley", desc := "()I" } : Jvm.MethodName)) ∈ lw_all := lw_g (lw_at lw_m7 183 rfl) rfl
theorem q1699 : (Jvm.Cond.selects "EverybodyHasTheBookModel" ({ cls := "EverybodyHasTheBookModel", name := "valley", desc := "()I" } : Jvm.MethodName) ({ cls := "EverybodyHasTheBookModel", name := "valley", desc := "()I" } : Jvm.MethodName)) ∈ lw_all := lw_g (lw_at lw_m7 184 rfl) rfl
theorem q1700 : (Jvm.Cond.code ({ cls := "EverybodyHasTheBookModel", name := "valley", desc := "()I" } : Jvm.MethodName) prog_16_method_44_code (3 : Nat) (Option.some Jvm.ClassFile.FieldType.int)) ∈ lw_all := lw_g (lw_at lw_m7 185 rfl) rfl
theorem q1701 : (Jvm.Cond.methodLink "EverybodyHasTheBookModel" (227 : Nat) ({ cls := "EverybodyHasTheBookModel", name := "fresh", desc := "()LEverybodyHasTheBookModel;" } : Jvm.MethodName)) ∈ lw_all := lw_g (lw_at lw_m7 186 rfl) rfl
theorem q1702 : (Jvm.Cond.privateMethod ({ cls := "EverybodyHasTheBookModel", name := "fresh", desc := "()LEverybodyHasTheBookModel;" } : Jvm.MethodName)) ∈ lw_tbl := lw_at lw_m7 187 rfl
theorem q1703 : (Jvm.Cond.instanceMethod ({ cls := "EverybodyHasTheBookModel", name := "fresh", desc := "()LEverybodyHasTheBookModel;" } : Jvm.MethodName)) ∈ lw_all := lw_g (lw_at lw_m7 188 rfl) rfl
theorem q1704 : (Jvm.Cond.code ({ cls := "EverybodyHasTheBookModel", name := "fresh", desc := "()LEverybodyHasTheBookModel;" } : Jvm.MethodName) prog_16_method_103_code (1 : Nat) (Option.some (Jvm.ClassFile.FieldType.object "EverybodyHasTheBookModel"))) ∈ lw_all := lw_g (lw_at lw_m7 189 rfl) rfl
theorem q1705 : (Jvm.Cond.classLink "EverybodyHasTheBookModel" (8 : Nat) "EverybodyHasTheBookModel") ∈ lw_all := lw_g (lw_at lw_m7 190 rfl) rfl
theorem q1706 : (Jvm.Cond.methodLink "EverybodyHasTheBookModel" (330 : Nat) ({ cls := "EverybodyHasTheBookModel", name := "<init>", desc := "()V" } : Jvm.MethodName)) ∈ lw_all := lw_g (lw_at lw_m7 191 rfl) rfl
theorem q1707 : (Jvm.Cond.methodLink "EverybodyHasTheBookModel" (234 : Nat) ({ cls := "EverybodyHasTheBookModel", name := "takeFrom", desc := "(LEverybodyHasTheBookModel;)V" } : Jvm.MethodName)) ∈ lw_all := lw_g (lw_at lw_m7 192 rfl) rfl
theorem q1708 : (Jvm.Cond.privateMethod ({ cls := "EverybodyHasTheBookModel", name := "takeFrom", desc := "(LEverybodyHasTheBookModel;)V" } : Jvm.MethodName)) ∈ lw_tbl := lw_at lw_m7 193 rfl
theorem q1709 : (Jvm.Cond.instanceMethod ({ cls := "EverybodyHasTheBookModel", name := "takeFrom", desc := "(LEverybodyHasTheBookModel;)V" } : Jvm.MethodName)) ∈ lw_all := lw_g (lw_at lw_m7 194 rfl) rfl
theorem q1710 : (Jvm.Cond.code ({ cls := "EverybodyHasTheBookModel", name := "takeFrom", desc := "(LEverybodyHasTheBookModel;)V" } : Jvm.MethodName) prog_16_method_105_code (3 : Nat) (Option.none : Option Jvm.ClassFile.FieldType)) ∈ lw_all := lw_g (lw_at lw_m7 195 rfl) rfl
theorem q1711 : (Jvm.Cond.methodLink "EverybodyHasTheBookModel" (331 : Nat) ({ cls := "EverybodyHasTheBookModel", name := "over", desc := "([I[I)V" } : Jvm.MethodName)) ∈ lw_all := lw_g (lw_at lw_m7 196 rfl) rfl
theorem q1712 : (Jvm.Cond.static ({ cls := "EverybodyHasTheBookModel", name := "over", desc := "([I[I)V" } : Jvm.MethodName)) ∈ lw_all := lw_g (lw_at lw_m7 197 rfl) rfl
theorem q1713 : (Jvm.Cond.code ({ cls := "EverybodyHasTheBookModel", name := "over", desc := "([I[I)V" } : Jvm.MethodName) prog_16_method_104_code (3 : Nat) (Option.none : Option Jvm.ClassFile.FieldType)) ∈ lw_all := lw_g (lw_at lw_m7 198 rfl) rfl
theorem q1714 : (Jvm.Cond.methodLink "EverybodyHasTheBookModel" (231 : Nat) ({ cls := "EverybodyHasTheBookModel", name := "readAll", desc := "()Z" } : Jvm.MethodName)) ∈ lw_all := lw_g (lw_at lw_m7 199 rfl) rfl
theorem q1715 : (Jvm.Cond.privateMethod ({ cls := "EverybodyHasTheBookModel", name := "readAll", desc := "()Z" } : Jvm.MethodName)) ∈ lw_tbl := lw_at lw_m7 200 rfl
theorem q1716 : (Jvm.Cond.instanceMethod ({ cls := "EverybodyHasTheBookModel", name := "readAll", desc := "()Z" } : Jvm.MethodName)) ∈ lw_all := lw_g (lw_at lw_m7 201 rfl) rfl
theorem q1717 : (Jvm.Cond.code ({ cls := "EverybodyHasTheBookModel", name := "readAll", desc := "()Z" } : Jvm.MethodName) prog_16_method_43_code (1 : Nat) (Option.some Jvm.ClassFile.FieldType.boolean)) ∈ lw_all := lw_g (lw_at lw_m7 202 rfl) rfl
theorem q1718 : (Jvm.Cond.methodLink "EverybodyHasTheBookModel" (186 : Nat) ({ cls := "EverybodyHasTheBookModel", name := "look", desc := "()V" } : Jvm.MethodName)) ∈ lw_all := lw_g (lw_at lw_m7 203 rfl) rfl
theorem q1719 : (Jvm.Cond.privateMethod ({ cls := "EverybodyHasTheBookModel", name := "look", desc := "()V" } : Jvm.MethodName)) ∈ lw_tbl := lw_at lw_m7 204 rfl
theorem q1720 : (Jvm.Cond.instanceMethod ({ cls := "EverybodyHasTheBookModel", name := "look", desc := "()V" } : Jvm.MethodName)) ∈ lw_all := lw_g (lw_at lw_m7 205 rfl) rfl
theorem q1721 : (Jvm.Cond.code ({ cls := "EverybodyHasTheBookModel", name := "look", desc := "()V" } : Jvm.MethodName) prog_16_method_34_code (1 : Nat) (Option.none : Option Jvm.ClassFile.FieldType)) ∈ lw_all := lw_g (lw_at lw_m7 206 rfl) rfl
theorem q1722 : (Jvm.Cond.methodLink "EverybodyHasTheBookModel" (162 : Nat) ({ cls := "EverybodyHasTheBookModel", name := "isLetter", desc := "(I)Z" } : Jvm.MethodName)) ∈ lw_all := lw_g (lw_at lw_m7 207 rfl) rfl
theorem q1723 : (Jvm.Cond.static ({ cls := "EverybodyHasTheBookModel", name := "isLetter", desc := "(I)Z" } : Jvm.MethodName)) ∈ lw_all := lw_g (lw_at lw_m7 208 rfl) rfl
theorem q1724 : (Jvm.Cond.code ({ cls := "EverybodyHasTheBookModel", name := "isLetter", desc := "(I)Z" } : Jvm.MethodName) prog_16_method_32_code (1 : Nat) (Option.some Jvm.ClassFile.FieldType.boolean)) ∈ lw_all := lw_g (lw_at lw_m7 209 rfl) rfl
theorem q1725 : (Jvm.Cond.methodLink "EverybodyHasTheBookModel" (165 : Nat) ({ cls := "EverybodyHasTheBookModel", name := "isDigit", desc := "(I)Z" } : Jvm.MethodName)) ∈ lw_all := lw_g (lw_at lw_m7 210 rfl) rfl
theorem q1726 : (Jvm.Cond.static ({ cls := "EverybodyHasTheBookModel", name := "isDigit", desc := "(I)Z" } : Jvm.MethodName)) ∈ lw_all := lw_g (lw_at lw_m7 211 rfl) rfl
theorem q1727 : (Jvm.Cond.code ({ cls := "EverybodyHasTheBookModel", name := "isDigit", desc := "(I)Z" } : Jvm.MethodName) prog_16_method_33_code (1 : Nat) (Option.some Jvm.ClassFile.FieldType.boolean)) ∈ lw_all := lw_g (lw_at lw_m7 212 rfl) rfl
theorem q1728 : (Jvm.Cond.constant "EverybodyHasTheBookModel" (168 : Nat) (100000 : Int32)) ∈ lw_all := lw_g (lw_at lw_m7 213 rfl) rfl
theorem q1729 : (Jvm.Cond.methodLink "EverybodyHasTheBookModel" (224 : Nat) ({ cls := "EverybodyHasTheBookModel", name := "statement", desc := "()Z" } : Jvm.MethodName)) ∈ lw_all := lw_g (lw_at lw_m7 214 rfl) rfl
theorem q1730 : (Jvm.Cond.privateMethod ({ cls := "EverybodyHasTheBookModel", name := "statement", desc := "()Z" } : Jvm.MethodName)) ∈ lw_tbl := lw_at lw_m7 215 rfl
theorem q1731 : (Jvm.Cond.instanceMethod ({ cls := "EverybodyHasTheBookModel", name := "statement", desc := "()Z" } : Jvm.MethodName)) ∈ lw_all := lw_g (lw_at lw_m7 216 rfl) rfl
theorem q1732 : (Jvm.Cond.code ({ cls := "EverybodyHasTheBookModel", name := "statement", desc := "()Z" } : Jvm.MethodName) prog_16_method_42_code (1 : Nat) (Option.some Jvm.ClassFile.FieldType.boolean)) ∈ lw_all := lw_g (lw_at lw_m7 217 rfl) rfl
theorem q1733 : (Jvm.Cond.stringRef "EverybodyHasTheBookModel" (202 : Nat) "inn") ∈ lw_tbl := lw_at lw_m7 218 rfl
theorem q1734 : (Jvm.Cond.methodLink "EverybodyHasTheBookModel" (198 : Nat) ({ cls := "EverybodyHasTheBookModel", name := "isWord", desc := "(Ljava/lang/String;)Z" } : Jvm.MethodName)) ∈ lw_all := lw_g (lw_at lw_m7 219 rfl) rfl
theorem q1735 : (Jvm.Cond.privateMethod ({ cls := "EverybodyHasTheBookModel", name := "isWord", desc := "(Ljava/lang/String;)Z" } : Jvm.MethodName)) ∈ lw_tbl := lw_at lw_m7 220 rfl
theorem q1736 : (Jvm.Cond.instanceMethod ({ cls := "EverybodyHasTheBookModel", name := "isWord", desc := "(Ljava/lang/String;)Z" } : Jvm.MethodName)) ∈ lw_all := lw_g (lw_at lw_m7 221 rfl) rfl
theorem q1737 : (Jvm.Cond.code ({ cls := "EverybodyHasTheBookModel", name := "isWord", desc := "(Ljava/lang/String;)Z" } : Jvm.MethodName) prog_16_method_36_code (3 : Nat) (Option.some Jvm.ClassFile.FieldType.boolean)) ∈ lw_all := lw_g (lw_at lw_m7 222 rfl) rfl
theorem q1738 : (Jvm.Cond.methodLink "EverybodyHasTheBookModel" (172 : Nat) ({ cls := "java/lang/String", name := "length", desc := "()I" } : Jvm.MethodName)) ∈ lw_all := lw_g (lw_at lw_m7 223 rfl) rfl
theorem q1746 : (Jvm.Cond.methodLink "EverybodyHasTheBookModel" (178 : Nat) ({ cls := "java/lang/String", name := "charAt", desc := "(I)C" } : Jvm.MethodName)) ∈ lw_all := lw_g (lw_at lw_m7 231 rfl) rfl
theorem q1757 : (Jvm.Cond.methodLink "EverybodyHasTheBookModel" (203 : Nat) ({ cls := "EverybodyHasTheBookModel", name := "innTold", desc := "()Z" } : Jvm.MethodName)) ∈ lw_all := lw_g (lw_at lw_m8 2 rfl) rfl
theorem q1758 : (Jvm.Cond.privateMethod ({ cls := "EverybodyHasTheBookModel", name := "innTold", desc := "()Z" } : Jvm.MethodName)) ∈ lw_tbl := lw_at lw_m8 3 rfl
theorem q1759 : (Jvm.Cond.instanceMethod ({ cls := "EverybodyHasTheBookModel", name := "innTold", desc := "()Z" } : Jvm.MethodName)) ∈ lw_all := lw_g (lw_at lw_m8 4 rfl) rfl
theorem q1760 : (Jvm.Cond.code ({ cls := "EverybodyHasTheBookModel", name := "innTold", desc := "()Z" } : Jvm.MethodName) prog_16_method_39_code (3 : Nat) (Option.some Jvm.ClassFile.FieldType.boolean)) ∈ lw_all := lw_g (lw_at lw_m8 5 rfl) rfl
theorem q1761 : (Jvm.Cond.methodLink "EverybodyHasTheBookModel" (193 : Nat) ({ cls := "EverybodyHasTheBookModel", name := "tells", desc := "(II)Z" } : Jvm.MethodName)) ∈ lw_all := lw_g (lw_at lw_m8 6 rfl) rfl
theorem q1762 : (Jvm.Cond.privateMethod ({ cls := "EverybodyHasTheBookModel", name := "tells", desc := "(II)Z" } : Jvm.MethodName)) ∈ lw_tbl := lw_at lw_m8 7 rfl
theorem q1763 : (Jvm.Cond.instanceMethod ({ cls := "EverybodyHasTheBookModel", name := "tells", desc := "(II)Z" } : Jvm.MethodName)) ∈ lw_all := lw_g (lw_at lw_m8 8 rfl) rfl
theorem q1764 : (Jvm.Cond.code ({ cls := "EverybodyHasTheBookModel", name := "tells", desc := "(II)Z" } : Jvm.MethodName) prog_16_method_38_code (3 : Nat) (Option.some Jvm.ClassFile.FieldType.boolean)) ∈ lw_all := lw_g (lw_at lw_m8 9 rfl) rfl
theorem q1765 : (Jvm.Cond.methodLink "EverybodyHasTheBookModel" (189 : Nat) ({ cls := "EverybodyHasTheBookModel", name := "number", desc := "(III)Z" } : Jvm.MethodName)) ∈ lw_all := lw_g (lw_at lw_m8 10 rfl) rfl
theorem q1766 : (Jvm.Cond.privateMethod ({ cls := "EverybodyHasTheBookModel", name := "number", desc := "(III)Z" } : Jvm.MethodName)) ∈ lw_tbl := lw_at lw_m8 11 rfl
theorem q1767 : (Jvm.Cond.instanceMethod ({ cls := "EverybodyHasTheBookModel", name := "number", desc := "(III)Z" } : Jvm.MethodName)) ∈ lw_all := lw_g (lw_at lw_m8 12 rfl) rfl
theorem q1768 : (Jvm.Cond.code ({ cls := "EverybodyHasTheBookModel", name := "number", desc := "(III)Z" } : Jvm.MethodName) prog_16_method_37_code (4 : Nat) (Option.some Jvm.ClassFile.FieldType.boolean)) ∈ lw_all := lw_g (lw_at lw_m8 13 rfl) rfl
theorem q1769 : (Jvm.Cond.methodLink "EverybodyHasTheBookModel" (182 : Nat) ({ cls := "EverybodyHasTheBookModel", name := "wrong", desc := "()Z" } : Jvm.MethodName)) ∈ lw_all := lw_g (lw_at lw_m8 14 rfl) rfl
theorem q1770 : (Jvm.Cond.privateMethod ({ cls := "EverybodyHasTheBookModel", name := "wrong", desc := "()Z" } : Jvm.MethodName)) ∈ lw_tbl := lw_at lw_m8 15 rfl
theorem q1771 : (Jvm.Cond.instanceMethod ({ cls := "EverybodyHasTheBookModel", name := "wrong", desc := "()Z" } : Jvm.MethodName)) ∈ lw_all := lw_g (lw_at lw_m8 16 rfl) rfl
theorem q1772 : (Jvm.Cond.code ({ cls := "EverybodyHasTheBookModel", name := "wrong", desc := "()Z" } : Jvm.MethodName) prog_16_method_35_code (1 : Nat) (Option.some Jvm.ClassFile.FieldType.boolean)) ∈ lw_all := lw_g (lw_at lw_m8 17 rfl) rfl
theorem q1773 : (Jvm.Cond.stringRef "EverybodyHasTheBookModel" (196 : Nat) "said") ∈ lw_tbl := lw_at lw_m8 18 rfl
theorem q1774 : (Jvm.Cond.stringRef "EverybodyHasTheBookModel" (206 : Nat) "goer") ∈ lw_tbl := lw_at lw_m8 19 rfl
theorem q1775 : (Jvm.Cond.methodLink "EverybodyHasTheBookModel" (207 : Nat) ({ cls := "EverybodyHasTheBookModel", name := "goer", desc := "(III)I" } : Jvm.MethodName)) ∈ lw_all := lw_g (lw_at lw_m8 20 rfl) rfl
theorem q1776 : (Jvm.Cond.stringRef "EverybodyHasTheBookModel" (210 : Nat) "letter") ∈ lw_tbl := lw_at lw_m8 21 rfl
theorem q1777 : (Jvm.Cond.methodLink "EverybodyHasTheBookModel" (212 : Nat) ({ cls := "EverybodyHasTheBookModel", name := "letterTold", desc := "()Z" } : Jvm.MethodName)) ∈ lw_all := lw_g (lw_at lw_m8 22 rfl) rfl
theorem q1778 : (Jvm.Cond.privateMethod ({ cls := "EverybodyHasTheBookModel", name := "letterTold", desc := "()Z" } : Jvm.MethodName)) ∈ lw_tbl := lw_at lw_m8 23 rfl
theorem q1779 : (Jvm.Cond.instanceMethod ({ cls := "EverybodyHasTheBookModel", name := "letterTold", desc := "()Z" } : Jvm.MethodName)) ∈ lw_all := lw_g (lw_at lw_m8 24 rfl) rfl
theorem q1780 : (Jvm.Cond.code ({ cls := "EverybodyHasTheBookModel", name := "letterTold", desc := "()Z" } : Jvm.MethodName) prog_16_method_40_code (1 : Nat) (Option.some Jvm.ClassFile.FieldType.boolean)) ∈ lw_all := lw_g (lw_at lw_m8 25 rfl) rfl
theorem q1781 : (Jvm.Cond.stringRef "EverybodyHasTheBookModel" (215 : Nat) "write") ∈ lw_tbl := lw_at lw_m8 26 rfl
theorem q1782 : (Jvm.Cond.methodLink "EverybodyHasTheBookModel" (217 : Nat) ({ cls := "EverybodyHasTheBookModel", name := "writeTold", desc := "()Z" } : Jvm.MethodName)) ∈ lw_all := lw_g (lw_at lw_m8 27 rfl) rfl
theorem q1783 : (Jvm.Cond.privateMethod ({ cls := "EverybodyHasTheBookModel", name := "writeTold", desc := "()Z" } : Jvm.MethodName)) ∈ lw_tbl := lw_at lw_m8 28 rfl
theorem q1784 : (Jvm.Cond.instanceMethod ({ cls := "EverybodyHasTheBookModel", name := "writeTold", desc := "()Z" } : Jvm.MethodName)) ∈ lw_all := lw_g (lw_at lw_m8 29 rfl) rfl
theorem q1785 : (Jvm.Cond.code ({ cls := "EverybodyHasTheBookModel", name := "writeTold", desc := "()Z" } : Jvm.MethodName) prog_16_method_41_code (3 : Nat) (Option.some Jvm.ClassFile.FieldType.boolean)) ∈ lw_all := lw_g (lw_at lw_m8 30 rfl) rfl
theorem q1786 : (Jvm.Cond.stringRef "EverybodyHasTheBookModel" (220 : Nat) "age") ∈ lw_tbl := lw_at lw_m8 31 rfl
theorem q1788 : (Jvm.Cond.instanceMethod ({ cls := "EverybodyHasTheBookModel", name := "innOf", desc := "(II)I" } : Jvm.MethodName)) ∈ lw_all := lw_g (lw_at lw_m8 33 rfl) rfl
theorem q1789 : (Jvm.Cond.selects "EverybodyHasTheBookModel" ({ cls := "EverybodyHasTheBookModel", name := "innOf", desc := "(II)I" } : Jvm.MethodName) ({ cls := "EverybodyHasTheBookModel", name := "innOf", desc := "(II)I" } : Jvm.MethodName)) ∈ lw_all := lw_g (lw_at lw_m8 34 rfl) rfl
theorem q1790 : (Jvm.Cond.code ({ cls := "EverybodyHasTheBookModel", name := "innOf", desc := "(II)I" } : Jvm.MethodName) prog_16_method_45_code (3 : Nat) (Option.some Jvm.ClassFile.FieldType.int)) ∈ lw_all := lw_g (lw_at lw_m8 35 rfl) rfl
theorem q1791 : (Jvm.Cond.constantLong "EverybodyHasTheBookModel" (238 : Nat) (6 : Int64)) ∈ lw_all := lw_g (lw_at lw_m8 36 rfl) rfl
theorem q1793 : (Jvm.Cond.instanceMethod ({ cls := "EverybodyHasTheBookModel", name := "goerOf", desc := "(II)I" } : Jvm.MethodName)) ∈ lw_all := lw_g (lw_at lw_m8 38 rfl) rfl
theorem q1794 : (Jvm.Cond.selects "EverybodyHasTheBookModel" ({ cls := "EverybodyHasTheBookModel", name := "goerOf", desc := "(II)I" } : Jvm.MethodName) ({ cls := "EverybodyHasTheBookModel", name := "goerOf", desc := "(II)I" } : Jvm.MethodName)) ∈ lw_all := lw_g (lw_at lw_m8 39 rfl) rfl
theorem q1795 : (Jvm.Cond.code ({ cls := "EverybodyHasTheBookModel", name := "goerOf", desc := "(II)I" } : Jvm.MethodName) prog_16_method_46_code (3 : Nat) (Option.some Jvm.ClassFile.FieldType.int)) ∈ lw_all := lw_g (lw_at lw_m8 40 rfl) rfl
theorem q1796 : (Jvm.Cond.constantLong "EverybodyHasTheBookModel" (240 : Nat) (2 : Int64)) ∈ lw_all := lw_g (lw_at lw_m8 41 rfl) rfl
theorem q1798 : (Jvm.Cond.instanceMethod ({ cls := "EverybodyHasTheBookModel", name := "score", desc := "(II)I" } : Jvm.MethodName)) ∈ lw_all := lw_g (lw_at lw_m8 43 rfl) rfl
theorem q1799 : (Jvm.Cond.selects "EverybodyHasTheBookModel" ({ cls := "EverybodyHasTheBookModel", name := "score", desc := "(II)I" } : Jvm.MethodName) ({ cls := "EverybodyHasTheBookModel", name := "score", desc := "(II)I" } : Jvm.MethodName)) ∈ lw_all := lw_g (lw_at lw_m8 44 rfl) rfl
theorem q1800 : (Jvm.Cond.code ({ cls := "EverybodyHasTheBookModel", name := "score", desc := "(II)I" } : Jvm.MethodName) prog_16_method_50_code (3 : Nat) (Option.some Jvm.ClassFile.FieldType.int)) ∈ lw_all := lw_g (lw_at lw_m8 45 rfl) rfl
theorem q1801 : (Jvm.Cond.constant "EverybodyHasTheBookModel" (252 : Nat) (-1000000 : Int32)) ∈ lw_all := lw_g (lw_at lw_m8 46 rfl) rfl
theorem q1803 : (Jvm.Cond.instanceMethod ({ cls := "EverybodyHasTheBookModel", name := "sleeps", desc := "(II)I" } : Jvm.MethodName)) ∈ lw_all := lw_g (lw_at lw_m8 48 rfl) rfl
theorem q1804 : (Jvm.Cond.selects "EverybodyHasTheBookModel" ({ cls := "EverybodyHasTheBookModel", name := "sleeps", desc := "(II)I" } : Jvm.MethodName) ({ cls := "EverybodyHasTheBookModel", name := "sleeps", desc := "(II)I" } : Jvm.MethodName)) ∈ lw_all := lw_g (lw_at lw_m8 49 rfl) rfl
theorem q1805 : (Jvm.Cond.code ({ cls := "EverybodyHasTheBookModel", name := "sleeps", desc := "(II)I" } : Jvm.MethodName) prog_16_method_56_code (3 : Nat) (Option.some Jvm.ClassFile.FieldType.int)) ∈ lw_all := lw_g (lw_at lw_m8 50 rfl) rfl
theorem q1806 : (Jvm.Cond.methodLink "EverybodyHasTheBookModel" (259 : Nat) ({ cls := "EverybodyHasTheBookModel", name := "goThrough", desc := "()V" } : Jvm.MethodName)) ∈ lw_all := lw_g (lw_at lw_m8 51 rfl) rfl
theorem q1807 : (Jvm.Cond.privateMethod ({ cls := "EverybodyHasTheBookModel", name := "goThrough", desc := "()V" } : Jvm.MethodName)) ∈ lw_tbl := lw_at lw_m8 52 rfl
theorem q1808 : (Jvm.Cond.instanceMethod ({ cls := "EverybodyHasTheBookModel", name := "goThrough", desc := "()V" } : Jvm.MethodName)) ∈ lw_all := lw_g (lw_at lw_m8 53 rfl) rfl
theorem q1809 : (Jvm.Cond.code ({ cls := "EverybodyHasTheBookModel", name := "goThrough", desc := "()V" } : Jvm.MethodName) prog_16_method_54_code (3 : Nat) (Option.none : Option Jvm.ClassFile.FieldType)) ∈ lw_all := lw_g (lw_at lw_m8 54 rfl) rfl
theorem q1810 : (Jvm.Cond.methodLink "EverybodyHasTheBookModel" (253 : Nat) ({ cls := "EverybodyHasTheBookModel", name := "startNight", desc := "()V" } : Jvm.MethodName)) ∈ lw_all := lw_g (lw_at lw_m8 55 rfl) rfl
theorem q1811 : (Jvm.Cond.privateMethod ({ cls := "EverybodyHasTheBookModel", name := "startNight", desc := "()V" } : Jvm.MethodName)) ∈ lw_tbl := lw_at lw_m8 56 rfl
theorem q1812 : (Jvm.Cond.instanceMethod ({ cls := "EverybodyHasTheBookModel", name := "startNight", desc := "()V" } : Jvm.MethodName)) ∈ lw_all := lw_g (lw_at lw_m8 57 rfl) rfl
theorem q1813 : (Jvm.Cond.code ({ cls := "EverybodyHasTheBookModel", name := "startNight", desc := "()V" } : Jvm.MethodName) prog_16_method_52_code (3 : Nat) (Option.none : Option Jvm.ClassFile.FieldType)) ∈ lw_all := lw_g (lw_at lw_m8 58 rfl) rfl
theorem q1814 : (Jvm.Cond.methodLink "EverybodyHasTheBookModel" (256 : Nat) ({ cls := "EverybodyHasTheBookModel", name := "comes", desc := "(II)V" } : Jvm.MethodName)) ∈ lw_all := lw_g (lw_at lw_m8 59 rfl) rfl
theorem q1815 : (Jvm.Cond.privateMethod ({ cls := "EverybodyHasTheBookModel", name := "comes", desc := "(II)V" } : Jvm.MethodName)) ∈ lw_tbl := lw_at lw_m8 60 rfl
theorem q1816 : (Jvm.Cond.instanceMethod ({ cls := "EverybodyHasTheBookModel", name := "comes", desc := "(II)V" } : Jvm.MethodName)) ∈ lw_all := lw_g (lw_at lw_m8 61 rfl) rfl
theorem q1817 : (Jvm.Cond.code ({ cls := "EverybodyHasTheBookModel", name := "comes", desc := "(II)V" } : Jvm.MethodName) prog_16_method_53_code (7 : Nat) (Option.none : Option Jvm.ClassFile.FieldType)) ∈ lw_all := lw_g (lw_at lw_m8 62 rfl) rfl
theorem q1819 : (Jvm.Cond.instanceMethod ({ cls := "EverybodyHasTheBookModel", name := "guests", desc := "(I)I" } : Jvm.MethodName)) ∈ lw_all := lw_g (lw_at lw_m8 64 rfl) rfl
theorem q1820 : (Jvm.Cond.selects "EverybodyHasTheBookModel" ({ cls := "EverybodyHasTheBookModel", name := "guests", desc := "(I)I" } : Jvm.MethodName) ({ cls := "EverybodyHasTheBookModel", name := "guests", desc := "(I)I" } : Jvm.MethodName)) ∈ lw_all := lw_g (lw_at lw_m8 65 rfl) rfl
theorem q1821 : (Jvm.Cond.code ({ cls := "EverybodyHasTheBookModel", name := "guests", desc := "(I)I" } : Jvm.MethodName) prog_16_method_57_code (2 : Nat) (Option.some Jvm.ClassFile.FieldType.int)) ∈ lw_all := lw_g (lw_at lw_m8 66 rfl) rfl
theorem q1822 : (Jvm.Cond.methodLink "EverybodyHasTheBookModel" (262 : Nat) ({ cls := "EverybodyHasTheBookModel", name := "headsIn", desc := "(I)I" } : Jvm.MethodName)) ∈ lw_all := lw_g (lw_at lw_m8 67 rfl) rfl
theorem q1823 : (Jvm.Cond.privateMethod ({ cls := "EverybodyHasTheBookModel", name := "headsIn", desc := "(I)I" } : Jvm.MethodName)) ∈ lw_tbl := lw_at lw_m8 68 rfl
theorem q1824 : (Jvm.Cond.instanceMethod ({ cls := "EverybodyHasTheBookModel", name := "headsIn", desc := "(I)I" } : Jvm.MethodName)) ∈ lw_all := lw_g (lw_at lw_m8 69 rfl) rfl
theorem q1825 : (Jvm.Cond.code ({ cls := "EverybodyHasTheBookModel", name := "headsIn", desc := "(I)I" } : Jvm.MethodName) prog_16_method_55_code (4 : Nat) (Option.some Jvm.ClassFile.FieldType.int)) ∈ lw_all := lw_g (lw_at lw_m8 70 rfl) rfl
theorem q1827 : (Jvm.Cond.instanceMethod ({ cls := "EverybodyHasTheBookModel", name := "out", desc := "(I)I" } : Jvm.MethodName)) ∈ lw_all := lw_g (lw_at lw_m8 72 rfl) rfl
theorem q1828 : (Jvm.Cond.selects "EverybodyHasTheBookModel" ({ cls := "EverybodyHasTheBookModel", name := "out", desc := "(I)I" } : Jvm.MethodName) ({ cls := "EverybodyHasTheBookModel", name := "out", desc := "(I)I" } : Jvm.MethodName)) ∈ lw_all := lw_g (lw_at lw_m8 73 rfl) rfl
theorem q1829 : (Jvm.Cond.code ({ cls := "EverybodyHasTheBookModel", name := "out", desc := "(I)I" } : Jvm.MethodName) prog_16_method_58_code (4 : Nat) (Option.some Jvm.ClassFile.FieldType.int)) ∈ lw_all := lw_g (lw_at lw_m8 74 rfl) rfl
theorem q1831 : (Jvm.Cond.instanceMethod ({ cls := "EverybodyHasTheBookModel", name := "full", desc := "()I" } : Jvm.MethodName)) ∈ lw_all := lw_g (lw_at lw_m8 76 rfl) rfl
theorem q1832 : (Jvm.Cond.selects "EverybodyHasTheBookModel" ({ cls := "EverybodyHasTheBookModel", name := "full", desc := "()I" } : Jvm.MethodName) ({ cls := "EverybodyHasTheBookModel", name := "full", desc := "()I" } : Jvm.MethodName)) ∈ lw_all := lw_g (lw_at lw_m8 77 rfl) rfl
theorem q1833 : (Jvm.Cond.code ({ cls := "EverybodyHasTheBookModel", name := "full", desc := "()I" } : Jvm.MethodName) prog_16_method_59_code (3 : Nat) (Option.some Jvm.ClassFile.FieldType.int)) ∈ lw_all := lw_g (lw_at lw_m8 78 rfl) rfl
theorem q1835 : (Jvm.Cond.instanceMethod ({ cls := "EverybodyHasTheBookModel", name := "joy", desc := "(I)I" } : Jvm.MethodName)) ∈ lw_all := lw_g (lw_at lw_m8 80 rfl) rfl
theorem q1836 : (Jvm.Cond.selects "EverybodyHasTheBookModel" ({ cls := "EverybodyHasTheBookModel", name := "joy", desc := "(I)I" } : Jvm.MethodName) ({ cls := "EverybodyHasTheBookModel", name := "joy", desc := "(I)I" } : Jvm.MethodName)) ∈ lw_all := lw_g (lw_at lw_m8 81 rfl) rfl
theorem q1837 : (Jvm.Cond.code ({ cls := "EverybodyHasTheBookModel", name := "joy", desc := "(I)I" } : Jvm.MethodName) prog_16_method_62_code (2 : Nat) (Option.some Jvm.ClassFile.FieldType.int)) ∈ lw_all := lw_g (lw_at lw_m8 82 rfl) rfl
theorem q1838 : (Jvm.Cond.methodLink "EverybodyHasTheBookModel" (268 : Nat) ({ cls := "EverybodyHasTheBookModel", name := "joyBy", desc := "(I)I" } : Jvm.MethodName)) ∈ lw_all := lw_g (lw_at lw_m8 83 rfl) rfl
theorem q1839 : (Jvm.Cond.privateMethod ({ cls := "EverybodyHasTheBookModel", name := "joyBy", desc := "(I)I" } : Jvm.MethodName)) ∈ lw_tbl := lw_at lw_m8 84 rfl
theorem q1840 : (Jvm.Cond.instanceMethod ({ cls := "EverybodyHasTheBookModel", name := "joyBy", desc := "(I)I" } : Jvm.MethodName)) ∈ lw_all := lw_g (lw_at lw_m8 85 rfl) rfl
theorem q1841 : (Jvm.Cond.code ({ cls := "EverybodyHasTheBookModel", name := "joyBy", desc := "(I)I" } : Jvm.MethodName) prog_16_method_61_code (4 : Nat) (Option.some Jvm.ClassFile.FieldType.int)) ∈ lw_all := lw_g (lw_at lw_m8 86 rfl) rfl
theorem q1842 : (Jvm.Cond.methodLink "EverybodyHasTheBookModel" (265 : Nat) ({ cls := "EverybodyHasTheBookModel", name := "joyOf", desc := "(I)I" } : Jvm.MethodName)) ∈ lw_all := lw_g (lw_at lw_m8 87 rfl) rfl
theorem q1843 : (Jvm.Cond.privateMethod ({ cls := "EverybodyHasTheBookModel", name := "joyOf", desc := "(I)I" } : Jvm.MethodName)) ∈ lw_tbl := lw_at lw_m8 88 rfl
theorem q1844 : (Jvm.Cond.instanceMethod ({ cls := "EverybodyHasTheBookModel", name := "joyOf", desc := "(I)I" } : Jvm.MethodName)) ∈ lw_all := lw_g (lw_at lw_m8 89 rfl) rfl
theorem q1845 : (Jvm.Cond.code ({ cls := "EverybodyHasTheBookModel", name := "joyOf", desc := "(I)I" } : Jvm.MethodName) prog_16_method_60_code (4 : Nat) (Option.some Jvm.ClassFile.FieldType.int)) ∈ lw_all := lw_g (lw_at lw_m8 90 rfl) rfl
theorem q1847 : (Jvm.Cond.instanceMethod ({ cls := "EverybodyHasTheBookModel", name := "taken", desc := "(I)I" } : Jvm.MethodName)) ∈ lw_all := lw_g (lw_at lw_m8 92 rfl) rfl
theorem q1848 : (Jvm.Cond.selects "EverybodyHasTheBookModel" ({ cls := "EverybodyHasTheBookModel", name := "taken", desc := "(I)I" } : Jvm.MethodName) ({ cls := "EverybodyHasTheBookModel", name := "taken", desc := "(I)I" } : Jvm.MethodName)) ∈ lw_all := lw_g (lw_at lw_m8 93 rfl) rfl
theorem q1849 : (Jvm.Cond.code ({ cls := "EverybodyHasTheBookModel", name := "taken", desc := "(I)I" } : Jvm.MethodName) prog_16_method_63_code (2 : Nat) (Option.some Jvm.ClassFile.FieldType.int)) ∈ lw_all := lw_g (lw_at lw_m8 94 rfl) rfl
theorem q1851 : (Jvm.Cond.instanceMethod ({ cls := "EverybodyHasTheBookModel", name := "crowd", desc := "(I)I" } : Jvm.MethodName)) ∈ lw_all := lw_g (lw_at lw_m8 96 rfl) rfl
theorem q1852 : (Jvm.Cond.selects "EverybodyHasTheBookModel" ({ cls := "EverybodyHasTheBookModel", name := "crowd", desc := "(I)I" } : Jvm.MethodName) ({ cls := "EverybodyHasTheBookModel", name := "crowd", desc := "(I)I" } : Jvm.MethodName)) ∈ lw_all := lw_g (lw_at lw_m8 97 rfl) rfl
theorem q1853 : (Jvm.Cond.code ({ cls := "EverybodyHasTheBookModel", name := "crowd", desc := "(I)I" } : Jvm.MethodName) prog_16_method_65_code (4 : Nat) (Option.some Jvm.ClassFile.FieldType.int)) ∈ lw_all := lw_g (lw_at lw_m8 98 rfl) rfl
theorem q1854 : (Jvm.Cond.methodLink "EverybodyHasTheBookModel" (271 : Nat) ({ cls := "EverybodyHasTheBookModel", name := "isByBook", desc := "(I)Z" } : Jvm.MethodName)) ∈ lw_all := lw_g (lw_at lw_m8 99 rfl) rfl
theorem q1855 : (Jvm.Cond.privateMethod ({ cls := "EverybodyHasTheBookModel", name := "isByBook", desc := "(I)Z" } : Jvm.MethodName)) ∈ lw_tbl := lw_at lw_m8 100 rfl
theorem q1856 : (Jvm.Cond.instanceMethod ({ cls := "EverybodyHasTheBookModel", name := "isByBook", desc := "(I)Z" } : Jvm.MethodName)) ∈ lw_all := lw_g (lw_at lw_m8 101 rfl) rfl
theorem q1857 : (Jvm.Cond.code ({ cls := "EverybodyHasTheBookModel", name := "isByBook", desc := "(I)Z" } : Jvm.MethodName) prog_16_method_64_code (2 : Nat) (Option.some Jvm.ClassFile.FieldType.boolean)) ∈ lw_all := lw_g (lw_at lw_m8 102 rfl) rfl
theorem q1859 : (Jvm.Cond.instanceMethod ({ cls := "EverybodyHasTheBookModel", name := "lean", desc := "(I)I" } : Jvm.MethodName)) ∈ lw_all := lw_g (lw_at lw_m8 104 rfl) rfl
theorem q1860 : (Jvm.Cond.selects "EverybodyHasTheBookModel" ({ cls := "EverybodyHasTheBookModel", name := "lean", desc := "(I)I" } : Jvm.MethodName) ({ cls := "EverybodyHasTheBookModel", name := "lean", desc := "(I)I" } : Jvm.MethodName)) ∈ lw_all := lw_g (lw_at lw_m8 105 rfl) rfl
theorem q1861 : (Jvm.Cond.code ({ cls := "EverybodyHasTheBookModel", name := "lean", desc := "(I)I" } : Jvm.MethodName) prog_16_method_66_code (2 : Nat) (Option.some Jvm.ClassFile.FieldType.int)) ∈ lw_all := lw_g (lw_at lw_m8 106 rfl) rfl
theorem q1863 : (Jvm.Cond.instanceMethod ({ cls := "EverybodyHasTheBookModel", name := "truest", desc := "()I" } : Jvm.MethodName)) ∈ lw_all := lw_g (lw_at lw_m8 108 rfl) rfl
theorem q1864 : (Jvm.Cond.selects "EverybodyHasTheBookModel" ({ cls := "EverybodyHasTheBookModel", name := "truest", desc := "()I" } : Jvm.MethodName) ({ cls := "EverybodyHasTheBookModel", name := "truest", desc := "()I" } : Jvm.MethodName)) ∈ lw_all := lw_g (lw_at lw_m8 109 rfl) rfl
theorem q1865 : (Jvm.Cond.code ({ cls := "EverybodyHasTheBookModel", name := "truest", desc := "()I" } : Jvm.MethodName) prog_16_method_68_code (2 : Nat) (Option.some Jvm.ClassFile.FieldType.int)) ∈ lw_all := lw_g (lw_at lw_m8 110 rfl) rfl
theorem q1866 : (Jvm.Cond.methodLink "EverybodyHasTheBookModel" (274 : Nat) ({ cls := "EverybodyHasTheBookModel", name := "truestOf", desc := "()I" } : Jvm.MethodName)) ∈ lw_all := lw_g (lw_at lw_m8 111 rfl) rfl
theorem q1867 : (Jvm.Cond.privateMethod ({ cls := "EverybodyHasTheBookModel", name := "truestOf", desc := "()I" } : Jvm.MethodName)) ∈ lw_tbl := lw_at lw_m8 112 rfl
theorem q1868 : (Jvm.Cond.instanceMethod ({ cls := "EverybodyHasTheBookModel", name := "truestOf", desc := "()I" } : Jvm.MethodName)) ∈ lw_all := lw_g (lw_at lw_m8 113 rfl) rfl
theorem q1869 : (Jvm.Cond.code ({ cls := "EverybodyHasTheBookModel", name := "truestOf", desc := "()I" } : Jvm.MethodName) prog_16_method_67_code (3 : Nat) (Option.some Jvm.ClassFile.FieldType.int)) ∈ lw_all := lw_g (lw_at lw_m8 114 rfl) rfl
theorem q1871 : (Jvm.Cond.instanceMethod ({ cls := "EverybodyHasTheBookModel", name := "oldest", desc := "()I" } : Jvm.MethodName)) ∈ lw_all := lw_g (lw_at lw_m8 116 rfl) rfl
theorem q1872 : (Jvm.Cond.selects "EverybodyHasTheBookModel" ({ cls := "EverybodyHasTheBookModel", name := "oldest", desc := "()I" } : Jvm.MethodName) ({ cls := "EverybodyHasTheBookModel", name := "oldest", desc := "()I" } : Jvm.MethodName)) ∈ lw_all := lw_g (lw_at lw_m8 117 rfl) rfl
theorem q1873 : (Jvm.Cond.code ({ cls := "EverybodyHasTheBookModel", name := "oldest", desc := "()I" } : Jvm.MethodName) prog_16_method_70_code (4 : Nat) (Option.some Jvm.ClassFile.FieldType.int)) ∈ lw_all := lw_g (lw_at lw_m8 118 rfl) rfl
theorem q1874 : (Jvm.Cond.methodLink "EverybodyHasTheBookModel" (277 : Nat) ({ cls := "EverybodyHasTheBookModel", name := "wrongBy", desc := "(I)I" } : Jvm.MethodName)) ∈ lw_all := lw_g (lw_at lw_m8 119 rfl) rfl
theorem q1875 : (Jvm.Cond.privateMethod ({ cls := "EverybodyHasTheBookModel", name := "wrongBy", desc := "(I)I" } : Jvm.MethodName)) ∈ lw_tbl := lw_at lw_m8 120 rfl
theorem q1876 : (Jvm.Cond.instanceMethod ({ cls := "EverybodyHasTheBookModel", name := "wrongBy", desc := "(I)I" } : Jvm.MethodName)) ∈ lw_all := lw_g (lw_at lw_m8 121 rfl) rfl
theorem q1877 : (Jvm.Cond.code ({ cls := "EverybodyHasTheBookModel", name := "wrongBy", desc := "(I)I" } : Jvm.MethodName) prog_16_method_69_code (3 : Nat) (Option.some Jvm.ClassFile.FieldType.int)) ∈ lw_all := lw_g (lw_at lw_m8 122 rfl) rfl
theorem q1879 : (Jvm.Cond.instanceMethod ({ cls := "EverybodyHasTheBookModel", name := "enough", desc := "(I)I" } : Jvm.MethodName)) ∈ lw_all := lw_g (lw_at lw_m8 124 rfl) rfl
theorem q1880 : (Jvm.Cond.selects "EverybodyHasTheBookModel" ({ cls := "EverybodyHasTheBookModel", name := "enough", desc := "(I)I" } : Jvm.MethodName) ({ cls := "EverybodyHasTheBookModel", name := "enough", desc := "(I)I" } : Jvm.MethodName)) ∈ lw_all := lw_g (lw_at lw_m8 125 rfl) rfl
theorem q1881 : (Jvm.Cond.code ({ cls := "EverybodyHasTheBookModel", name := "enough", desc := "(I)I" } : Jvm.MethodName) prog_16_method_71_code (5 : Nat) (Option.some Jvm.ClassFile.FieldType.int)) ∈ lw_all := lw_g (lw_at lw_m8 126 rfl) rfl
theorem q1883 : (Jvm.Cond.instanceMethod ({ cls := "EverybodyHasTheBookModel", name := "better", desc := "(I)I" } : Jvm.MethodName)) ∈ lw_all := lw_g (lw_at lw_m8 128 rfl) rfl
theorem q1884 : (Jvm.Cond.selects "EverybodyHasTheBookModel" ({ cls := "EverybodyHasTheBookModel", name := "better", desc := "(I)I" } : Jvm.MethodName) ({ cls := "EverybodyHasTheBookModel", name := "better", desc := "(I)I" } : Jvm.MethodName)) ∈ lw_all := lw_g (lw_at lw_m8 129 rfl) rfl
theorem q1885 : (Jvm.Cond.code ({ cls := "EverybodyHasTheBookModel", name := "better", desc := "(I)I" } : Jvm.MethodName) prog_16_method_72_code (7 : Nat) (Option.some Jvm.ClassFile.FieldType.int)) ∈ lw_all := lw_g (lw_at lw_m8 130 rfl) rfl
theorem q1887 : (Jvm.Cond.instanceMethod ({ cls := "EverybodyHasTheBookModel", name := "trust", desc := "(I)I" } : Jvm.MethodName)) ∈ lw_all := lw_g (lw_at lw_m8 132 rfl) rfl
theorem q1888 : (Jvm.Cond.selects "EverybodyHasTheBookModel" ({ cls := "EverybodyHasTheBookModel", name := "trust", desc := "(I)I" } : Jvm.MethodName) ({ cls := "EverybodyHasTheBookModel", name := "trust", desc := "(I)I" } : Jvm.MethodName)) ∈ lw_all := lw_g (lw_at lw_m8 133 rfl) rfl
theorem q1889 : (Jvm.Cond.code ({ cls := "EverybodyHasTheBookModel", name := "trust", desc := "(I)I" } : Jvm.MethodName) prog_16_method_74_code (5 : Nat) (Option.some Jvm.ClassFile.FieldType.int)) ∈ lw_all := lw_g (lw_at lw_m8 134 rfl) rfl
theorem q1890 : (Jvm.Cond.methodLink "EverybodyHasTheBookModel" (280 : Nat) ({ cls := "EverybodyHasTheBookModel", name := "isChoice", desc := "(I)Z" } : Jvm.MethodName)) ∈ lw_all := lw_g (lw_at lw_m8 135 rfl) rfl
theorem q1891 : (Jvm.Cond.privateMethod ({ cls := "EverybodyHasTheBookModel", name := "isChoice", desc := "(I)Z" } : Jvm.MethodName)) ∈ lw_tbl := lw_at lw_m8 136 rfl
theorem q1892 : (Jvm.Cond.instanceMethod ({ cls := "EverybodyHasTheBookModel", name := "isChoice", desc := "(I)Z" } : Jvm.MethodName)) ∈ lw_all := lw_g (lw_at lw_m8 137 rfl) rfl
theorem q1893 : (Jvm.Cond.code ({ cls := "EverybodyHasTheBookModel", name := "isChoice", desc := "(I)Z" } : Jvm.MethodName) prog_16_method_73_code (3 : Nat) (Option.some Jvm.ClassFile.FieldType.boolean)) ∈ lw_all := lw_g (lw_at lw_m8 138 rfl) rfl
theorem q1895 : (Jvm.Cond.instanceMethod ({ cls := "EverybodyHasTheBookModel", name := "share", desc := "(I)I" } : Jvm.MethodName)) ∈ lw_all := lw_g (lw_at lw_m8 140 rfl) rfl
theorem q1896 : (Jvm.Cond.selects "EverybodyHasTheBookModel" ({ cls := "EverybodyHasTheBookModel", name := "share", desc := "(I)I" } : Jvm.MethodName) ({ cls := "EverybodyHasTheBookModel", name := "share", desc := "(I)I" } : Jvm.MethodName)) ∈ lw_all := lw_g (lw_at lw_m8 141 rfl) rfl
theorem q1897 : (Jvm.Cond.code ({ cls := "EverybodyHasTheBookModel", name := "share", desc := "(I)I" } : Jvm.MethodName) prog_16_method_75_code (3 : Nat) (Option.some Jvm.ClassFile.FieldType.int)) ∈ lw_all := lw_g (lw_at lw_m8 142 rfl) rfl
theorem q1899 : (Jvm.Cond.instanceMethod ({ cls := "EverybodyHasTheBookModel", name := "nine", desc := "(III)I" } : Jvm.MethodName)) ∈ lw_all := lw_g (lw_at lw_m8 144 rfl) rfl
theorem q1900 : (Jvm.Cond.selects "EverybodyHasTheBookModel" ({ cls := "EverybodyHasTheBookModel", name := "nine", desc := "(III)I" } : Jvm.MethodName) ({ cls := "EverybodyHasTheBookModel", name := "nine", desc := "(III)I" } : Jvm.MethodName)) ∈ lw_all := lw_g (lw_at lw_m8 145 rfl) rfl
theorem q1901 : (Jvm.Cond.code ({ cls := "EverybodyHasTheBookModel", name := "nine", desc := "(III)I" } : Jvm.MethodName) prog_16_method_76_code (4 : Nat) (Option.some Jvm.ClassFile.FieldType.int)) ∈ lw_all := lw_g (lw_at lw_m8 146 rfl) rfl
theorem q1903 : (Jvm.Cond.instanceMethod ({ cls := "EverybodyHasTheBookModel", name := "two", desc := "(II)I" } : Jvm.MethodName)) ∈ lw_all := lw_g (lw_at lw_m8 148 rfl) rfl
theorem q1904 : (Jvm.Cond.selects "EverybodyHasTheBookModel" ({ cls := "EverybodyHasTheBookModel", name := "two", desc := "(II)I" } : Jvm.MethodName) ({ cls := "EverybodyHasTheBookModel", name := "two", desc := "(II)I" } : Jvm.MethodName)) ∈ lw_all := lw_g (lw_at lw_m8 149 rfl) rfl
theorem q1905 : (Jvm.Cond.code ({ cls := "EverybodyHasTheBookModel", name := "two", desc := "(II)I" } : Jvm.MethodName) prog_16_method_77_code (7 : Nat) (Option.some Jvm.ClassFile.FieldType.int)) ∈ lw_all := lw_g (lw_at lw_m8 150 rfl) rfl
theorem q1906 : (Jvm.Cond.methodLink "EverybodyHasTheBookModel" (283 : Nat) ({ cls := "EverybodyHasTheBookModel", name := "readBook", desc := "(I)V" } : Jvm.MethodName)) ∈ lw_all := lw_g (lw_at lw_m8 151 rfl) rfl
theorem q1907 : (Jvm.Cond.privateMethod ({ cls := "EverybodyHasTheBookModel", name := "readBook", desc := "(I)V" } : Jvm.MethodName)) ∈ lw_tbl := lw_at lw_m8 152 rfl
theorem q1908 : (Jvm.Cond.instanceMethod ({ cls := "EverybodyHasTheBookModel", name := "readBook", desc := "(I)V" } : Jvm.MethodName)) ∈ lw_all := lw_g (lw_at lw_m8 153 rfl) rfl
theorem q1909 : (Jvm.Cond.code ({ cls := "EverybodyHasTheBookModel", name := "readBook", desc := "(I)V" } : Jvm.MethodName) prog_16_method_78_code (3 : Nat) (Option.none : Option Jvm.ClassFile.FieldType)) ∈ lw_all := lw_g (lw_at lw_m8 154 rfl) rfl
theorem q1911 : (Jvm.Cond.instanceMethod ({ cls := "EverybodyHasTheBookModel", name := "judge", desc := "(I)I" } : Jvm.MethodName)) ∈ lw_all := lw_g (lw_at lw_m8 156 rfl) rfl
theorem q1912 : (Jvm.Cond.selects "EverybodyHasTheBookModel" ({ cls := "EverybodyHasTheBookModel", name := "judge", desc := "(I)I" } : Jvm.MethodName) ({ cls := "EverybodyHasTheBookModel", name := "judge", desc := "(I)I" } : Jvm.MethodName)) ∈ lw_all := lw_g (lw_at lw_m8 157 rfl) rfl
theorem q1913 : (Jvm.Cond.code ({ cls := "EverybodyHasTheBookModel", name := "judge", desc := "(I)I" } : Jvm.MethodName) prog_16_method_79_code (4 : Nat) (Option.some Jvm.ClassFile.FieldType.int)) ∈ lw_all := lw_g (lw_at lw_m8 158 rfl) rfl
theorem q1915 : (Jvm.Cond.instanceMethod ({ cls := "EverybodyHasTheBookModel", name := "years", desc := "(II)I" } : Jvm.MethodName)) ∈ lw_all := lw_g (lw_at lw_m8 160 rfl) rfl
theorem q1916 : (Jvm.Cond.selects "EverybodyHasTheBookModel" ({ cls := "EverybodyHasTheBookModel", name := "years", desc := "(II)I" } : Jvm.MethodName) ({ cls := "EverybodyHasTheBookModel", name := "years", desc := "(II)I" } : Jvm.MethodName)) ∈ lw_all := lw_g (lw_at lw_m8 161 rfl) rfl
theorem q1917 : (Jvm.Cond.code ({ cls := "EverybodyHasTheBookModel", name := "years", desc := "(II)I" } : Jvm.MethodName) prog_16_method_82_code (3 : Nat) (Option.some Jvm.ClassFile.FieldType.int)) ∈ lw_all := lw_g (lw_at lw_m8 162 rfl) rfl
theorem q1918 : (Jvm.Cond.methodLink "EverybodyHasTheBookModel" (299 : Nat) ({ cls := "EverybodyHasTheBookModel", name := "isYears", desc := "(I)Z" } : Jvm.MethodName)) ∈ lw_all := lw_g (lw_at lw_m8 163 rfl) rfl
theorem q1919 : (Jvm.Cond.static ({ cls := "EverybodyHasTheBookModel", name := "isYears", desc := "(I)Z" } : Jvm.MethodName)) ∈ lw_all := lw_g (lw_at lw_m8 164 rfl) rfl
theorem q1920 : (Jvm.Cond.code ({ cls := "EverybodyHasTheBookModel", name := "isYears", desc := "(I)Z" } : Jvm.MethodName) prog_16_method_7_code (1 : Nat) (Option.some Jvm.ClassFile.FieldType.boolean)) ∈ lw_all := lw_g (lw_at lw_m8 165 rfl) rfl
theorem q1921 : (Jvm.Cond.constantLong "EverybodyHasTheBookModel" (83 : Nat) (12 : Int64)) ∈ lw_all := lw_g (lw_at lw_m8 166 rfl) rfl
theorem q1922 : (Jvm.Cond.methodLink "EverybodyHasTheBookModel" (302 : Nat) ({ cls := "EverybodyHasTheBookModel", name := "joyIn", desc := "(II)I" } : Jvm.MethodName)) ∈ lw_all := lw_g (lw_at lw_m8 167 rfl) rfl
theorem q1923 : (Jvm.Cond.privateMethod ({ cls := "EverybodyHasTheBookModel", name := "joyIn", desc := "(II)I" } : Jvm.MethodName)) ∈ lw_tbl := lw_at lw_m8 168 rfl
theorem q1924 : (Jvm.Cond.instanceMethod ({ cls := "EverybodyHasTheBookModel", name := "joyIn", desc := "(II)I" } : Jvm.MethodName)) ∈ lw_all := lw_g (lw_at lw_m8 169 rfl) rfl
theorem q1925 : (Jvm.Cond.code ({ cls := "EverybodyHasTheBookModel", name := "joyIn", desc := "(II)I" } : Jvm.MethodName) prog_16_method_81_code (5 : Nat) (Option.some Jvm.ClassFile.FieldType.int)) ∈ lw_all := lw_g (lw_at lw_m8 170 rfl) rfl
theorem q1926 : (Jvm.Cond.methodLink "EverybodyHasTheBookModel" (296 : Nat) ({ cls := "EverybodyHasTheBookModel", name := "yearGoesBy", desc := "()V" } : Jvm.MethodName)) ∈ lw_all := lw_g (lw_at lw_m8 171 rfl) rfl
theorem q1927 : (Jvm.Cond.privateMethod ({ cls := "EverybodyHasTheBookModel", name := "yearGoesBy", desc := "()V" } : Jvm.MethodName)) ∈ lw_tbl := lw_at lw_m8 172 rfl
theorem q1928 : (Jvm.Cond.instanceMethod ({ cls := "EverybodyHasTheBookModel", name := "yearGoesBy", desc := "()V" } : Jvm.MethodName)) ∈ lw_all := lw_g (lw_at lw_m8 173 rfl) rfl
theorem q1929 : (Jvm.Cond.code ({ cls := "EverybodyHasTheBookModel", name := "yearGoesBy", desc := "()V" } : Jvm.MethodName) prog_16_method_80_code (5 : Nat) (Option.none : Option Jvm.ClassFile.FieldType)) ∈ lw_all := lw_g (lw_at lw_m8 174 rfl) rfl
theorem q1930 : (Jvm.Cond.methodLink "EverybodyHasTheBookModel" (290 : Nat) ({ cls := "EverybodyHasTheBookModel", name := "within", desc := "(II)I" } : Jvm.MethodName)) ∈ lw_all := lw_g (lw_at lw_m8 175 rfl) rfl
theorem q1931 : (Jvm.Cond.static ({ cls := "EverybodyHasTheBookModel", name := "within", desc := "(II)I" } : Jvm.MethodName)) ∈ lw_all := lw_g (lw_at lw_m8 176 rfl) rfl
theorem q1932 : (Jvm.Cond.code ({ cls := "EverybodyHasTheBookModel", name := "within", desc := "(II)I" } : Jvm.MethodName) prog_16_method_4_code (2 : Nat) (Option.some Jvm.ClassFile.FieldType.int)) ∈ lw_all := lw_g (lw_at lw_m8 177 rfl) rfl
theorem q1934 : (Jvm.Cond.instanceMethod ({ cls := "EverybodyHasTheBookModel", name := "then", desc := "(III)I" } : Jvm.MethodName)) ∈ lw_all := lw_g (lw_at lw_m8 179 rfl) rfl
theorem q1935 : (Jvm.Cond.selects "EverybodyHasTheBookModel" ({ cls := "EverybodyHasTheBookModel", name := "then", desc := "(III)I" } : Jvm.MethodName) ({ cls := "EverybodyHasTheBookModel", name := "then", desc := "(III)I" } : Jvm.MethodName)) ∈ lw_all := lw_g (lw_at lw_m8 180 rfl) rfl
theorem q1936 : (Jvm.Cond.code ({ cls := "EverybodyHasTheBookModel", name := "then", desc := "(III)I" } : Jvm.MethodName) prog_16_method_83_code (7 : Nat) (Option.some Jvm.ClassFile.FieldType.int)) ∈ lw_all := lw_g (lw_at lw_m8 181 rfl) rfl
theorem q1938 : (Jvm.Cond.instanceMethod ({ cls := "EverybodyHasTheBookModel", name := "book", desc := "(II)I" } : Jvm.MethodName)) ∈ lw_all := lw_g (lw_at lw_m8 183 rfl) rfl
theorem q1939 : (Jvm.Cond.selects "EverybodyHasTheBookModel" ({ cls := "EverybodyHasTheBookModel", name := "book", desc := "(II)I" } : Jvm.MethodName) ({ cls := "EverybodyHasTheBookModel", name := "book", desc := "(II)I" } : Jvm.MethodName)) ∈ lw_all := lw_g (lw_at lw_m8 184 rfl) rfl
theorem q1940 : (Jvm.Cond.code ({ cls := "EverybodyHasTheBookModel", name := "book", desc := "(II)I" } : Jvm.MethodName) prog_16_method_86_code (3 : Nat) (Option.some Jvm.ClassFile.FieldType.int)) ∈ lw_all := lw_g (lw_at lw_m8 185 rfl) rfl
theorem q1941 : (Jvm.Cond.methodLink "EverybodyHasTheBookModel" (311 : Nat) ({ cls := "EverybodyHasTheBookModel", name := "bestBook", desc := "(II)I" } : Jvm.MethodName)) ∈ lw_all := lw_g (lw_at lw_m8 186 rfl) rfl
theorem q1942 : (Jvm.Cond.privateMethod ({ cls := "EverybodyHasTheBookModel", name := "bestBook", desc := "(II)I" } : Jvm.MethodName)) ∈ lw_tbl := lw_at lw_m8 187 rfl
theorem q1943 : (Jvm.Cond.instanceMethod ({ cls := "EverybodyHasTheBookModel", name := "bestBook", desc := "(II)I" } : Jvm.MethodName)) ∈ lw_all := lw_g (lw_at lw_m8 188 rfl) rfl
theorem q1944 : (Jvm.Cond.code ({ cls := "EverybodyHasTheBookModel", name := "bestBook", desc := "(II)I" } : Jvm.MethodName) prog_16_method_85_code (7 : Nat) (Option.some Jvm.ClassFile.FieldType.int)) ∈ lw_all := lw_g (lw_at lw_m8 189 rfl) rfl
theorem q1945 : (Jvm.Cond.methodLink "EverybodyHasTheBookModel" (305 : Nat) ({ cls := "EverybodyHasTheBookModel", name := "writtenBy", desc := "(II)I" } : Jvm.MethodName)) ∈ lw_all := lw_g (lw_at lw_m8 190 rfl) rfl
theorem q1946 : (Jvm.Cond.privateMethod ({ cls := "EverybodyHasTheBookModel", name := "writtenBy", desc := "(II)I" } : Jvm.MethodName)) ∈ lw_tbl := lw_at lw_m8 191 rfl
theorem q1947 : (Jvm.Cond.instanceMethod ({ cls := "EverybodyHasTheBookModel", name := "writtenBy", desc := "(II)I" } : Jvm.MethodName)) ∈ lw_all := lw_g (lw_at lw_m8 192 rfl) rfl
theorem q1948 : (Jvm.Cond.code ({ cls := "EverybodyHasTheBookModel", name := "writtenBy", desc := "(II)I" } : Jvm.MethodName) prog_16_method_84_code (4 : Nat) (Option.some Jvm.ClassFile.FieldType.int)) ∈ lw_all := lw_g (lw_at lw_m8 193 rfl) rfl
theorem q1950 : (Jvm.Cond.instanceMethod ({ cls := "EverybodyHasTheBookModel", name := "written", desc := "(II)I" } : Jvm.MethodName)) ∈ lw_all := lw_g (lw_at lw_m8 195 rfl) rfl
theorem q1951 : (Jvm.Cond.selects "EverybodyHasTheBookModel" ({ cls := "EverybodyHasTheBookModel", name := "written", desc := "(II)I" } : Jvm.MethodName) ({ cls := "EverybodyHasTheBookModel", name := "written", desc := "(II)I" } : Jvm.MethodName)) ∈ lw_all := lw_g (lw_at lw_m8 196 rfl) rfl
theorem q1952 : (Jvm.Cond.code ({ cls := "EverybodyHasTheBookModel", name := "written", desc := "(II)I" } : Jvm.MethodName) prog_16_method_87_code (3 : Nat) (Option.some Jvm.ClassFile.FieldType.int)) ∈ lw_all := lw_g (lw_at lw_m8 197 rfl) rfl
theorem q1954 : (Jvm.Cond.instanceMethod ({ cls := "EverybodyHasTheBookModel", name := "many", desc := "(I)I" } : Jvm.MethodName)) ∈ lw_all := lw_g (lw_at lw_m8 199 rfl) rfl
theorem q1955 : (Jvm.Cond.selects "EverybodyHasTheBookModel" ({ cls := "EverybodyHasTheBookModel", name := "many", desc := "(I)I" } : Jvm.MethodName) ({ cls := "EverybodyHasTheBookModel", name := "many", desc := "(I)I" } : Jvm.MethodName)) ∈ lw_all := lw_g (lw_at lw_m8 200 rfl) rfl
theorem q1956 : (Jvm.Cond.code ({ cls := "EverybodyHasTheBookModel", name := "many", desc := "(I)I" } : Jvm.MethodName) prog_16_method_88_code (4 : Nat) (Option.some Jvm.ClassFile.FieldType.int)) ∈ lw_all := lw_g (lw_at lw_m8 201 rfl) rfl
theorem q1958 : (Jvm.Cond.instanceMethod ({ cls := "EverybodyHasTheBookModel", name := "round", desc := "(II)I" } : Jvm.MethodName)) ∈ lw_all := lw_g (lw_at lw_m8 203 rfl) rfl
theorem q1959 : (Jvm.Cond.selects "EverybodyHasTheBookModel" ({ cls := "EverybodyHasTheBookModel", name := "round", desc := "(II)I" } : Jvm.MethodName) ({ cls := "EverybodyHasTheBookModel", name := "round", desc := "(II)I" } : Jvm.MethodName)) ∈ lw_all := lw_g (lw_at lw_m8 204 rfl) rfl
theorem q1960 : (Jvm.Cond.code ({ cls := "EverybodyHasTheBookModel", name := "round", desc := "(II)I" } : Jvm.MethodName) prog_16_method_90_code (3 : Nat) (Option.some Jvm.ClassFile.FieldType.int)) ∈ lw_all := lw_g (lw_at lw_m8 205 rfl) rfl
theorem q1961 : (Jvm.Cond.constantLong "EverybodyHasTheBookModel" (314 : Nat) (3 : Int64)) ∈ lw_all := lw_g (lw_at lw_m8 206 rfl) rfl
theorem q1962 : (Jvm.Cond.methodLink "EverybodyHasTheBookModel" (316 : Nat) ({ cls := "EverybodyHasTheBookModel", name := "findRound", desc := "(I)V" } : Jvm.MethodName)) ∈ lw_all := lw_g (lw_at lw_m8 207 rfl) rfl
theorem q1963 : (Jvm.Cond.privateMethod ({ cls := "EverybodyHasTheBookModel", name := "findRound", desc := "(I)V" } : Jvm.MethodName)) ∈ lw_tbl := lw_at lw_m8 208 rfl
theorem q1964 : (Jvm.Cond.instanceMethod ({ cls := "EverybodyHasTheBookModel", name := "findRound", desc := "(I)V" } : Jvm.MethodName)) ∈ lw_all := lw_g (lw_at lw_m8 209 rfl) rfl
theorem q1965 : (Jvm.Cond.code ({ cls := "EverybodyHasTheBookModel", name := "findRound", desc := "(I)V" } : Jvm.MethodName) prog_16_method_89_code (9 : Nat) (Option.none : Option Jvm.ClassFile.FieldType)) ∈ lw_all := lw_g (lw_at lw_m8 210 rfl) rfl
theorem q1967 : (Jvm.Cond.instanceMethod ({ cls := "EverybodyHasTheBookModel", name := "kept", desc := "(II)I" } : Jvm.MethodName)) ∈ lw_all := lw_g (lw_at lw_m8 212 rfl) rfl
theorem q1968 : (Jvm.Cond.selects "EverybodyHasTheBookModel" ({ cls := "EverybodyHasTheBookModel", name := "kept", desc := "(II)I" } : Jvm.MethodName) ({ cls := "EverybodyHasTheBookModel", name := "kept", desc := "(II)I" } : Jvm.MethodName)) ∈ lw_all := lw_g (lw_at lw_m8 213 rfl) rfl
theorem q1969 : (Jvm.Cond.code ({ cls := "EverybodyHasTheBookModel", name := "kept", desc := "(II)I" } : Jvm.MethodName) prog_16_method_92_code (5 : Nat) (Option.some Jvm.ClassFile.FieldType.int)) ∈ lw_all := lw_g (lw_at lw_m8 214 rfl) rfl
theorem q1970 : (Jvm.Cond.methodLink "EverybodyHasTheBookModel" (319 : Nat) ({ cls := "EverybodyHasTheBookModel", name := "ownJoy", desc := "(I)I" } : Jvm.MethodName)) ∈ lw_all := lw_g (lw_at lw_m8 215 rfl) rfl
theorem q1971 : (Jvm.Cond.privateMethod ({ cls := "EverybodyHasTheBookModel", name := "ownJoy", desc := "(I)I" } : Jvm.MethodName)) ∈ lw_tbl := lw_at lw_m8 216 rfl
theorem q1972 : (Jvm.Cond.instanceMethod ({ cls := "EverybodyHasTheBookModel", name := "ownJoy", desc := "(I)I" } : Jvm.MethodName)) ∈ lw_all := lw_g (lw_at lw_m8 217 rfl) rfl
theorem q1973 : (Jvm.Cond.code ({ cls := "EverybodyHasTheBookModel", name := "ownJoy", desc := "(I)I" } : Jvm.MethodName) prog_16_method_91_code (5 : Nat) (Option.some Jvm.ClassFile.FieldType.int)) ∈ lw_all := lw_g (lw_at lw_m8 218 rfl) rfl
theorem q1975 : (Jvm.Cond.instanceMethod ({ cls := "EverybodyHasTheBookModel", name := "called", desc := "(III)I" } : Jvm.MethodName)) ∈ lw_all := lw_g (lw_at lw_m8 220 rfl) rfl
theorem q1976 : (Jvm.Cond.selects "EverybodyHasTheBookModel" ({ cls := "EverybodyHasTheBookModel", name := "called", desc := "(III)I" } : Jvm.MethodName) ({ cls := "EverybodyHasTheBookModel", name := "called", desc := "(III)I" } : Jvm.MethodName)) ∈ lw_all := lw_g (lw_at lw_m8 221 rfl) rfl
theorem q1977 : (Jvm.Cond.code ({ cls := "EverybodyHasTheBookModel", name := "called", desc := "(III)I" } : Jvm.MethodName) prog_16_method_93_code (6 : Nat) (Option.some Jvm.ClassFile.FieldType.int)) ∈ lw_all := lw_g (lw_at lw_m8 222 rfl) rfl
theorem q1979 : (Jvm.Cond.instanceMethod ({ cls := "EverybodyHasTheBookModel", name := "spoilt", desc := "(II)I" } : Jvm.MethodName)) ∈ lw_all := lw_g (lw_at lw_m8 224 rfl) rfl
theorem q1980 : (Jvm.Cond.selects "EverybodyHasTheBookModel" ({ cls := "EverybodyHasTheBookModel", name := "spoilt", desc := "(II)I" } : Jvm.MethodName) ({ cls := "EverybodyHasTheBookModel", name := "spoilt", desc := "(II)I" } : Jvm.MethodName)) ∈ lw_all := lw_g (lw_at lw_m8 225 rfl) rfl
theorem q1981 : (Jvm.Cond.code ({ cls := "EverybodyHasTheBookModel", name := "spoilt", desc := "(II)I" } : Jvm.MethodName) prog_16_method_94_code (5 : Nat) (Option.some Jvm.ClassFile.FieldType.int)) ∈ lw_all := lw_g (lw_at lw_m8 226 rfl) rfl
theorem q1983 : (Jvm.Cond.instanceMethod ({ cls := "EverybodyHasTheBookModel", name := "bears", desc := "(IIII)I" } : Jvm.MethodName)) ∈ lw_all := lw_g (lw_at lw_m8 228 rfl) rfl
theorem q1984 : (Jvm.Cond.selects "EverybodyHasTheBookModel" ({ cls := "EverybodyHasTheBookModel", name := "bears", desc := "(IIII)I" } : Jvm.MethodName) ({ cls := "EverybodyHasTheBookModel", name := "bears", desc := "(IIII)I" } : Jvm.MethodName)) ∈ lw_all := lw_g (lw_at lw_m8 229 rfl) rfl
theorem q1985 : (Jvm.Cond.code ({ cls := "EverybodyHasTheBookModel", name := "bears", desc := "(IIII)I" } : Jvm.MethodName) prog_16_method_95_code (9 : Nat) (Option.some Jvm.ClassFile.FieldType.int)) ∈ lw_all := lw_g (lw_at lw_m8 230 rfl) rfl
theorem q1987 : (Jvm.Cond.instanceMethod ({ cls := "EverybodyHasTheBookModel", name := "recovers", desc := "(I)I" } : Jvm.MethodName)) ∈ lw_all := lw_g (lw_at lw_m8 232 rfl) rfl
theorem q1988 : (Jvm.Cond.selects "EverybodyHasTheBookModel" ({ cls := "EverybodyHasTheBookModel", name := "recovers", desc := "(I)I" } : Jvm.MethodName) ({ cls := "EverybodyHasTheBookModel", name := "recovers", desc := "(I)I" } : Jvm.MethodName)) ∈ lw_all := lw_g (lw_at lw_m8 233 rfl) rfl
theorem q1989 : (Jvm.Cond.code ({ cls := "EverybodyHasTheBookModel", name := "recovers", desc := "(I)I" } : Jvm.MethodName) prog_16_method_96_code (4 : Nat) (Option.some Jvm.ClassFile.FieldType.int)) ∈ lw_all := lw_g (lw_at lw_m8 234 rfl) rfl
theorem q1991 : (Jvm.Cond.instanceMethod ({ cls := "EverybodyHasTheBookModel", name := "dearest", desc := "(II)I" } : Jvm.MethodName)) ∈ lw_all := lw_g (lw_at lw_m8 236 rfl) rfl
theorem q1992 : (Jvm.Cond.selects "EverybodyHasTheBookModel" ({ cls := "EverybodyHasTheBookModel", name := "dearest", desc := "(II)I" } : Jvm.MethodName) ({ cls := "EverybodyHasTheBookModel", name := "dearest", desc := "(II)I" } : Jvm.MethodName)) ∈ lw_all := lw_g (lw_at lw_m8 237 rfl) rfl
theorem q1993 : (Jvm.Cond.code ({ cls := "EverybodyHasTheBookModel", name := "dearest", desc := "(II)I" } : Jvm.MethodName) prog_16_method_97_code (9 : Nat) (Option.some Jvm.ClassFile.FieldType.int)) ∈ lw_all := lw_g (lw_at lw_m8 238 rfl) rfl
theorem q1995 : (Jvm.Cond.instanceMethod ({ cls := "EverybodyHasTheBookModel", name := "year", desc := "()I" } : Jvm.MethodName)) ∈ lw_all := lw_g (lw_at lw_m9 0 rfl) rfl
theorem q1996 : (Jvm.Cond.selects "EverybodyHasTheBookModel" ({ cls := "EverybodyHasTheBookModel", name := "year", desc := "()I" } : Jvm.MethodName) ({ cls := "EverybodyHasTheBookModel", name := "year", desc := "()I" } : Jvm.MethodName)) ∈ lw_all := lw_g (lw_at lw_m9 1 rfl) rfl
theorem q1997 : (Jvm.Cond.code ({ cls := "EverybodyHasTheBookModel", name := "year", desc := "()I" } : Jvm.MethodName) prog_16_method_98_code (1 : Nat) (Option.some Jvm.ClassFile.FieldType.int)) ∈ lw_all := lw_g (lw_at lw_m9 2 rfl) rfl
theorem q1999 : (Jvm.Cond.instanceMethod ({ cls := "EverybodyHasTheBookModel", name := "goes", desc := "(I)I" } : Jvm.MethodName)) ∈ lw_all := lw_g (lw_at lw_m9 4 rfl) rfl
theorem q2000 : (Jvm.Cond.selects "EverybodyHasTheBookModel" ({ cls := "EverybodyHasTheBookModel", name := "goes", desc := "(I)I" } : Jvm.MethodName) ({ cls := "EverybodyHasTheBookModel", name := "goes", desc := "(I)I" } : Jvm.MethodName)) ∈ lw_all := lw_g (lw_at lw_m9 5 rfl) rfl
theorem q2001 : (Jvm.Cond.code ({ cls := "EverybodyHasTheBookModel", name := "goes", desc := "(I)I" } : Jvm.MethodName) prog_16_method_99_code (2 : Nat) (Option.some Jvm.ClassFile.FieldType.int)) ∈ lw_all := lw_g (lw_at lw_m9 6 rfl) rfl
theorem q2003 : (Jvm.Cond.instanceMethod ({ cls := "EverybodyHasTheBookModel", name := "post", desc := "(I)I" } : Jvm.MethodName)) ∈ lw_all := lw_g (lw_at lw_m9 8 rfl) rfl
theorem q2004 : (Jvm.Cond.selects "EverybodyHasTheBookModel" ({ cls := "EverybodyHasTheBookModel", name := "post", desc := "(I)I" } : Jvm.MethodName) ({ cls := "EverybodyHasTheBookModel", name := "post", desc := "(I)I" } : Jvm.MethodName)) ∈ lw_all := lw_g (lw_at lw_m9 9 rfl) rfl
theorem q2005 : (Jvm.Cond.code ({ cls := "EverybodyHasTheBookModel", name := "post", desc := "(I)I" } : Jvm.MethodName) prog_16_method_101_code (6 : Nat) (Option.some Jvm.ClassFile.FieldType.int)) ∈ lw_all := lw_g (lw_at lw_m9 10 rfl) rfl
theorem q2006 : (Jvm.Cond.methodLink "EverybodyHasTheBookModel" (323 : Nat) ({ cls := "EverybodyHasTheBookModel", name := "draw", desc := "(I)I" } : Jvm.MethodName)) ∈ lw_all := lw_g (lw_at lw_m9 11 rfl) rfl
theorem q2007 : (Jvm.Cond.privateMethod ({ cls := "EverybodyHasTheBookModel", name := "draw", desc := "(I)I" } : Jvm.MethodName)) ∈ lw_tbl := lw_at lw_m9 12 rfl
theorem q2008 : (Jvm.Cond.instanceMethod ({ cls := "EverybodyHasTheBookModel", name := "draw", desc := "(I)I" } : Jvm.MethodName)) ∈ lw_all := lw_g (lw_at lw_m9 13 rfl) rfl
theorem q2009 : (Jvm.Cond.code ({ cls := "EverybodyHasTheBookModel", name := "draw", desc := "(I)I" } : Jvm.MethodName) prog_16_method_100_code (2 : Nat) (Option.some Jvm.ClassFile.FieldType.int)) ∈ lw_all := lw_g (lw_at lw_m9 14 rfl) rfl
theorem q2010 : (Jvm.Cond.constant "EverybodyHasTheBookModel" (322 : Nat) (1103515245 : Int32)) ∈ lw_all := lw_g (lw_at lw_m9 15 rfl) rfl
theorem q2012 : (Jvm.Cond.instanceMethod ({ cls := "EverybodyHasTheBookModel", name := "seed", desc := "(I)I" } : Jvm.MethodName)) ∈ lw_all := lw_g (lw_at lw_m9 17 rfl) rfl
theorem q2013 : (Jvm.Cond.selects "EverybodyHasTheBookModel" ({ cls := "EverybodyHasTheBookModel", name := "seed", desc := "(I)I" } : Jvm.MethodName) ({ cls := "EverybodyHasTheBookModel", name := "seed", desc := "(I)I" } : Jvm.MethodName)) ∈ lw_all := lw_g (lw_at lw_m9 18 rfl) rfl
theorem q2014 : (Jvm.Cond.code ({ cls := "EverybodyHasTheBookModel", name := "seed", desc := "(I)I" } : Jvm.MethodName) prog_16_method_102_code (3 : Nat) (Option.some Jvm.ClassFile.FieldType.int)) ∈ lw_all := lw_g (lw_at lw_m9 19 rfl) rfl
theorem q2016 : (Jvm.Cond.instanceMethod ({ cls := "EverybodyHasTheBookModel", name := "image", desc := "()I" } : Jvm.MethodName)) ∈ lw_all := lw_g (lw_at lw_m9 21 rfl) rfl
theorem q2017 : (Jvm.Cond.selects "EverybodyHasTheBookModel" ({ cls := "EverybodyHasTheBookModel", name := "image", desc := "()I" } : Jvm.MethodName) ({ cls := "EverybodyHasTheBookModel", name := "image", desc := "()I" } : Jvm.MethodName)) ∈ lw_all := lw_g (lw_at lw_m9 22 rfl) rfl
theorem q2018 : (Jvm.Cond.code ({ cls := "EverybodyHasTheBookModel", name := "image", desc := "()I" } : Jvm.MethodName) prog_16_method_106_code (1 : Nat) (Option.some Jvm.ClassFile.FieldType.int)) ∈ lw_all := lw_g (lw_at lw_m9 23 rfl) rfl
theorem q2020 : (Jvm.Cond.instanceMethod ({ cls := "EverybodyHasTheBookModel", name := "back", desc := "()I" } : Jvm.MethodName)) ∈ lw_all := lw_g (lw_at lw_m9 25 rfl) rfl
theorem q2021 : (Jvm.Cond.selects "EverybodyHasTheBookModel" ({ cls := "EverybodyHasTheBookModel", name := "back", desc := "()I" } : Jvm.MethodName) ({ cls := "EverybodyHasTheBookModel", name := "back", desc := "()I" } : Jvm.MethodName)) ∈ lw_all := lw_g (lw_at lw_m9 26 rfl) rfl
theorem q2022 : (Jvm.Cond.code ({ cls := "EverybodyHasTheBookModel", name := "back", desc := "()I" } : Jvm.MethodName) prog_16_method_107_code (2 : Nat) (Option.some Jvm.ClassFile.FieldType.int)) ∈ lw_all := lw_g (lw_at lw_m9 27 rfl) rfl
theorem q2024 : (Jvm.Cond.instanceMethod ({ cls := "EverybodyHasTheBookModel", name := "status", desc := "(I)I" } : Jvm.MethodName)) ∈ lw_all := lw_g (lw_at lw_m9 29 rfl) rfl
theorem q2025 : (Jvm.Cond.selects "EverybodyHasTheBookModel" ({ cls := "EverybodyHasTheBookModel", name := "status", desc := "(I)I" } : Jvm.MethodName) ({ cls := "EverybodyHasTheBookModel", name := "status", desc := "(I)I" } : Jvm.MethodName)) ∈ lw_all := lw_g (lw_at lw_m9 30 rfl) rfl
theorem q2026 : (Jvm.Cond.code ({ cls := "EverybodyHasTheBookModel", name := "status", desc := "(I)I" } : Jvm.MethodName) prog_16_method_108_code (4 : Nat) (Option.some Jvm.ClassFile.FieldType.int)) ∈ lw_all := lw_g (lw_at lw_m9 31 rfl) rfl
theorem q2027 : (Jvm.Cond.constantLong "EverybodyHasTheBookModel" (338 : Nat) (16 : Int64)) ∈ lw_all := lw_g (lw_at lw_m9 32 rfl) rfl
theorem in_X3 : ∀ w ∈ wsX30, w ∈ lw_all := lw_in wsX30 [1493, 1495, 1497, 1499, 1501, 1503, 1505, 1507, 1509, 1511, 1513, 1515, 1517, 1519, 1521, 1523, 1525, 1527, 1529, 1531, 1533, 1535, 1537, 1539, 1541, 1543, 1545, 1547, 1549, 1551, 1553, 1555, 1557, 1559] (by decide +kernel) (by decide +kernel)
