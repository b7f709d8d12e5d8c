/-! EverybodyHasTheBook$Valley -/
set_option maxRecDepth 100000
def RX1 : String := "EverybodyHasTheBook$Valley"
def TX1 : u_T := fun k => match k with
  | 0 => ("EverybodyHasTheBook$Valley", "good", "[I", true)
  | 1 => ("EverybodyHasTheBook$Valley", "base", "[I", true)
  | 2 => ("EverybodyHasTheBook$Valley", "rooms", "[I", true)
  | 3 => ("EverybodyHasTheBook$Valley", "price", "[I", true)
  | 4 => ("EverybodyHasTheBook$Valley", "said", "[I", true)
  | 5 => ("EverybodyHasTheBook$Valley", "letters", "[I", true)
  | 6 => ("EverybodyHasTheBook$Valley", "sum", "[I", true)
  | 7 => ("EverybodyHasTheBook$Valley", "goer", "[LEverybodyHasTheBook$Goer;", true)
  | 8 => ("EverybodyHasTheBook$Valley", "heads", "[I", true)
  | 9 => ("EverybodyHasTheBook$Valley", "sleeps", "[[I", true)
  | 10 => ("EverybodyHasTheBook$Valley", "guests", "[I", true)
  | 11 => ("EverybodyHasTheBook$Valley", "out", "[I", true)
  | 12 => ("EverybodyHasTheBook$Valley", "inns", "I", false)
  | 13 => ("EverybodyHasTheBook$Valley", "goers", "I", false)
  | 14 => ("EverybodyHasTheBook$Valley", "age", "I", false)
  | 15 => ("EverybodyHasTheBook$Valley", "seed", "I", false)
  | _ => ("EverybodyHasTheBook$Valley", "gone", "I", false)
def tyX1 : Nat → FieldType := fun k => match k with
  | 0 => .array .int
  | 1 => .array .int
  | 2 => .array .int
  | 3 => .array .int
  | 4 => .array .int
  | 5 => .array .int
  | 6 => .array .int
  | 7 => .array (.object "EverybodyHasTheBook$Goer")
  | 8 => .array .int
  | 9 => .array (.array .int)
  | 10 => .array .int
  | 11 => .array .int
  | 12 => .int
  | 13 => .int
  | 14 => .int
  | 15 => .int
  | _ => .int
abbrev wsX10 : List Cond := u_ws RX1 TX1 17
set_option maxRecDepth 100000 in
theorem nmX1 : ∀ a, a < 17 → ∀ b, b < 17 → a ≠ b → (TX1 a).2.1 ≠ (TX1 b).2.1 := by decide +kernel
set_option maxRecDepth 100000 in
theorem tyX1_ok : ∀ k, k < 17 → parseFieldDescriptor (TX1 k).2.2.1 = some (tyX1 k) := by decide +kernel
abbrev cX1_init : ByteArray := prog_14_method_1_code
def yX1_init : MethodName := ⟨RX1, "<init>", "()V"⟩
def dkwX1_init_4 : List UInt8 := [181, 0, 47, 42, 16, 6, 188, 10, 181, 0, 50, 42, 4, 181, 0, 53, 177]
abbrev dktX1_init_4 : List UInt8 := dkwX1_init_4 ++ []
def dkwX1_init_3 : List UInt8 := [16, 6, 188, 10, 181, 0, 39, 42, 16, 6, 16, 6, 197, 0, 42, 2, 181, 0, 44, 42, 16, 6, 188, 10]
abbrev dktX1_init_3 : List UInt8 := dkwX1_init_3 ++ dktX1_init_4
def dkwX1_init_2 : List UInt8 := [188, 10, 181, 0, 27, 42, 16, 6, 188, 10, 181, 0, 30, 42, 16, 6, 189, 0, 33, 181, 0, 35, 42]
abbrev dktX1_init_2 : List UInt8 := dkwX1_init_2 ++ dktX1_init_3
def dkwX1_init_1 : List UInt8 := [188, 10, 181, 0, 18, 42, 16, 6, 188, 10, 181, 0, 21, 42, 16, 6, 188, 10, 181, 0, 24, 42, 16, 6]
abbrev dktX1_init_1 : List UInt8 := dkwX1_init_1 ++ dktX1_init_2
def dkwX1_init_0 : List UInt8 := [42, 183, 0, 3, 42, 16, 6, 188, 10, 181, 0, 9, 42, 16, 6, 188, 10, 181, 0, 15, 42, 16, 6]
abbrev dktX1_init_0 : List UInt8 := dkwX1_init_0 ++ dktX1_init_1
theorem dksX1_init_0 : cX1_init.data.toList.drop 0 = dktX1_init_0 := by decide +kernel
theorem dksX1_init_1 : cX1_init.data.toList.drop 23 = dktX1_init_1 := dk_seg dksX1_init_0 23 rfl rfl
theorem dksX1_init_2 : cX1_init.data.toList.drop 47 = dktX1_init_2 := dk_seg dksX1_init_1 24 rfl rfl
theorem dksX1_init_3 : cX1_init.data.toList.drop 70 = dktX1_init_3 := dk_seg dksX1_init_2 23 rfl rfl
theorem dksX1_init_4 : cX1_init.data.toList.drop 94 = dktX1_init_4 := dk_seg dksX1_init_3 24 rfl rfl
theorem dX1_init_0 : decode cX1_init 0 = .ok (.aload_n 0, 1) := dk_42 (dk_at dksX1_init_0 0 rfl rfl)
theorem dX1_init_1 : decode cX1_init 1 = .ok (.invokespecial 3, 3) := dk_183 0 3 (dk_at dksX1_init_0 1 rfl rfl)
theorem dX1_init_4 : decode cX1_init 4 = .ok (.aload_n 0, 1) := dk_42 (dk_at dksX1_init_0 4 rfl rfl)
theorem dX1_init_5 : decode cX1_init 5 = .ok (.bipush 6, 2) := dk_16 6 (dk_at dksX1_init_0 5 rfl rfl)
theorem dX1_init_7 : decode cX1_init 7 = .ok (.newarray .int, 2) := dk_188_10 (dk_at dksX1_init_0 7 rfl rfl)
theorem dX1_init_9 : decode cX1_init 9 = .ok (.putfield 9, 3) := dk_181 0 9 (dk_at dksX1_init_0 9 rfl rfl)
theorem dX1_init_12 : decode cX1_init 12 = .ok (.aload_n 0, 1) := dk_42 (dk_at dksX1_init_0 12 rfl rfl)
theorem dX1_init_13 : decode cX1_init 13 = .ok (.bipush 6, 2) := dk_16 6 (dk_at dksX1_init_0 13 rfl rfl)
theorem dX1_init_15 : decode cX1_init 15 = .ok (.newarray .int, 2) := dk_188_10 (dk_at dksX1_init_0 15 rfl rfl)
theorem dX1_init_17 : decode cX1_init 17 = .ok (.putfield 15, 3) := dk_181 0 15 (dk_at dksX1_init_0 17 rfl rfl)
theorem dX1_init_20 : decode cX1_init 20 = .ok (.aload_n 0, 1) := dk_42 (dk_at dksX1_init_0 20 rfl rfl)
theorem dX1_init_21 : decode cX1_init 21 = .ok (.bipush 6, 2) := dk_16 6 (dk_at dksX1_init_0 21 rfl rfl)
theorem dX1_init_23 : decode cX1_init 23 = .ok (.newarray .int, 2) := dk_188_10 (dk_at dksX1_init_1 0 rfl rfl)
theorem dX1_init_25 : decode cX1_init 25 = .ok (.putfield 18, 3) := dk_181 0 18 (dk_at dksX1_init_1 2 rfl rfl)
theorem dX1_init_28 : decode cX1_init 28 = .ok (.aload_n 0, 1) := dk_42 (dk_at dksX1_init_1 5 rfl rfl)
theorem dX1_init_29 : decode cX1_init 29 = .ok (.bipush 6, 2) := dk_16 6 (dk_at dksX1_init_1 6 rfl rfl)
theorem dX1_init_31 : decode cX1_init 31 = .ok (.newarray .int, 2) := dk_188_10 (dk_at dksX1_init_1 8 rfl rfl)
theorem dX1_init_33 : decode cX1_init 33 = .ok (.putfield 21, 3) := dk_181 0 21 (dk_at dksX1_init_1 10 rfl rfl)
theorem dX1_init_36 : decode cX1_init 36 = .ok (.aload_n 0, 1) := dk_42 (dk_at dksX1_init_1 13 rfl rfl)
theorem dX1_init_37 : decode cX1_init 37 = .ok (.bipush 6, 2) := dk_16 6 (dk_at dksX1_init_1 14 rfl rfl)
theorem dX1_init_39 : decode cX1_init 39 = .ok (.newarray .int, 2) := dk_188_10 (dk_at dksX1_init_1 16 rfl rfl)
theorem dX1_init_41 : decode cX1_init 41 = .ok (.putfield 24, 3) := dk_181 0 24 (dk_at dksX1_init_1 18 rfl rfl)
theorem dX1_init_44 : decode cX1_init 44 = .ok (.aload_n 0, 1) := dk_42 (dk_at dksX1_init_1 21 rfl rfl)
theorem dX1_init_45 : decode cX1_init 45 = .ok (.bipush 6, 2) := dk_16 6 (dk_at dksX1_init_1 22 rfl rfl)
theorem dX1_init_47 : decode cX1_init 47 = .ok (.newarray .int, 2) := dk_188_10 (dk_at dksX1_init_2 0 rfl rfl)
theorem dX1_init_49 : decode cX1_init 49 = .ok (.putfield 27, 3) := dk_181 0 27 (dk_at dksX1_init_2 2 rfl rfl)
theorem dX1_init_52 : decode cX1_init 52 = .ok (.aload_n 0, 1) := dk_42 (dk_at dksX1_init_2 5 rfl rfl)
theorem dX1_init_53 : decode cX1_init 53 = .ok (.bipush 6, 2) := dk_16 6 (dk_at dksX1_init_2 6 rfl rfl)
theorem dX1_init_55 : decode cX1_init 55 = .ok (.newarray .int, 2) := dk_188_10 (dk_at dksX1_init_2 8 rfl rfl)
theorem dX1_init_57 : decode cX1_init 57 = .ok (.putfield 30, 3) := dk_181 0 30 (dk_at dksX1_init_2 10 rfl rfl)
theorem dX1_init_60 : decode cX1_init 60 = .ok (.aload_n 0, 1) := dk_42 (dk_at dksX1_init_2 13 rfl rfl)
theorem dX1_init_61 : decode cX1_init 61 = .ok (.bipush 6, 2) := dk_16 6 (dk_at dksX1_init_2 14 rfl rfl)
theorem dX1_init_63 : decode cX1_init 63 = .ok (.anewarray 33, 3) := dk_189 0 33 (dk_at dksX1_init_2 16 rfl rfl)
theorem dX1_init_66 : decode cX1_init 66 = .ok (.putfield 35, 3) := dk_181 0 35 (dk_at dksX1_init_2 19 rfl rfl)
theorem dX1_init_69 : decode cX1_init 69 = .ok (.aload_n 0, 1) := dk_42 (dk_at dksX1_init_2 22 rfl rfl)
theorem dX1_init_70 : decode cX1_init 70 = .ok (.bipush 6, 2) := dk_16 6 (dk_at dksX1_init_3 0 rfl rfl)
theorem dX1_init_72 : decode cX1_init 72 = .ok (.newarray .int, 2) := dk_188_10 (dk_at dksX1_init_3 2 rfl rfl)
theorem dX1_init_74 : decode cX1_init 74 = .ok (.putfield 39, 3) := dk_181 0 39 (dk_at dksX1_init_3 4 rfl rfl)
theorem dX1_init_77 : decode cX1_init 77 = .ok (.aload_n 0, 1) := dk_42 (dk_at dksX1_init_3 7 rfl rfl)
theorem dX1_init_78 : decode cX1_init 78 = .ok (.bipush 6, 2) := dk_16 6 (dk_at dksX1_init_3 8 rfl rfl)
theorem dX1_init_80 : decode cX1_init 80 = .ok (.bipush 6, 2) := dk_16 6 (dk_at dksX1_init_3 10 rfl rfl)
theorem dX1_init_82 : decode cX1_init 82 = .ok (.multianewarray 42 2, 4) := by decide +kernel
theorem dX1_init_86 : decode cX1_init 86 = .ok (.putfield 44, 3) := dk_181 0 44 (dk_at dksX1_init_3 16 rfl rfl)
theorem dX1_init_89 : decode cX1_init 89 = .ok (.aload_n 0, 1) := dk_42 (dk_at dksX1_init_3 19 rfl rfl)
theorem dX1_init_90 : decode cX1_init 90 = .ok (.bipush 6, 2) := dk_16 6 (dk_at dksX1_init_3 20 rfl rfl)
theorem dX1_init_92 : decode cX1_init 92 = .ok (.newarray .int, 2) := dk_188_10 (dk_at dksX1_init_3 22 rfl rfl)
theorem dX1_init_94 : decode cX1_init 94 = .ok (.putfield 47, 3) := dk_181 0 47 (dk_at dksX1_init_4 0 rfl rfl)
theorem dX1_init_97 : decode cX1_init 97 = .ok (.aload_n 0, 1) := dk_42 (dk_at dksX1_init_4 3 rfl rfl)
theorem dX1_init_98 : decode cX1_init 98 = .ok (.bipush 6, 2) := dk_16 6 (dk_at dksX1_init_4 4 rfl rfl)
theorem dX1_init_100 : decode cX1_init 100 = .ok (.newarray .int, 2) := dk_188_10 (dk_at dksX1_init_4 6 rfl rfl)
theorem dX1_init_102 : decode cX1_init 102 = .ok (.putfield 50, 3) := dk_181 0 50 (dk_at dksX1_init_4 8 rfl rfl)
theorem dX1_init_105 : decode cX1_init 105 = .ok (.aload_n 0, 1) := dk_42 (dk_at dksX1_init_4 11 rfl rfl)
theorem dX1_init_106 : decode cX1_init 106 = .ok (.iconst 1, 1) := dk_4 (dk_at dksX1_init_4 12 rfl rfl)
theorem dX1_init_107 : decode cX1_init 107 = .ok (.putfield 53, 3) := dk_181 0 53 (dk_at dksX1_init_4 13 rfl rfl)
theorem dX1_init_110 : decode cX1_init 110 = .ok (.return_, 1) := dk_177 (dk_at dksX1_init_4 16 rfl rfl)
abbrev cX1_adds : ByteArray := prog_14_method_4_code
def yX1_adds : MethodName := ⟨RX1, "adds", "(III)V"⟩
def dkwX1_adds_3 : List UInt8 := [180, 0, 68, 4, 96, 181, 0, 68, 177]
abbrev dktX1_adds_3 : List UInt8 := dkwX1_adds_3 ++ []
def dkwX1_adds_2 : List UInt8 := [2, 79, 42, 180, 0, 27, 42, 180, 0, 68, 3, 79, 42, 180, 0, 30, 42, 180, 0, 68, 3, 79, 42, 89]
abbrev dktX1_adds_2 : List UInt8 := dkwX1_adds_2 ++ dktX1_adds_3
def dkwX1_adds_1 : List UInt8 := [42, 180, 0, 68, 28, 79, 42, 180, 0, 21, 42, 180, 0, 68, 29, 79, 42, 180, 0, 24, 42, 180, 0, 68]
abbrev dktX1_adds_1 : List UInt8 := dkwX1_adds_1 ++ dktX1_adds_2
def dkwX1_adds_0 : List UInt8 := [42, 180, 0, 9, 42, 180, 0, 68, 27, 79, 42, 180, 0, 15, 42, 180, 0, 68, 27, 79, 42, 180, 0, 18]
abbrev dktX1_adds_0 : List UInt8 := dkwX1_adds_0 ++ dktX1_adds_1
theorem dksX1_adds_0 : cX1_adds.data.toList.drop 0 = dktX1_adds_0 := by decide +kernel
theorem dksX1_adds_1 : cX1_adds.data.toList.drop 24 = dktX1_adds_1 := dk_seg dksX1_adds_0 24 rfl rfl
theorem dksX1_adds_2 : cX1_adds.data.toList.drop 48 = dktX1_adds_2 := dk_seg dksX1_adds_1 24 rfl rfl
theorem dksX1_adds_3 : cX1_adds.data.toList.drop 72 = dktX1_adds_3 := dk_seg dksX1_adds_2 24 rfl rfl
theorem dX1_adds_0 : decode cX1_adds 0 = .ok (.aload_n 0, 1) := dk_42 (dk_at dksX1_adds_0 0 rfl rfl)
theorem dX1_adds_1 : decode cX1_adds 1 = .ok (.getfield 9, 3) := dk_180 0 9 (dk_at dksX1_adds_0 1 rfl rfl)
theorem dX1_adds_4 : decode cX1_adds 4 = .ok (.aload_n 0, 1) := dk_42 (dk_at dksX1_adds_0 4 rfl rfl)
theorem dX1_adds_5 : decode cX1_adds 5 = .ok (.getfield 68, 3) := dk_180 0 68 (dk_at dksX1_adds_0 5 rfl rfl)
theorem dX1_adds_8 : decode cX1_adds 8 = .ok (.iload_n 1, 1) := dk_27 (dk_at dksX1_adds_0 8 rfl rfl)
theorem dX1_adds_9 : decode cX1_adds 9 = .ok (.iastore, 1) := dk_79 (dk_at dksX1_adds_0 9 rfl rfl)
theorem dX1_adds_10 : decode cX1_adds 10 = .ok (.aload_n 0, 1) := dk_42 (dk_at dksX1_adds_0 10 rfl rfl)
theorem dX1_adds_11 : decode cX1_adds 11 = .ok (.getfield 15, 3) := dk_180 0 15 (dk_at dksX1_adds_0 11 rfl rfl)
theorem dX1_adds_14 : decode cX1_adds 14 = .ok (.aload_n 0, 1) := dk_42 (dk_at dksX1_adds_0 14 rfl rfl)
theorem dX1_adds_15 : decode cX1_adds 15 = .ok (.getfield 68, 3) := dk_180 0 68 (dk_at dksX1_adds_0 15 rfl rfl)
theorem dX1_adds_18 : decode cX1_adds 18 = .ok (.iload_n 1, 1) := dk_27 (dk_at dksX1_adds_0 18 rfl rfl)
theorem dX1_adds_19 : decode cX1_adds 19 = .ok (.iastore, 1) := dk_79 (dk_at dksX1_adds_0 19 rfl rfl)
theorem dX1_adds_20 : decode cX1_adds 20 = .ok (.aload_n 0, 1) := dk_42 (dk_at dksX1_adds_0 20 rfl rfl)
theorem dX1_adds_21 : decode cX1_adds 21 = .ok (.getfield 18, 3) := dk_180 0 18 (dk_at dksX1_adds_0 21 rfl rfl)
theorem dX1_adds_24 : decode cX1_adds 24 = .ok (.aload_n 0, 1) := dk_42 (dk_at dksX1_adds_1 0 rfl rfl)
theorem dX1_adds_25 : decode cX1_adds 25 = .ok (.getfield 68, 3) := dk_180 0 68 (dk_at dksX1_adds_1 1 rfl rfl)
theorem dX1_adds_28 : decode cX1_adds 28 = .ok (.iload_n 2, 1) := dk_28 (dk_at dksX1_adds_1 4 rfl rfl)
theorem dX1_adds_29 : decode cX1_adds 29 = .ok (.iastore, 1) := dk_79 (dk_at dksX1_adds_1 5 rfl rfl)
theorem dX1_adds_30 : decode cX1_adds 30 = .ok (.aload_n 0, 1) := dk_42 (dk_at dksX1_adds_1 6 rfl rfl)
theorem dX1_adds_31 : decode cX1_adds 31 = .ok (.getfield 21, 3) := dk_180 0 21 (dk_at dksX1_adds_1 7 rfl rfl)
theorem dX1_adds_34 : decode cX1_adds 34 = .ok (.aload_n 0, 1) := dk_42 (dk_at dksX1_adds_1 10 rfl rfl)
theorem dX1_adds_35 : decode cX1_adds 35 = .ok (.getfield 68, 3) := dk_180 0 68 (dk_at dksX1_adds_1 11 rfl rfl)
theorem dX1_adds_38 : decode cX1_adds 38 = .ok (.iload_n 3, 1) := dk_29 (dk_at dksX1_adds_1 14 rfl rfl)
theorem dX1_adds_39 : decode cX1_adds 39 = .ok (.iastore, 1) := dk_79 (dk_at dksX1_adds_1 15 rfl rfl)
theorem dX1_adds_40 : decode cX1_adds 40 = .ok (.aload_n 0, 1) := dk_42 (dk_at dksX1_adds_1 16 rfl rfl)
theorem dX1_adds_41 : decode cX1_adds 41 = .ok (.getfield 24, 3) := dk_180 0 24 (dk_at dksX1_adds_1 17 rfl rfl)
theorem dX1_adds_44 : decode cX1_adds 44 = .ok (.aload_n 0, 1) := dk_42 (dk_at dksX1_adds_1 20 rfl rfl)
theorem dX1_adds_45 : decode cX1_adds 45 = .ok (.getfield 68, 3) := dk_180 0 68 (dk_at dksX1_adds_1 21 rfl rfl)
theorem dX1_adds_48 : decode cX1_adds 48 = .ok (.iconst (-1), 1) := dk_2 (dk_at dksX1_adds_2 0 rfl rfl)
theorem dX1_adds_49 : decode cX1_adds 49 = .ok (.iastore, 1) := dk_79 (dk_at dksX1_adds_2 1 rfl rfl)
theorem dX1_adds_50 : decode cX1_adds 50 = .ok (.aload_n 0, 1) := dk_42 (dk_at dksX1_adds_2 2 rfl rfl)
theorem dX1_adds_51 : decode cX1_adds 51 = .ok (.getfield 27, 3) := dk_180 0 27 (dk_at dksX1_adds_2 3 rfl rfl)
theorem dX1_adds_54 : decode cX1_adds 54 = .ok (.aload_n 0, 1) := dk_42 (dk_at dksX1_adds_2 6 rfl rfl)
theorem dX1_adds_55 : decode cX1_adds 55 = .ok (.getfield 68, 3) := dk_180 0 68 (dk_at dksX1_adds_2 7 rfl rfl)
theorem dX1_adds_58 : decode cX1_adds 58 = .ok (.iconst 0, 1) := dk_3 (dk_at dksX1_adds_2 10 rfl rfl)
theorem dX1_adds_59 : decode cX1_adds 59 = .ok (.iastore, 1) := dk_79 (dk_at dksX1_adds_2 11 rfl rfl)
theorem dX1_adds_60 : decode cX1_adds 60 = .ok (.aload_n 0, 1) := dk_42 (dk_at dksX1_adds_2 12 rfl rfl)
theorem dX1_adds_61 : decode cX1_adds 61 = .ok (.getfield 30, 3) := dk_180 0 30 (dk_at dksX1_adds_2 13 rfl rfl)
theorem dX1_adds_64 : decode cX1_adds 64 = .ok (.aload_n 0, 1) := dk_42 (dk_at dksX1_adds_2 16 rfl rfl)
theorem dX1_adds_65 : decode cX1_adds 65 = .ok (.getfield 68, 3) := dk_180 0 68 (dk_at dksX1_adds_2 17 rfl rfl)
theorem dX1_adds_68 : decode cX1_adds 68 = .ok (.iconst 0, 1) := dk_3 (dk_at dksX1_adds_2 20 rfl rfl)
theorem dX1_adds_69 : decode cX1_adds 69 = .ok (.iastore, 1) := dk_79 (dk_at dksX1_adds_2 21 rfl rfl)
theorem dX1_adds_70 : decode cX1_adds 70 = .ok (.aload_n 0, 1) := dk_42 (dk_at dksX1_adds_2 22 rfl rfl)
theorem dX1_adds_71 : decode cX1_adds 71 = .ok (.dup, 1) := dk_89 (dk_at dksX1_adds_2 23 rfl rfl)
theorem dX1_adds_72 : decode cX1_adds 72 = .ok (.getfield 68, 3) := dk_180 0 68 (dk_at dksX1_adds_3 0 rfl rfl)
theorem dX1_adds_75 : decode cX1_adds 75 = .ok (.iconst 1, 1) := dk_4 (dk_at dksX1_adds_3 3 rfl rfl)
theorem dX1_adds_76 : decode cX1_adds 76 = .ok (.iadd, 1) := dk_96 (dk_at dksX1_adds_3 4 rfl rfl)
theorem dX1_adds_77 : decode cX1_adds 77 = .ok (.putfield 68, 3) := dk_181 0 68 (dk_at dksX1_adds_3 5 rfl rfl)
theorem dX1_adds_80 : decode cX1_adds 80 = .ok (.return_, 1) := dk_177 (dk_at dksX1_adds_3 8 rfl rfl)
abbrev cX1_adds_2 : ByteArray := prog_14_method_5_code
def yX1_adds_2 : MethodName := ⟨RX1, "adds", "(LEverybodyHasTheBook$Goer;I)V"⟩
def dkwX1_adds_2_1 : List UInt8 := [180, 0, 71, 4, 96, 181, 0, 71, 177]
abbrev dktX1_adds_2_1 : List UInt8 := dkwX1_adds_2_1 ++ []
def dkwX1_adds_2_0 : List UInt8 := [42, 180, 0, 35, 42, 180, 0, 71, 43, 83, 42, 180, 0, 39, 42, 180, 0, 71, 28, 79, 42, 89]
abbrev dktX1_adds_2_0 : List UInt8 := dkwX1_adds_2_0 ++ dktX1_adds_2_1
theorem dksX1_adds_2_0 : cX1_adds_2.data.toList.drop 0 = dktX1_adds_2_0 := by decide +kernel
theorem dksX1_adds_2_1 : cX1_adds_2.data.toList.drop 22 = dktX1_adds_2_1 := dk_seg dksX1_adds_2_0 22 rfl rfl
theorem dX1_adds_2_0 : decode cX1_adds_2 0 = .ok (.aload_n 0, 1) := dk_42 (dk_at dksX1_adds_2_0 0 rfl rfl)
theorem dX1_adds_2_1 : decode cX1_adds_2 1 = .ok (.getfield 35, 3) := dk_180 0 35 (dk_at dksX1_adds_2_0 1 rfl rfl)
theorem dX1_adds_2_4 : decode cX1_adds_2 4 = .ok (.aload_n 0, 1) := dk_42 (dk_at dksX1_adds_2_0 4 rfl rfl)
theorem dX1_adds_2_5 : decode cX1_adds_2 5 = .ok (.getfield 71, 3) := dk_180 0 71 (dk_at dksX1_adds_2_0 5 rfl rfl)
theorem dX1_adds_2_8 : decode cX1_adds_2 8 = .ok (.aload_n 1, 1) := dk_43 (dk_at dksX1_adds_2_0 8 rfl rfl)
theorem dX1_adds_2_9 : decode cX1_adds_2 9 = .ok (.aastore, 1) := dk_83 (dk_at dksX1_adds_2_0 9 rfl rfl)
theorem dX1_adds_2_10 : decode cX1_adds_2 10 = .ok (.aload_n 0, 1) := dk_42 (dk_at dksX1_adds_2_0 10 rfl rfl)
theorem dX1_adds_2_11 : decode cX1_adds_2 11 = .ok (.getfield 39, 3) := dk_180 0 39 (dk_at dksX1_adds_2_0 11 rfl rfl)
theorem dX1_adds_2_14 : decode cX1_adds_2 14 = .ok (.aload_n 0, 1) := dk_42 (dk_at dksX1_adds_2_0 14 rfl rfl)
theorem dX1_adds_2_15 : decode cX1_adds_2 15 = .ok (.getfield 71, 3) := dk_180 0 71 (dk_at dksX1_adds_2_0 15 rfl rfl)
theorem dX1_adds_2_18 : decode cX1_adds_2 18 = .ok (.iload_n 2, 1) := dk_28 (dk_at dksX1_adds_2_0 18 rfl rfl)
theorem dX1_adds_2_19 : decode cX1_adds_2 19 = .ok (.iastore, 1) := dk_79 (dk_at dksX1_adds_2_0 19 rfl rfl)
theorem dX1_adds_2_20 : decode cX1_adds_2 20 = .ok (.aload_n 0, 1) := dk_42 (dk_at dksX1_adds_2_0 20 rfl rfl)
theorem dX1_adds_2_21 : decode cX1_adds_2 21 = .ok (.dup, 1) := dk_89 (dk_at dksX1_adds_2_0 21 rfl rfl)
theorem dX1_adds_2_22 : decode cX1_adds_2 22 = .ok (.getfield 71, 3) := dk_180 0 71 (dk_at dksX1_adds_2_1 0 rfl rfl)
theorem dX1_adds_2_25 : decode cX1_adds_2 25 = .ok (.iconst 1, 1) := dk_4 (dk_at dksX1_adds_2_1 3 rfl rfl)
theorem dX1_adds_2_26 : decode cX1_adds_2 26 = .ok (.iadd, 1) := dk_96 (dk_at dksX1_adds_2_1 4 rfl rfl)
theorem dX1_adds_2_27 : decode cX1_adds_2 27 = .ok (.putfield 71, 3) := dk_181 0 71 (dk_at dksX1_adds_2_1 5 rfl rfl)
theorem dX1_adds_2_30 : decode cX1_adds_2 30 = .ok (.return_, 1) := dk_177 (dk_at dksX1_adds_2_1 8 rfl rfl)
abbrev cX1_isInn : ByteArray := prog_14_method_6_code
def yX1_isInn : MethodName := ⟨RX1, "isInn", "(I)Z"⟩
def dkwX1_isInn_0 : List UInt8 := [27, 3, 42, 180, 0, 68, 4, 100, 184, 0, 80, 172]
abbrev dktX1_isInn_0 : List UInt8 := dkwX1_isInn_0 ++ []
theorem dksX1_isInn_0 : cX1_isInn.data.toList.drop 0 = dktX1_isInn_0 := by decide +kernel
theorem dX1_isInn_0 : decode cX1_isInn 0 = .ok (.iload_n 1, 1) := dk_27 (dk_at dksX1_isInn_0 0 rfl rfl)
theorem dX1_isInn_1 : decode cX1_isInn 1 = .ok (.iconst 0, 1) := dk_3 (dk_at dksX1_isInn_0 1 rfl rfl)
theorem dX1_isInn_2 : decode cX1_isInn 2 = .ok (.aload_n 0, 1) := dk_42 (dk_at dksX1_isInn_0 2 rfl rfl)
theorem dX1_isInn_3 : decode cX1_isInn 3 = .ok (.getfield 68, 3) := dk_180 0 68 (dk_at dksX1_isInn_0 3 rfl rfl)
theorem dX1_isInn_6 : decode cX1_isInn 6 = .ok (.iconst 1, 1) := dk_4 (dk_at dksX1_isInn_0 6 rfl rfl)
theorem dX1_isInn_7 : decode cX1_isInn 7 = .ok (.isub, 1) := dk_100 (dk_at dksX1_isInn_0 7 rfl rfl)
theorem dX1_isInn_8 : decode cX1_isInn 8 = .ok (.invokestatic 80, 3) := dk_184 0 80 (dk_at dksX1_isInn_0 8 rfl rfl)
theorem dX1_isInn_11 : decode cX1_isInn 11 = .ok (.ireturn, 1) := dk_172 (dk_at dksX1_isInn_0 11 rfl rfl)
abbrev cX1_writes : ByteArray := prog_14_method_7_code
def yX1_writes : MethodName := ⟨RX1, "writes", "(I)V"⟩
def dkwX1_writes_1 : List UInt8 := [180, 0, 9, 28, 46, 167, 0, 4, 2, 79, 132, 2, 1, 167, 255, 221, 42, 3, 181, 0, 74, 177]
abbrev dktX1_writes_1 : List UInt8 := dkwX1_writes_1 ++ []
def dkwX1_writes_0 : List UInt8 := [3, 61, 28, 42, 180, 0, 68, 162, 0, 33, 42, 180, 0, 24, 28, 27, 28, 184, 0, 84, 153, 0, 12, 42]
abbrev dktX1_writes_0 : List UInt8 := dkwX1_writes_0 ++ dktX1_writes_1
theorem dksX1_writes_0 : cX1_writes.data.toList.drop 0 = dktX1_writes_0 := by decide +kernel
theorem dksX1_writes_1 : cX1_writes.data.toList.drop 24 = dktX1_writes_1 := dk_seg dksX1_writes_0 24 rfl rfl
theorem dX1_writes_0 : decode cX1_writes 0 = .ok (.iconst 0, 1) := dk_3 (dk_at dksX1_writes_0 0 rfl rfl)
theorem dX1_writes_1 : decode cX1_writes 1 = .ok (.istore_n 2, 1) := dk_61 (dk_at dksX1_writes_0 1 rfl rfl)
theorem dX1_writes_2 : decode cX1_writes 2 = .ok (.iload_n 2, 1) := dk_28 (dk_at dksX1_writes_0 2 rfl rfl)
theorem dX1_writes_3 : decode cX1_writes 3 = .ok (.aload_n 0, 1) := dk_42 (dk_at dksX1_writes_0 3 rfl rfl)
theorem dX1_writes_4 : decode cX1_writes 4 = .ok (.getfield 68, 3) := dk_180 0 68 (dk_at dksX1_writes_0 4 rfl rfl)
theorem dX1_writes_7 : decode cX1_writes 7 = .ok (.if_icmp .ge 33, 3) := dk_162 0 33 (dk_at dksX1_writes_0 7 rfl rfl)
theorem dX1_writes_10 : decode cX1_writes 10 = .ok (.aload_n 0, 1) := dk_42 (dk_at dksX1_writes_0 10 rfl rfl)
theorem dX1_writes_11 : decode cX1_writes 11 = .ok (.getfield 24, 3) := dk_180 0 24 (dk_at dksX1_writes_0 11 rfl rfl)
theorem dX1_writes_14 : decode cX1_writes 14 = .ok (.iload_n 2, 1) := dk_28 (dk_at dksX1_writes_0 14 rfl rfl)
theorem dX1_writes_15 : decode cX1_writes 15 = .ok (.iload_n 1, 1) := dk_27 (dk_at dksX1_writes_0 15 rfl rfl)
theorem dX1_writes_16 : decode cX1_writes 16 = .ok (.iload_n 2, 1) := dk_28 (dk_at dksX1_writes_0 16 rfl rfl)
theorem dX1_writes_17 : decode cX1_writes 17 = .ok (.invokestatic 84, 3) := dk_184 0 84 (dk_at dksX1_writes_0 17 rfl rfl)
theorem dX1_writes_20 : decode cX1_writes 20 = .ok (.ifCond .eq 12, 3) := dk_153 0 12 (dk_at dksX1_writes_0 20 rfl rfl)
theorem dX1_writes_23 : decode cX1_writes 23 = .ok (.aload_n 0, 1) := dk_42 (dk_at dksX1_writes_0 23 rfl rfl)
theorem dX1_writes_24 : decode cX1_writes 24 = .ok (.getfield 9, 3) := dk_180 0 9 (dk_at dksX1_writes_1 0 rfl rfl)
theorem dX1_writes_27 : decode cX1_writes 27 = .ok (.iload_n 2, 1) := dk_28 (dk_at dksX1_writes_1 3 rfl rfl)
theorem dX1_writes_28 : decode cX1_writes 28 = .ok (.iaload, 1) := dk_46 (dk_at dksX1_writes_1 4 rfl rfl)
theorem dX1_writes_29 : decode cX1_writes 29 = .ok (.goto 4, 3) := dk_167 0 4 (dk_at dksX1_writes_1 5 rfl rfl)
theorem dX1_writes_32 : decode cX1_writes 32 = .ok (.iconst (-1), 1) := dk_2 (dk_at dksX1_writes_1 8 rfl rfl)
theorem dX1_writes_33 : decode cX1_writes 33 = .ok (.iastore, 1) := dk_79 (dk_at dksX1_writes_1 9 rfl rfl)
theorem dX1_writes_34 : decode cX1_writes 34 = .ok (.iinc 2 1, 3) := dk_132 2 1 (dk_at dksX1_writes_1 10 rfl rfl)
theorem dX1_writes_37 : decode cX1_writes 37 = .ok (.goto (-35), 3) := dk_167 255 221 (dk_at dksX1_writes_1 13 rfl rfl)
theorem dX1_writes_40 : decode cX1_writes 40 = .ok (.aload_n 0, 1) := dk_42 (dk_at dksX1_writes_1 16 rfl rfl)
theorem dX1_writes_41 : decode cX1_writes 41 = .ok (.iconst 0, 1) := dk_3 (dk_at dksX1_writes_1 17 rfl rfl)
theorem dX1_writes_42 : decode cX1_writes 42 = .ok (.putfield 74, 3) := dk_181 0 74 (dk_at dksX1_writes_1 18 rfl rfl)
theorem dX1_writes_45 : decode cX1_writes 45 = .ok (.return_, 1) := dk_177 (dk_at dksX1_writes_1 21 rfl rfl)
abbrev cX1_gets : ByteArray := prog_14_method_8_code
def yX1_gets : MethodName := ⟨RX1, "gets", "(II)V"⟩
def dkwX1_gets_0 : List UInt8 := [42, 180, 0, 27, 27, 92, 46, 4, 96, 79, 42, 180, 0, 30, 27, 92, 46, 28, 96, 79, 177]
abbrev dktX1_gets_0 : List UInt8 := dkwX1_gets_0 ++ []
theorem dksX1_gets_0 : cX1_gets.data.toList.drop 0 = dktX1_gets_0 := by decide +kernel
theorem dX1_gets_0 : decode cX1_gets 0 = .ok (.aload_n 0, 1) := dk_42 (dk_at dksX1_gets_0 0 rfl rfl)
theorem dX1_gets_1 : decode cX1_gets 1 = .ok (.getfield 27, 3) := dk_180 0 27 (dk_at dksX1_gets_0 1 rfl rfl)
theorem dX1_gets_4 : decode cX1_gets 4 = .ok (.iload_n 1, 1) := dk_27 (dk_at dksX1_gets_0 4 rfl rfl)
theorem dX1_gets_5 : decode cX1_gets 5 = .ok (.dup2, 1) := dk_92 (dk_at dksX1_gets_0 5 rfl rfl)
theorem dX1_gets_6 : decode cX1_gets 6 = .ok (.iaload, 1) := dk_46 (dk_at dksX1_gets_0 6 rfl rfl)
theorem dX1_gets_7 : decode cX1_gets 7 = .ok (.iconst 1, 1) := dk_4 (dk_at dksX1_gets_0 7 rfl rfl)
theorem dX1_gets_8 : decode cX1_gets 8 = .ok (.iadd, 1) := dk_96 (dk_at dksX1_gets_0 8 rfl rfl)
theorem dX1_gets_9 : decode cX1_gets 9 = .ok (.iastore, 1) := dk_79 (dk_at dksX1_gets_0 9 rfl rfl)
theorem dX1_gets_10 : decode cX1_gets 10 = .ok (.aload_n 0, 1) := dk_42 (dk_at dksX1_gets_0 10 rfl rfl)
theorem dX1_gets_11 : decode cX1_gets 11 = .ok (.getfield 30, 3) := dk_180 0 30 (dk_at dksX1_gets_0 11 rfl rfl)
theorem dX1_gets_14 : decode cX1_gets 14 = .ok (.iload_n 1, 1) := dk_27 (dk_at dksX1_gets_0 14 rfl rfl)
theorem dX1_gets_15 : decode cX1_gets 15 = .ok (.dup2, 1) := dk_92 (dk_at dksX1_gets_0 15 rfl rfl)
theorem dX1_gets_16 : decode cX1_gets 16 = .ok (.iaload, 1) := dk_46 (dk_at dksX1_gets_0 16 rfl rfl)
theorem dX1_gets_17 : decode cX1_gets 17 = .ok (.iload_n 2, 1) := dk_28 (dk_at dksX1_gets_0 17 rfl rfl)
theorem dX1_gets_18 : decode cX1_gets 18 = .ok (.iadd, 1) := dk_96 (dk_at dksX1_gets_0 18 rfl rfl)
theorem dX1_gets_19 : decode cX1_gets 19 = .ok (.iastore, 1) := dk_79 (dk_at dksX1_gets_0 19 rfl rfl)
theorem dX1_gets_20 : decode cX1_gets 20 = .ok (.return_, 1) := dk_177 (dk_at dksX1_gets_0 20 rfl rfl)
abbrev cX1_copied : ByteArray := prog_14_method_2_code
def yX1_copied : MethodName := ⟨RX1, "copied", "()LEverybodyHasTheBook$Valley;"⟩
def dkwX1_copied_0 : List UInt8 := [187, 0, 10, 89, 183, 0, 57, 42, 182, 0, 58, 176]
abbrev dktX1_copied_0 : List UInt8 := dkwX1_copied_0 ++ []
theorem dksX1_copied_0 : cX1_copied.data.toList.drop 0 = dktX1_copied_0 := by decide +kernel
theorem dX1_copied_0 : decode cX1_copied 0 = .ok (.new 10, 3) := dk_187 0 10 (dk_at dksX1_copied_0 0 rfl rfl)
theorem dX1_copied_3 : decode cX1_copied 3 = .ok (.dup, 1) := dk_89 (dk_at dksX1_copied_0 3 rfl rfl)
theorem dX1_copied_4 : decode cX1_copied 4 = .ok (.invokespecial 57, 3) := dk_183 0 57 (dk_at dksX1_copied_0 4 rfl rfl)
theorem dX1_copied_7 : decode cX1_copied 7 = .ok (.aload_n 0, 1) := dk_42 (dk_at dksX1_copied_0 7 rfl rfl)
theorem dX1_copied_8 : decode cX1_copied 8 = .ok (.invokevirtual 58, 3) := dk_182 0 58 (dk_at dksX1_copied_0 8 rfl rfl)
theorem dX1_copied_11 : decode cX1_copied 11 = .ok (.areturn, 1) := dk_176 (dk_at dksX1_copied_0 11 rfl rfl)
abbrev cX1_becomes : ByteArray := prog_14_method_3_code
def yX1_becomes : MethodName := ⟨RX1, "becomes", "(LEverybodyHasTheBook$Valley;)LEverybodyHasTheBook$Valley;"⟩
def dkwX1_becomes_7 : List UInt8 := [181, 0, 53, 42, 43, 180, 0, 77, 181, 0, 77, 42, 176]
abbrev dktX1_becomes_7 : List UInt8 := dkwX1_becomes_7 ++ []
def dkwX1_becomes_6 : List UInt8 := [181, 0, 68, 42, 43, 180, 0, 71, 181, 0, 71, 42, 43, 180, 0, 74, 181, 0, 74, 42, 43, 180, 0, 53]
abbrev dktX1_becomes_6 : List UInt8 := dkwX1_becomes_6 ++ dktX1_becomes_7
def dkwX1_becomes_5 : List UInt8 := [184, 0, 62, 43, 180, 0, 39, 3, 42, 180, 0, 39, 3, 16, 6, 184, 0, 62, 42, 43, 180, 0, 68]
abbrev dktX1_becomes_5 : List UInt8 := dkwX1_becomes_5 ++ dktX1_becomes_6
def dkwX1_becomes_4 : List UInt8 := [3, 42, 180, 0, 30, 3, 16, 6, 184, 0, 62, 43, 180, 0, 35, 3, 42, 180, 0, 35, 3, 16, 6]
abbrev dktX1_becomes_4 : List UInt8 := dkwX1_becomes_4 ++ dktX1_becomes_5
def dkwX1_becomes_3 : List UInt8 := [16, 6, 184, 0, 62, 43, 180, 0, 27, 3, 42, 180, 0, 27, 3, 16, 6, 184, 0, 62, 43, 180, 0, 30]
abbrev dktX1_becomes_3 : List UInt8 := dkwX1_becomes_3 ++ dktX1_becomes_4
def dkwX1_becomes_2 : List UInt8 := [180, 0, 21, 3, 42, 180, 0, 21, 3, 16, 6, 184, 0, 62, 43, 180, 0, 24, 3, 42, 180, 0, 24, 3]
abbrev dktX1_becomes_2 : List UInt8 := dkwX1_becomes_2 ++ dktX1_becomes_3
def dkwX1_becomes_1 : List UInt8 := [3, 16, 6, 184, 0, 62, 43, 180, 0, 18, 3, 42, 180, 0, 18, 3, 16, 6, 184, 0, 62, 43]
abbrev dktX1_becomes_1 : List UInt8 := dkwX1_becomes_1 ++ dktX1_becomes_2
def dkwX1_becomes_0 : List UInt8 := [43, 180, 0, 9, 3, 42, 180, 0, 9, 3, 16, 6, 184, 0, 62, 43, 180, 0, 15, 3, 42, 180, 0, 15]
abbrev dktX1_becomes_0 : List UInt8 := dkwX1_becomes_0 ++ dktX1_becomes_1
theorem dksX1_becomes_0 : cX1_becomes.data.toList.drop 0 = dktX1_becomes_0 := by decide +kernel
theorem dksX1_becomes_1 : cX1_becomes.data.toList.drop 24 = dktX1_becomes_1 := dk_seg dksX1_becomes_0 24 rfl rfl
theorem dksX1_becomes_2 : cX1_becomes.data.toList.drop 46 = dktX1_becomes_2 := dk_seg dksX1_becomes_1 22 rfl rfl
theorem dksX1_becomes_3 : cX1_becomes.data.toList.drop 70 = dktX1_becomes_3 := dk_seg dksX1_becomes_2 24 rfl rfl
theorem dksX1_becomes_4 : cX1_becomes.data.toList.drop 94 = dktX1_becomes_4 := dk_seg dksX1_becomes_3 24 rfl rfl
theorem dksX1_becomes_5 : cX1_becomes.data.toList.drop 117 = dktX1_becomes_5 := dk_seg dksX1_becomes_4 23 rfl rfl
theorem dksX1_becomes_6 : cX1_becomes.data.toList.drop 140 = dktX1_becomes_6 := dk_seg dksX1_becomes_5 23 rfl rfl
theorem dksX1_becomes_7 : cX1_becomes.data.toList.drop 164 = dktX1_becomes_7 := dk_seg dksX1_becomes_6 24 rfl rfl
theorem dX1_becomes_0 : decode cX1_becomes 0 = .ok (.aload_n 1, 1) := dk_43 (dk_at dksX1_becomes_0 0 rfl rfl)
theorem dX1_becomes_1 : decode cX1_becomes 1 = .ok (.getfield 9, 3) := dk_180 0 9 (dk_at dksX1_becomes_0 1 rfl rfl)
theorem dX1_becomes_4 : decode cX1_becomes 4 = .ok (.iconst 0, 1) := dk_3 (dk_at dksX1_becomes_0 4 rfl rfl)
theorem dX1_becomes_5 : decode cX1_becomes 5 = .ok (.aload_n 0, 1) := dk_42 (dk_at dksX1_becomes_0 5 rfl rfl)
theorem dX1_becomes_6 : decode cX1_becomes 6 = .ok (.getfield 9, 3) := dk_180 0 9 (dk_at dksX1_becomes_0 6 rfl rfl)
theorem dX1_becomes_9 : decode cX1_becomes 9 = .ok (.iconst 0, 1) := dk_3 (dk_at dksX1_becomes_0 9 rfl rfl)
theorem dX1_becomes_10 : decode cX1_becomes 10 = .ok (.bipush 6, 2) := dk_16 6 (dk_at dksX1_becomes_0 10 rfl rfl)
theorem dX1_becomes_12 : decode cX1_becomes 12 = .ok (.invokestatic 62, 3) := dk_184 0 62 (dk_at dksX1_becomes_0 12 rfl rfl)
theorem dX1_becomes_15 : decode cX1_becomes 15 = .ok (.aload_n 1, 1) := dk_43 (dk_at dksX1_becomes_0 15 rfl rfl)
theorem dX1_becomes_16 : decode cX1_becomes 16 = .ok (.getfield 15, 3) := dk_180 0 15 (dk_at dksX1_becomes_0 16 rfl rfl)
theorem dX1_becomes_19 : decode cX1_becomes 19 = .ok (.iconst 0, 1) := dk_3 (dk_at dksX1_becomes_0 19 rfl rfl)
theorem dX1_becomes_20 : decode cX1_becomes 20 = .ok (.aload_n 0, 1) := dk_42 (dk_at dksX1_becomes_0 20 rfl rfl)
theorem dX1_becomes_21 : decode cX1_becomes 21 = .ok (.getfield 15, 3) := dk_180 0 15 (dk_at dksX1_becomes_0 21 rfl rfl)
theorem dX1_becomes_24 : decode cX1_becomes 24 = .ok (.iconst 0, 1) := dk_3 (dk_at dksX1_becomes_1 0 rfl rfl)
theorem dX1_becomes_25 : decode cX1_becomes 25 = .ok (.bipush 6, 2) := dk_16 6 (dk_at dksX1_becomes_1 1 rfl rfl)
theorem dX1_becomes_27 : decode cX1_becomes 27 = .ok (.invokestatic 62, 3) := dk_184 0 62 (dk_at dksX1_becomes_1 3 rfl rfl)
theorem dX1_becomes_30 : decode cX1_becomes 30 = .ok (.aload_n 1, 1) := dk_43 (dk_at dksX1_becomes_1 6 rfl rfl)
theorem dX1_becomes_31 : decode cX1_becomes 31 = .ok (.getfield 18, 3) := dk_180 0 18 (dk_at dksX1_becomes_1 7 rfl rfl)
theorem dX1_becomes_34 : decode cX1_becomes 34 = .ok (.iconst 0, 1) := dk_3 (dk_at dksX1_becomes_1 10 rfl rfl)
theorem dX1_becomes_35 : decode cX1_becomes 35 = .ok (.aload_n 0, 1) := dk_42 (dk_at dksX1_becomes_1 11 rfl rfl)
theorem dX1_becomes_36 : decode cX1_becomes 36 = .ok (.getfield 18, 3) := dk_180 0 18 (dk_at dksX1_becomes_1 12 rfl rfl)
theorem dX1_becomes_39 : decode cX1_becomes 39 = .ok (.iconst 0, 1) := dk_3 (dk_at dksX1_becomes_1 15 rfl rfl)
theorem dX1_becomes_40 : decode cX1_becomes 40 = .ok (.bipush 6, 2) := dk_16 6 (dk_at dksX1_becomes_1 16 rfl rfl)
theorem dX1_becomes_42 : decode cX1_becomes 42 = .ok (.invokestatic 62, 3) := dk_184 0 62 (dk_at dksX1_becomes_1 18 rfl rfl)
theorem dX1_becomes_45 : decode cX1_becomes 45 = .ok (.aload_n 1, 1) := dk_43 (dk_at dksX1_becomes_1 21 rfl rfl)
theorem dX1_becomes_46 : decode cX1_becomes 46 = .ok (.getfield 21, 3) := dk_180 0 21 (dk_at dksX1_becomes_2 0 rfl rfl)
theorem dX1_becomes_49 : decode cX1_becomes 49 = .ok (.iconst 0, 1) := dk_3 (dk_at dksX1_becomes_2 3 rfl rfl)
theorem dX1_becomes_50 : decode cX1_becomes 50 = .ok (.aload_n 0, 1) := dk_42 (dk_at dksX1_becomes_2 4 rfl rfl)
theorem dX1_becomes_51 : decode cX1_becomes 51 = .ok (.getfield 21, 3) := dk_180 0 21 (dk_at dksX1_becomes_2 5 rfl rfl)
theorem dX1_becomes_54 : decode cX1_becomes 54 = .ok (.iconst 0, 1) := dk_3 (dk_at dksX1_becomes_2 8 rfl rfl)
theorem dX1_becomes_55 : decode cX1_becomes 55 = .ok (.bipush 6, 2) := dk_16 6 (dk_at dksX1_becomes_2 9 rfl rfl)
theorem dX1_becomes_57 : decode cX1_becomes 57 = .ok (.invokestatic 62, 3) := dk_184 0 62 (dk_at dksX1_becomes_2 11 rfl rfl)
theorem dX1_becomes_60 : decode cX1_becomes 60 = .ok (.aload_n 1, 1) := dk_43 (dk_at dksX1_becomes_2 14 rfl rfl)
theorem dX1_becomes_61 : decode cX1_becomes 61 = .ok (.getfield 24, 3) := dk_180 0 24 (dk_at dksX1_becomes_2 15 rfl rfl)
theorem dX1_becomes_64 : decode cX1_becomes 64 = .ok (.iconst 0, 1) := dk_3 (dk_at dksX1_becomes_2 18 rfl rfl)
theorem dX1_becomes_65 : decode cX1_becomes 65 = .ok (.aload_n 0, 1) := dk_42 (dk_at dksX1_becomes_2 19 rfl rfl)
theorem dX1_becomes_66 : decode cX1_becomes 66 = .ok (.getfield 24, 3) := dk_180 0 24 (dk_at dksX1_becomes_2 20 rfl rfl)
theorem dX1_becomes_69 : decode cX1_becomes 69 = .ok (.iconst 0, 1) := dk_3 (dk_at dksX1_becomes_2 23 rfl rfl)
theorem dX1_becomes_70 : decode cX1_becomes 70 = .ok (.bipush 6, 2) := dk_16 6 (dk_at dksX1_becomes_3 0 rfl rfl)
theorem dX1_becomes_72 : decode cX1_becomes 72 = .ok (.invokestatic 62, 3) := dk_184 0 62 (dk_at dksX1_becomes_3 2 rfl rfl)
theorem dX1_becomes_75 : decode cX1_becomes 75 = .ok (.aload_n 1, 1) := dk_43 (dk_at dksX1_becomes_3 5 rfl rfl)
theorem dX1_becomes_76 : decode cX1_becomes 76 = .ok (.getfield 27, 3) := dk_180 0 27 (dk_at dksX1_becomes_3 6 rfl rfl)
theorem dX1_becomes_79 : decode cX1_becomes 79 = .ok (.iconst 0, 1) := dk_3 (dk_at dksX1_becomes_3 9 rfl rfl)
theorem dX1_becomes_80 : decode cX1_becomes 80 = .ok (.aload_n 0, 1) := dk_42 (dk_at dksX1_becomes_3 10 rfl rfl)
theorem dX1_becomes_81 : decode cX1_becomes 81 = .ok (.getfield 27, 3) := dk_180 0 27 (dk_at dksX1_becomes_3 11 rfl rfl)
theorem dX1_becomes_84 : decode cX1_becomes 84 = .ok (.iconst 0, 1) := dk_3 (dk_at dksX1_becomes_3 14 rfl rfl)
theorem dX1_becomes_85 : decode cX1_becomes 85 = .ok (.bipush 6, 2) := dk_16 6 (dk_at dksX1_becomes_3 15 rfl rfl)
theorem dX1_becomes_87 : decode cX1_becomes 87 = .ok (.invokestatic 62, 3) := dk_184 0 62 (dk_at dksX1_becomes_3 17 rfl rfl)
theorem dX1_becomes_90 : decode cX1_becomes 90 = .ok (.aload_n 1, 1) := dk_43 (dk_at dksX1_becomes_3 20 rfl rfl)
theorem dX1_becomes_91 : decode cX1_becomes 91 = .ok (.getfield 30, 3) := dk_180 0 30 (dk_at dksX1_becomes_3 21 rfl rfl)
theorem dX1_becomes_94 : decode cX1_becomes 94 = .ok (.iconst 0, 1) := dk_3 (dk_at dksX1_becomes_4 0 rfl rfl)
theorem dX1_becomes_95 : decode cX1_becomes 95 = .ok (.aload_n 0, 1) := dk_42 (dk_at dksX1_becomes_4 1 rfl rfl)
theorem dX1_becomes_96 : decode cX1_becomes 96 = .ok (.getfield 30, 3) := dk_180 0 30 (dk_at dksX1_becomes_4 2 rfl rfl)
theorem dX1_becomes_99 : decode cX1_becomes 99 = .ok (.iconst 0, 1) := dk_3 (dk_at dksX1_becomes_4 5 rfl rfl)
theorem dX1_becomes_100 : decode cX1_becomes 100 = .ok (.bipush 6, 2) := dk_16 6 (dk_at dksX1_becomes_4 6 rfl rfl)
theorem dX1_becomes_102 : decode cX1_becomes 102 = .ok (.invokestatic 62, 3) := dk_184 0 62 (dk_at dksX1_becomes_4 8 rfl rfl)
theorem dX1_becomes_105 : decode cX1_becomes 105 = .ok (.aload_n 1, 1) := dk_43 (dk_at dksX1_becomes_4 11 rfl rfl)
theorem dX1_becomes_106 : decode cX1_becomes 106 = .ok (.getfield 35, 3) := dk_180 0 35 (dk_at dksX1_becomes_4 12 rfl rfl)
theorem dX1_becomes_109 : decode cX1_becomes 109 = .ok (.iconst 0, 1) := dk_3 (dk_at dksX1_becomes_4 15 rfl rfl)
theorem dX1_becomes_110 : decode cX1_becomes 110 = .ok (.aload_n 0, 1) := dk_42 (dk_at dksX1_becomes_4 16 rfl rfl)
theorem dX1_becomes_111 : decode cX1_becomes 111 = .ok (.getfield 35, 3) := dk_180 0 35 (dk_at dksX1_becomes_4 17 rfl rfl)
theorem dX1_becomes_114 : decode cX1_becomes 114 = .ok (.iconst 0, 1) := dk_3 (dk_at dksX1_becomes_4 20 rfl rfl)
theorem dX1_becomes_115 : decode cX1_becomes 115 = .ok (.bipush 6, 2) := dk_16 6 (dk_at dksX1_becomes_4 21 rfl rfl)
theorem dX1_becomes_117 : decode cX1_becomes 117 = .ok (.invokestatic 62, 3) := dk_184 0 62 (dk_at dksX1_becomes_5 0 rfl rfl)
theorem dX1_becomes_120 : decode cX1_becomes 120 = .ok (.aload_n 1, 1) := dk_43 (dk_at dksX1_becomes_5 3 rfl rfl)
theorem dX1_becomes_121 : decode cX1_becomes 121 = .ok (.getfield 39, 3) := dk_180 0 39 (dk_at dksX1_becomes_5 4 rfl rfl)
theorem dX1_becomes_124 : decode cX1_becomes 124 = .ok (.iconst 0, 1) := dk_3 (dk_at dksX1_becomes_5 7 rfl rfl)
theorem dX1_becomes_125 : decode cX1_becomes 125 = .ok (.aload_n 0, 1) := dk_42 (dk_at dksX1_becomes_5 8 rfl rfl)
theorem dX1_becomes_126 : decode cX1_becomes 126 = .ok (.getfield 39, 3) := dk_180 0 39 (dk_at dksX1_becomes_5 9 rfl rfl)
theorem dX1_becomes_129 : decode cX1_becomes 129 = .ok (.iconst 0, 1) := dk_3 (dk_at dksX1_becomes_5 12 rfl rfl)
theorem dX1_becomes_130 : decode cX1_becomes 130 = .ok (.bipush 6, 2) := dk_16 6 (dk_at dksX1_becomes_5 13 rfl rfl)
theorem dX1_becomes_132 : decode cX1_becomes 132 = .ok (.invokestatic 62, 3) := dk_184 0 62 (dk_at dksX1_becomes_5 15 rfl rfl)
theorem dX1_becomes_135 : decode cX1_becomes 135 = .ok (.aload_n 0, 1) := dk_42 (dk_at dksX1_becomes_5 18 rfl rfl)
theorem dX1_becomes_136 : decode cX1_becomes 136 = .ok (.aload_n 1, 1) := dk_43 (dk_at dksX1_becomes_5 19 rfl rfl)
theorem dX1_becomes_137 : decode cX1_becomes 137 = .ok (.getfield 68, 3) := dk_180 0 68 (dk_at dksX1_becomes_5 20 rfl rfl)
theorem dX1_becomes_140 : decode cX1_becomes 140 = .ok (.putfield 68, 3) := dk_181 0 68 (dk_at dksX1_becomes_6 0 rfl rfl)
theorem dX1_becomes_143 : decode cX1_becomes 143 = .ok (.aload_n 0, 1) := dk_42 (dk_at dksX1_becomes_6 3 rfl rfl)
theorem dX1_becomes_144 : decode cX1_becomes 144 = .ok (.aload_n 1, 1) := dk_43 (dk_at dksX1_becomes_6 4 rfl rfl)
theorem dX1_becomes_145 : decode cX1_becomes 145 = .ok (.getfield 71, 3) := dk_180 0 71 (dk_at dksX1_becomes_6 5 rfl rfl)
theorem dX1_becomes_148 : decode cX1_becomes 148 = .ok (.putfield 71, 3) := dk_181 0 71 (dk_at dksX1_becomes_6 8 rfl rfl)
theorem dX1_becomes_151 : decode cX1_becomes 151 = .ok (.aload_n 0, 1) := dk_42 (dk_at dksX1_becomes_6 11 rfl rfl)
theorem dX1_becomes_152 : decode cX1_becomes 152 = .ok (.aload_n 1, 1) := dk_43 (dk_at dksX1_becomes_6 12 rfl rfl)
theorem dX1_becomes_153 : decode cX1_becomes 153 = .ok (.getfield 74, 3) := dk_180 0 74 (dk_at dksX1_becomes_6 13 rfl rfl)
theorem dX1_becomes_156 : decode cX1_becomes 156 = .ok (.putfield 74, 3) := dk_181 0 74 (dk_at dksX1_becomes_6 16 rfl rfl)
theorem dX1_becomes_159 : decode cX1_becomes 159 = .ok (.aload_n 0, 1) := dk_42 (dk_at dksX1_becomes_6 19 rfl rfl)
theorem dX1_becomes_160 : decode cX1_becomes 160 = .ok (.aload_n 1, 1) := dk_43 (dk_at dksX1_becomes_6 20 rfl rfl)
theorem dX1_becomes_161 : decode cX1_becomes 161 = .ok (.getfield 53, 3) := dk_180 0 53 (dk_at dksX1_becomes_6 21 rfl rfl)
theorem dX1_becomes_164 : decode cX1_becomes 164 = .ok (.putfield 53, 3) := dk_181 0 53 (dk_at dksX1_becomes_7 0 rfl rfl)
theorem dX1_becomes_167 : decode cX1_becomes 167 = .ok (.aload_n 0, 1) := dk_42 (dk_at dksX1_becomes_7 3 rfl rfl)
theorem dX1_becomes_168 : decode cX1_becomes 168 = .ok (.aload_n 1, 1) := dk_43 (dk_at dksX1_becomes_7 4 rfl rfl)
theorem dX1_becomes_169 : decode cX1_becomes 169 = .ok (.getfield 77, 3) := dk_180 0 77 (dk_at dksX1_becomes_7 5 rfl rfl)
theorem dX1_becomes_172 : decode cX1_becomes 172 = .ok (.putfield 77, 3) := dk_181 0 77 (dk_at dksX1_becomes_7 8 rfl rfl)
theorem dX1_becomes_175 : decode cX1_becomes 175 = .ok (.aload_n 0, 1) := dk_42 (dk_at dksX1_becomes_7 11 rfl rfl)
theorem dX1_becomes_176 : decode cX1_becomes 176 = .ok (.areturn, 1) := dk_176 (dk_at dksX1_becomes_7 12 rfl rfl)
abbrev cX1_night : ByteArray := prog_14_method_13_code
def yX1_night : MethodName := ⟨RX1, "night", "()LEverybodyHasTheBook$Valley;"⟩
def dkwX1_night_2 : List UInt8 := [180, 0, 39, 28, 46, 182, 0, 119, 132, 2, 1, 167, 255, 212, 132, 1, 1, 167, 255, 199, 42, 176]
abbrev dktX1_night_2 : List UInt8 := dkwX1_night_2 ++ []
def dkwX1_night_1 : List UInt8 := [180, 0, 35, 28, 50, 182, 0, 115, 27, 4, 160, 0, 7, 4, 167, 0, 4, 3, 160, 0, 14, 42, 28, 42]
abbrev dktX1_night_1 : List UInt8 := dkwX1_night_1 ++ dktX1_night_2
def dkwX1_night_0 : List UInt8 := [42, 182, 0, 112, 3, 60, 27, 5, 162, 0, 58, 3, 61, 28, 42, 180, 0, 71, 162, 0, 42, 42]
abbrev dktX1_night_0 : List UInt8 := dkwX1_night_0 ++ dktX1_night_1
theorem dksX1_night_0 : cX1_night.data.toList.drop 0 = dktX1_night_0 := by decide +kernel
theorem dksX1_night_1 : cX1_night.data.toList.drop 22 = dktX1_night_1 := dk_seg dksX1_night_0 22 rfl rfl
theorem dksX1_night_2 : cX1_night.data.toList.drop 46 = dktX1_night_2 := dk_seg dksX1_night_1 24 rfl rfl
theorem dX1_night_0 : decode cX1_night 0 = .ok (.aload_n 0, 1) := dk_42 (dk_at dksX1_night_0 0 rfl rfl)
theorem dX1_night_1 : decode cX1_night 1 = .ok (.invokevirtual 112, 3) := dk_182 0 112 (dk_at dksX1_night_0 1 rfl rfl)
theorem dX1_night_4 : decode cX1_night 4 = .ok (.iconst 0, 1) := dk_3 (dk_at dksX1_night_0 4 rfl rfl)
theorem dX1_night_5 : decode cX1_night 5 = .ok (.istore_n 1, 1) := dk_60 (dk_at dksX1_night_0 5 rfl rfl)
theorem dX1_night_6 : decode cX1_night 6 = .ok (.iload_n 1, 1) := dk_27 (dk_at dksX1_night_0 6 rfl rfl)
theorem dX1_night_7 : decode cX1_night 7 = .ok (.iconst 2, 1) := dk_5 (dk_at dksX1_night_0 7 rfl rfl)
theorem dX1_night_8 : decode cX1_night 8 = .ok (.if_icmp .ge 58, 3) := dk_162 0 58 (dk_at dksX1_night_0 8 rfl rfl)
theorem dX1_night_11 : decode cX1_night 11 = .ok (.iconst 0, 1) := dk_3 (dk_at dksX1_night_0 11 rfl rfl)
theorem dX1_night_12 : decode cX1_night 12 = .ok (.istore_n 2, 1) := dk_61 (dk_at dksX1_night_0 12 rfl rfl)
theorem dX1_night_13 : decode cX1_night 13 = .ok (.iload_n 2, 1) := dk_28 (dk_at dksX1_night_0 13 rfl rfl)
theorem dX1_night_14 : decode cX1_night 14 = .ok (.aload_n 0, 1) := dk_42 (dk_at dksX1_night_0 14 rfl rfl)
theorem dX1_night_15 : decode cX1_night 15 = .ok (.getfield 71, 3) := dk_180 0 71 (dk_at dksX1_night_0 15 rfl rfl)
theorem dX1_night_18 : decode cX1_night 18 = .ok (.if_icmp .ge 42, 3) := dk_162 0 42 (dk_at dksX1_night_0 18 rfl rfl)
theorem dX1_night_21 : decode cX1_night 21 = .ok (.aload_n 0, 1) := dk_42 (dk_at dksX1_night_0 21 rfl rfl)
theorem dX1_night_22 : decode cX1_night 22 = .ok (.getfield 35, 3) := dk_180 0 35 (dk_at dksX1_night_1 0 rfl rfl)
theorem dX1_night_25 : decode cX1_night 25 = .ok (.iload_n 2, 1) := dk_28 (dk_at dksX1_night_1 3 rfl rfl)
theorem dX1_night_26 : decode cX1_night 26 = .ok (.aaload, 1) := dk_50 (dk_at dksX1_night_1 4 rfl rfl)
theorem dX1_night_27 : decode cX1_night 27 = .ok (.invokevirtual 115, 3) := dk_182 0 115 (dk_at dksX1_night_1 5 rfl rfl)
theorem dX1_night_30 : decode cX1_night 30 = .ok (.iload_n 1, 1) := dk_27 (dk_at dksX1_night_1 8 rfl rfl)
theorem dX1_night_31 : decode cX1_night 31 = .ok (.iconst 1, 1) := dk_4 (dk_at dksX1_night_1 9 rfl rfl)
theorem dX1_night_32 : decode cX1_night 32 = .ok (.if_icmp .ne 7, 3) := dk_160 0 7 (dk_at dksX1_night_1 10 rfl rfl)
theorem dX1_night_35 : decode cX1_night 35 = .ok (.iconst 1, 1) := dk_4 (dk_at dksX1_night_1 13 rfl rfl)
theorem dX1_night_36 : decode cX1_night 36 = .ok (.goto 4, 3) := dk_167 0 4 (dk_at dksX1_night_1 14 rfl rfl)
theorem dX1_night_39 : decode cX1_night 39 = .ok (.iconst 0, 1) := dk_3 (dk_at dksX1_night_1 17 rfl rfl)
theorem dX1_night_40 : decode cX1_night 40 = .ok (.if_icmp .ne 14, 3) := dk_160 0 14 (dk_at dksX1_night_1 18 rfl rfl)
theorem dX1_night_43 : decode cX1_night 43 = .ok (.aload_n 0, 1) := dk_42 (dk_at dksX1_night_1 21 rfl rfl)
theorem dX1_night_44 : decode cX1_night 44 = .ok (.iload_n 2, 1) := dk_28 (dk_at dksX1_night_1 22 rfl rfl)
theorem dX1_night_45 : decode cX1_night 45 = .ok (.aload_n 0, 1) := dk_42 (dk_at dksX1_night_1 23 rfl rfl)
theorem dX1_night_46 : decode cX1_night 46 = .ok (.getfield 39, 3) := dk_180 0 39 (dk_at dksX1_night_2 0 rfl rfl)
theorem dX1_night_49 : decode cX1_night 49 = .ok (.iload_n 2, 1) := dk_28 (dk_at dksX1_night_2 3 rfl rfl)
theorem dX1_night_50 : decode cX1_night 50 = .ok (.iaload, 1) := dk_46 (dk_at dksX1_night_2 4 rfl rfl)
theorem dX1_night_51 : decode cX1_night 51 = .ok (.invokevirtual 119, 3) := dk_182 0 119 (dk_at dksX1_night_2 5 rfl rfl)
theorem dX1_night_54 : decode cX1_night 54 = .ok (.iinc 2 1, 3) := dk_132 2 1 (dk_at dksX1_night_2 8 rfl rfl)
theorem dX1_night_57 : decode cX1_night 57 = .ok (.goto (-44), 3) := dk_167 255 212 (dk_at dksX1_night_2 11 rfl rfl)
theorem dX1_night_60 : decode cX1_night 60 = .ok (.iinc 1 1, 3) := dk_132 1 1 (dk_at dksX1_night_2 14 rfl rfl)
theorem dX1_night_63 : decode cX1_night 63 = .ok (.goto (-57), 3) := dk_167 255 199 (dk_at dksX1_night_2 17 rfl rfl)
theorem dX1_night_66 : decode cX1_night 66 = .ok (.aload_n 0, 1) := dk_42 (dk_at dksX1_night_2 20 rfl rfl)
theorem dX1_night_67 : decode cX1_night 67 = .ok (.areturn, 1) := dk_176 (dk_at dksX1_night_2 21 rfl rfl)
abbrev cX1_empties : ByteArray := prog_14_method_12_code
def yX1_empties : MethodName := ⟨RX1, "empties", "()V"⟩
def dkwX1_empties_1 : List UInt8 := [162, 0, 19, 42, 180, 0, 44, 27, 50, 3, 184, 0, 106, 132, 1, 1, 167, 255, 235, 177]
abbrev dktX1_empties_1 : List UInt8 := dkwX1_empties_1 ++ []
def dkwX1_empties_0 : List UInt8 := [42, 180, 0, 47, 3, 184, 0, 106, 42, 180, 0, 50, 3, 184, 0, 106, 3, 60, 27, 42, 180, 0, 71]
abbrev dktX1_empties_0 : List UInt8 := dkwX1_empties_0 ++ dktX1_empties_1
theorem dksX1_empties_0 : cX1_empties.data.toList.drop 0 = dktX1_empties_0 := by decide +kernel
theorem dksX1_empties_1 : cX1_empties.data.toList.drop 23 = dktX1_empties_1 := dk_seg dksX1_empties_0 23 rfl rfl
theorem dX1_empties_0 : decode cX1_empties 0 = .ok (.aload_n 0, 1) := dk_42 (dk_at dksX1_empties_0 0 rfl rfl)
theorem dX1_empties_1 : decode cX1_empties 1 = .ok (.getfield 47, 3) := dk_180 0 47 (dk_at dksX1_empties_0 1 rfl rfl)
theorem dX1_empties_4 : decode cX1_empties 4 = .ok (.iconst 0, 1) := dk_3 (dk_at dksX1_empties_0 4 rfl rfl)
theorem dX1_empties_5 : decode cX1_empties 5 = .ok (.invokestatic 106, 3) := dk_184 0 106 (dk_at dksX1_empties_0 5 rfl rfl)
theorem dX1_empties_8 : decode cX1_empties 8 = .ok (.aload_n 0, 1) := dk_42 (dk_at dksX1_empties_0 8 rfl rfl)
theorem dX1_empties_9 : decode cX1_empties 9 = .ok (.getfield 50, 3) := dk_180 0 50 (dk_at dksX1_empties_0 9 rfl rfl)
theorem dX1_empties_12 : decode cX1_empties 12 = .ok (.iconst 0, 1) := dk_3 (dk_at dksX1_empties_0 12 rfl rfl)
theorem dX1_empties_13 : decode cX1_empties 13 = .ok (.invokestatic 106, 3) := dk_184 0 106 (dk_at dksX1_empties_0 13 rfl rfl)
theorem dX1_empties_16 : decode cX1_empties 16 = .ok (.iconst 0, 1) := dk_3 (dk_at dksX1_empties_0 16 rfl rfl)
theorem dX1_empties_17 : decode cX1_empties 17 = .ok (.istore_n 1, 1) := dk_60 (dk_at dksX1_empties_0 17 rfl rfl)
theorem dX1_empties_18 : decode cX1_empties 18 = .ok (.iload_n 1, 1) := dk_27 (dk_at dksX1_empties_0 18 rfl rfl)
theorem dX1_empties_19 : decode cX1_empties 19 = .ok (.aload_n 0, 1) := dk_42 (dk_at dksX1_empties_0 19 rfl rfl)
theorem dX1_empties_20 : decode cX1_empties 20 = .ok (.getfield 71, 3) := dk_180 0 71 (dk_at dksX1_empties_0 20 rfl rfl)
theorem dX1_empties_23 : decode cX1_empties 23 = .ok (.if_icmp .ge 19, 3) := dk_162 0 19 (dk_at dksX1_empties_1 0 rfl rfl)
theorem dX1_empties_26 : decode cX1_empties 26 = .ok (.aload_n 0, 1) := dk_42 (dk_at dksX1_empties_1 3 rfl rfl)
theorem dX1_empties_27 : decode cX1_empties 27 = .ok (.getfield 44, 3) := dk_180 0 44 (dk_at dksX1_empties_1 4 rfl rfl)
theorem dX1_empties_30 : decode cX1_empties 30 = .ok (.iload_n 1, 1) := dk_27 (dk_at dksX1_empties_1 7 rfl rfl)
theorem dX1_empties_31 : decode cX1_empties 31 = .ok (.aaload, 1) := dk_50 (dk_at dksX1_empties_1 8 rfl rfl)
theorem dX1_empties_32 : decode cX1_empties 32 = .ok (.iconst 0, 1) := dk_3 (dk_at dksX1_empties_1 9 rfl rfl)
theorem dX1_empties_33 : decode cX1_empties 33 = .ok (.invokestatic 106, 3) := dk_184 0 106 (dk_at dksX1_empties_1 10 rfl rfl)
theorem dX1_empties_36 : decode cX1_empties 36 = .ok (.iinc 1 1, 3) := dk_132 1 1 (dk_at dksX1_empties_1 13 rfl rfl)
theorem dX1_empties_39 : decode cX1_empties 39 = .ok (.goto (-21), 3) := dk_167 255 235 (dk_at dksX1_empties_1 16 rfl rfl)
theorem dX1_empties_42 : decode cX1_empties 42 = .ok (.return_, 1) := dk_177 (dk_at dksX1_empties_1 19 rfl rfl)
abbrev cX1_comes : ByteArray := prog_14_method_11_code
def yX1_comes : MethodName := ⟨RX1, "comes", "(II)V"⟩
def dkwX1_comes_4 : List UInt8 := [54, 4, 167, 255, 178, 42, 180, 0, 50, 27, 92, 46, 29, 96, 79, 177]
abbrev dktX1_comes_4 : List UInt8 := dkwX1_comes_4 ++ []
def dkwX1_comes_3 : List UInt8 := [21, 5, 96, 79, 29, 21, 5, 100, 62, 42, 180, 0, 35, 27, 50, 42, 42, 182, 0, 92, 182, 0, 96]
abbrev dktX1_comes_3 : List UInt8 := dkwX1_comes_3 ++ dktX1_comes_4
def dkwX1_comes_2 : List UInt8 := [54, 5, 42, 180, 0, 44, 27, 50, 21, 4, 92, 46, 21, 5, 96, 79, 42, 180, 0, 47, 21, 4, 92, 46]
abbrev dktX1_comes_2 : List UInt8 := dkwX1_comes_2 ++ dktX1_comes_3
def dkwX1_comes_1 : List UInt8 := [2, 159, 0, 74, 29, 42, 180, 0, 18, 21, 4, 46, 42, 180, 0, 47, 21, 4, 46, 100, 184, 0, 100]
abbrev dktX1_comes_1 : List UInt8 := dkwX1_comes_1 ++ dktX1_comes_2
def dkwX1_comes_0 : List UInt8 := [28, 62, 42, 180, 0, 35, 27, 50, 42, 42, 182, 0, 92, 182, 0, 96, 54, 4, 29, 158, 0, 80, 21, 4]
abbrev dktX1_comes_0 : List UInt8 := dkwX1_comes_0 ++ dktX1_comes_1
theorem dksX1_comes_0 : cX1_comes.data.toList.drop 0 = dktX1_comes_0 := by decide +kernel
theorem dksX1_comes_1 : cX1_comes.data.toList.drop 24 = dktX1_comes_1 := dk_seg dksX1_comes_0 24 rfl rfl
theorem dksX1_comes_2 : cX1_comes.data.toList.drop 47 = dktX1_comes_2 := dk_seg dksX1_comes_1 23 rfl rfl
theorem dksX1_comes_3 : cX1_comes.data.toList.drop 71 = dktX1_comes_3 := dk_seg dksX1_comes_2 24 rfl rfl
theorem dksX1_comes_4 : cX1_comes.data.toList.drop 94 = dktX1_comes_4 := dk_seg dksX1_comes_3 23 rfl rfl
theorem dX1_comes_0 : decode cX1_comes 0 = .ok (.iload_n 2, 1) := dk_28 (dk_at dksX1_comes_0 0 rfl rfl)
theorem dX1_comes_1 : decode cX1_comes 1 = .ok (.istore_n 3, 1) := dk_62 (dk_at dksX1_comes_0 1 rfl rfl)
theorem dX1_comes_2 : decode cX1_comes 2 = .ok (.aload_n 0, 1) := dk_42 (dk_at dksX1_comes_0 2 rfl rfl)
theorem dX1_comes_3 : decode cX1_comes 3 = .ok (.getfield 35, 3) := dk_180 0 35 (dk_at dksX1_comes_0 3 rfl rfl)
theorem dX1_comes_6 : decode cX1_comes 6 = .ok (.iload_n 1, 1) := dk_27 (dk_at dksX1_comes_0 6 rfl rfl)
theorem dX1_comes_7 : decode cX1_comes 7 = .ok (.aaload, 1) := dk_50 (dk_at dksX1_comes_0 7 rfl rfl)
theorem dX1_comes_8 : decode cX1_comes 8 = .ok (.aload_n 0, 1) := dk_42 (dk_at dksX1_comes_0 8 rfl rfl)
theorem dX1_comes_9 : decode cX1_comes 9 = .ok (.aload_n 0, 1) := dk_42 (dk_at dksX1_comes_0 9 rfl rfl)
theorem dX1_comes_10 : decode cX1_comes 10 = .ok (.invokevirtual 92, 3) := dk_182 0 92 (dk_at dksX1_comes_0 10 rfl rfl)
theorem dX1_comes_13 : decode cX1_comes 13 = .ok (.invokevirtual 96, 3) := dk_182 0 96 (dk_at dksX1_comes_0 13 rfl rfl)
theorem dX1_comes_16 : decode cX1_comes 16 = .ok (.istore 4, 2) := dk_54 4 (dk_at dksX1_comes_0 16 rfl rfl)
theorem dX1_comes_18 : decode cX1_comes 18 = .ok (.iload_n 3, 1) := dk_29 (dk_at dksX1_comes_0 18 rfl rfl)
theorem dX1_comes_19 : decode cX1_comes 19 = .ok (.ifCond .le 80, 3) := dk_158 0 80 (dk_at dksX1_comes_0 19 rfl rfl)
theorem dX1_comes_22 : decode cX1_comes 22 = .ok (.iload 4, 2) := dk_21 4 (dk_at dksX1_comes_0 22 rfl rfl)
theorem dX1_comes_24 : decode cX1_comes 24 = .ok (.iconst (-1), 1) := dk_2 (dk_at dksX1_comes_1 0 rfl rfl)
theorem dX1_comes_25 : decode cX1_comes 25 = .ok (.if_icmp .eq 74, 3) := dk_159 0 74 (dk_at dksX1_comes_1 1 rfl rfl)
theorem dX1_comes_28 : decode cX1_comes 28 = .ok (.iload_n 3, 1) := dk_29 (dk_at dksX1_comes_1 4 rfl rfl)
theorem dX1_comes_29 : decode cX1_comes 29 = .ok (.aload_n 0, 1) := dk_42 (dk_at dksX1_comes_1 5 rfl rfl)
theorem dX1_comes_30 : decode cX1_comes 30 = .ok (.getfield 18, 3) := dk_180 0 18 (dk_at dksX1_comes_1 6 rfl rfl)
theorem dX1_comes_33 : decode cX1_comes 33 = .ok (.iload 4, 2) := dk_21 4 (dk_at dksX1_comes_1 9 rfl rfl)
theorem dX1_comes_35 : decode cX1_comes 35 = .ok (.iaload, 1) := dk_46 (dk_at dksX1_comes_1 11 rfl rfl)
theorem dX1_comes_36 : decode cX1_comes 36 = .ok (.aload_n 0, 1) := dk_42 (dk_at dksX1_comes_1 12 rfl rfl)
theorem dX1_comes_37 : decode cX1_comes 37 = .ok (.getfield 47, 3) := dk_180 0 47 (dk_at dksX1_comes_1 13 rfl rfl)
theorem dX1_comes_40 : decode cX1_comes 40 = .ok (.iload 4, 2) := dk_21 4 (dk_at dksX1_comes_1 16 rfl rfl)
theorem dX1_comes_42 : decode cX1_comes 42 = .ok (.iaload, 1) := dk_46 (dk_at dksX1_comes_1 18 rfl rfl)
theorem dX1_comes_43 : decode cX1_comes 43 = .ok (.isub, 1) := dk_100 (dk_at dksX1_comes_1 19 rfl rfl)
theorem dX1_comes_44 : decode cX1_comes 44 = .ok (.invokestatic 100, 3) := dk_184 0 100 (dk_at dksX1_comes_1 20 rfl rfl)
theorem dX1_comes_47 : decode cX1_comes 47 = .ok (.istore 5, 2) := dk_54 5 (dk_at dksX1_comes_2 0 rfl rfl)
theorem dX1_comes_49 : decode cX1_comes 49 = .ok (.aload_n 0, 1) := dk_42 (dk_at dksX1_comes_2 2 rfl rfl)
theorem dX1_comes_50 : decode cX1_comes 50 = .ok (.getfield 44, 3) := dk_180 0 44 (dk_at dksX1_comes_2 3 rfl rfl)
theorem dX1_comes_53 : decode cX1_comes 53 = .ok (.iload_n 1, 1) := dk_27 (dk_at dksX1_comes_2 6 rfl rfl)
theorem dX1_comes_54 : decode cX1_comes 54 = .ok (.aaload, 1) := dk_50 (dk_at dksX1_comes_2 7 rfl rfl)
theorem dX1_comes_55 : decode cX1_comes 55 = .ok (.iload 4, 2) := dk_21 4 (dk_at dksX1_comes_2 8 rfl rfl)
theorem dX1_comes_57 : decode cX1_comes 57 = .ok (.dup2, 1) := dk_92 (dk_at dksX1_comes_2 10 rfl rfl)
theorem dX1_comes_58 : decode cX1_comes 58 = .ok (.iaload, 1) := dk_46 (dk_at dksX1_comes_2 11 rfl rfl)
theorem dX1_comes_59 : decode cX1_comes 59 = .ok (.iload 5, 2) := dk_21 5 (dk_at dksX1_comes_2 12 rfl rfl)
theorem dX1_comes_61 : decode cX1_comes 61 = .ok (.iadd, 1) := dk_96 (dk_at dksX1_comes_2 14 rfl rfl)
theorem dX1_comes_62 : decode cX1_comes 62 = .ok (.iastore, 1) := dk_79 (dk_at dksX1_comes_2 15 rfl rfl)
theorem dX1_comes_63 : decode cX1_comes 63 = .ok (.aload_n 0, 1) := dk_42 (dk_at dksX1_comes_2 16 rfl rfl)
theorem dX1_comes_64 : decode cX1_comes 64 = .ok (.getfield 47, 3) := dk_180 0 47 (dk_at dksX1_comes_2 17 rfl rfl)
theorem dX1_comes_67 : decode cX1_comes 67 = .ok (.iload 4, 2) := dk_21 4 (dk_at dksX1_comes_2 20 rfl rfl)
theorem dX1_comes_69 : decode cX1_comes 69 = .ok (.dup2, 1) := dk_92 (dk_at dksX1_comes_2 22 rfl rfl)
theorem dX1_comes_70 : decode cX1_comes 70 = .ok (.iaload, 1) := dk_46 (dk_at dksX1_comes_2 23 rfl rfl)
theorem dX1_comes_71 : decode cX1_comes 71 = .ok (.iload 5, 2) := dk_21 5 (dk_at dksX1_comes_3 0 rfl rfl)
theorem dX1_comes_73 : decode cX1_comes 73 = .ok (.iadd, 1) := dk_96 (dk_at dksX1_comes_3 2 rfl rfl)
theorem dX1_comes_74 : decode cX1_comes 74 = .ok (.iastore, 1) := dk_79 (dk_at dksX1_comes_3 3 rfl rfl)
theorem dX1_comes_75 : decode cX1_comes 75 = .ok (.iload_n 3, 1) := dk_29 (dk_at dksX1_comes_3 4 rfl rfl)
theorem dX1_comes_76 : decode cX1_comes 76 = .ok (.iload 5, 2) := dk_21 5 (dk_at dksX1_comes_3 5 rfl rfl)
theorem dX1_comes_78 : decode cX1_comes 78 = .ok (.isub, 1) := dk_100 (dk_at dksX1_comes_3 7 rfl rfl)
theorem dX1_comes_79 : decode cX1_comes 79 = .ok (.istore_n 3, 1) := dk_62 (dk_at dksX1_comes_3 8 rfl rfl)
theorem dX1_comes_80 : decode cX1_comes 80 = .ok (.aload_n 0, 1) := dk_42 (dk_at dksX1_comes_3 9 rfl rfl)
theorem dX1_comes_81 : decode cX1_comes 81 = .ok (.getfield 35, 3) := dk_180 0 35 (dk_at dksX1_comes_3 10 rfl rfl)
theorem dX1_comes_84 : decode cX1_comes 84 = .ok (.iload_n 1, 1) := dk_27 (dk_at dksX1_comes_3 13 rfl rfl)
theorem dX1_comes_85 : decode cX1_comes 85 = .ok (.aaload, 1) := dk_50 (dk_at dksX1_comes_3 14 rfl rfl)
theorem dX1_comes_86 : decode cX1_comes 86 = .ok (.aload_n 0, 1) := dk_42 (dk_at dksX1_comes_3 15 rfl rfl)
theorem dX1_comes_87 : decode cX1_comes 87 = .ok (.aload_n 0, 1) := dk_42 (dk_at dksX1_comes_3 16 rfl rfl)
theorem dX1_comes_88 : decode cX1_comes 88 = .ok (.invokevirtual 92, 3) := dk_182 0 92 (dk_at dksX1_comes_3 17 rfl rfl)
theorem dX1_comes_91 : decode cX1_comes 91 = .ok (.invokevirtual 96, 3) := dk_182 0 96 (dk_at dksX1_comes_3 20 rfl rfl)
theorem dX1_comes_94 : decode cX1_comes 94 = .ok (.istore 4, 2) := dk_54 4 (dk_at dksX1_comes_4 0 rfl rfl)
theorem dX1_comes_96 : decode cX1_comes 96 = .ok (.goto (-78), 3) := dk_167 255 178 (dk_at dksX1_comes_4 2 rfl rfl)
theorem dX1_comes_99 : decode cX1_comes 99 = .ok (.aload_n 0, 1) := dk_42 (dk_at dksX1_comes_4 5 rfl rfl)
theorem dX1_comes_100 : decode cX1_comes 100 = .ok (.getfield 50, 3) := dk_180 0 50 (dk_at dksX1_comes_4 6 rfl rfl)
theorem dX1_comes_103 : decode cX1_comes 103 = .ok (.iload_n 1, 1) := dk_27 (dk_at dksX1_comes_4 9 rfl rfl)
theorem dX1_comes_104 : decode cX1_comes 104 = .ok (.dup2, 1) := dk_92 (dk_at dksX1_comes_4 10 rfl rfl)
theorem dX1_comes_105 : decode cX1_comes 105 = .ok (.iaload, 1) := dk_46 (dk_at dksX1_comes_4 11 rfl rfl)
theorem dX1_comes_106 : decode cX1_comes 106 = .ok (.iload_n 3, 1) := dk_29 (dk_at dksX1_comes_4 12 rfl rfl)
theorem dX1_comes_107 : decode cX1_comes 107 = .ok (.iadd, 1) := dk_96 (dk_at dksX1_comes_4 13 rfl rfl)
theorem dX1_comes_108 : decode cX1_comes 108 = .ok (.iastore, 1) := dk_79 (dk_at dksX1_comes_4 14 rfl rfl)
theorem dX1_comes_109 : decode cX1_comes 109 = .ok (.return_, 1) := dk_177 (dk_at dksX1_comes_4 15 rfl rfl)
abbrev cX1_open : ByteArray := prog_14_method_10_code
def yX1_open : MethodName := ⟨RX1, "open", "()I"⟩
def dkwX1_open_1 : List UInt8 := [167, 0, 6, 4, 28, 120, 128, 60, 132, 2, 1, 167, 255, 227, 27, 172]
abbrev dktX1_open_1 : List UInt8 := dkwX1_open_1 ++ []
def dkwX1_open_0 : List UInt8 := [3, 60, 3, 61, 28, 42, 180, 0, 68, 162, 0, 27, 27, 42, 28, 182, 0, 88, 153, 0, 7, 3]
abbrev dktX1_open_0 : List UInt8 := dkwX1_open_0 ++ dktX1_open_1
theorem dksX1_open_0 : cX1_open.data.toList.drop 0 = dktX1_open_0 := by decide +kernel
theorem dksX1_open_1 : cX1_open.data.toList.drop 22 = dktX1_open_1 := dk_seg dksX1_open_0 22 rfl rfl
theorem dX1_open_0 : decode cX1_open 0 = .ok (.iconst 0, 1) := dk_3 (dk_at dksX1_open_0 0 rfl rfl)
theorem dX1_open_1 : decode cX1_open 1 = .ok (.istore_n 1, 1) := dk_60 (dk_at dksX1_open_0 1 rfl rfl)
theorem dX1_open_2 : decode cX1_open 2 = .ok (.iconst 0, 1) := dk_3 (dk_at dksX1_open_0 2 rfl rfl)
theorem dX1_open_3 : decode cX1_open 3 = .ok (.istore_n 2, 1) := dk_61 (dk_at dksX1_open_0 3 rfl rfl)
theorem dX1_open_4 : decode cX1_open 4 = .ok (.iload_n 2, 1) := dk_28 (dk_at dksX1_open_0 4 rfl rfl)
theorem dX1_open_5 : decode cX1_open 5 = .ok (.aload_n 0, 1) := dk_42 (dk_at dksX1_open_0 5 rfl rfl)
theorem dX1_open_6 : decode cX1_open 6 = .ok (.getfield 68, 3) := dk_180 0 68 (dk_at dksX1_open_0 6 rfl rfl)
theorem dX1_open_9 : decode cX1_open 9 = .ok (.if_icmp .ge 27, 3) := dk_162 0 27 (dk_at dksX1_open_0 9 rfl rfl)
theorem dX1_open_12 : decode cX1_open 12 = .ok (.iload_n 1, 1) := dk_27 (dk_at dksX1_open_0 12 rfl rfl)
theorem dX1_open_13 : decode cX1_open 13 = .ok (.aload_n 0, 1) := dk_42 (dk_at dksX1_open_0 13 rfl rfl)
theorem dX1_open_14 : decode cX1_open 14 = .ok (.iload_n 2, 1) := dk_28 (dk_at dksX1_open_0 14 rfl rfl)
theorem dX1_open_15 : decode cX1_open 15 = .ok (.invokevirtual 88, 3) := dk_182 0 88 (dk_at dksX1_open_0 15 rfl rfl)
theorem dX1_open_18 : decode cX1_open 18 = .ok (.ifCond .eq 7, 3) := dk_153 0 7 (dk_at dksX1_open_0 18 rfl rfl)
theorem dX1_open_21 : decode cX1_open 21 = .ok (.iconst 0, 1) := dk_3 (dk_at dksX1_open_0 21 rfl rfl)
theorem dX1_open_22 : decode cX1_open 22 = .ok (.goto 6, 3) := dk_167 0 6 (dk_at dksX1_open_1 0 rfl rfl)
theorem dX1_open_25 : decode cX1_open 25 = .ok (.iconst 1, 1) := dk_4 (dk_at dksX1_open_1 3 rfl rfl)
theorem dX1_open_26 : decode cX1_open 26 = .ok (.iload_n 2, 1) := dk_28 (dk_at dksX1_open_1 4 rfl rfl)
theorem dX1_open_27 : decode cX1_open 27 = .ok (.ishl, 1) := dk_120 (dk_at dksX1_open_1 5 rfl rfl)
theorem dX1_open_28 : decode cX1_open 28 = .ok (.ior, 1) := dk_128 (dk_at dksX1_open_1 6 rfl rfl)
theorem dX1_open_29 : decode cX1_open 29 = .ok (.istore_n 1, 1) := dk_60 (dk_at dksX1_open_1 7 rfl rfl)
theorem dX1_open_30 : decode cX1_open 30 = .ok (.iinc 2 1, 3) := dk_132 2 1 (dk_at dksX1_open_1 8 rfl rfl)
theorem dX1_open_33 : decode cX1_open 33 = .ok (.goto (-29), 3) := dk_167 255 227 (dk_at dksX1_open_1 11 rfl rfl)
theorem dX1_open_36 : decode cX1_open 36 = .ok (.iload_n 1, 1) := dk_27 (dk_at dksX1_open_1 14 rfl rfl)
theorem dX1_open_37 : decode cX1_open 37 = .ok (.ireturn, 1) := dk_172 (dk_at dksX1_open_1 15 rfl rfl)
abbrev cX1_isFull : ByteArray := prog_14_method_9_code
def yX1_isFull : MethodName := ⟨RX1, "isFull", "(I)Z"⟩
def dkwX1_isFull_0 : List UInt8 := [42, 180, 0, 47, 27, 46, 42, 180, 0, 18, 27, 46, 160, 0, 7, 4, 167, 0, 4, 3, 172]
abbrev dktX1_isFull_0 : List UInt8 := dkwX1_isFull_0 ++ []
theorem dksX1_isFull_0 : cX1_isFull.data.toList.drop 0 = dktX1_isFull_0 := by decide +kernel
theorem dX1_isFull_0 : decode cX1_isFull 0 = .ok (.aload_n 0, 1) := dk_42 (dk_at dksX1_isFull_0 0 rfl rfl)
theorem dX1_isFull_1 : decode cX1_isFull 1 = .ok (.getfield 47, 3) := dk_180 0 47 (dk_at dksX1_isFull_0 1 rfl rfl)
theorem dX1_isFull_4 : decode cX1_isFull 4 = .ok (.iload_n 1, 1) := dk_27 (dk_at dksX1_isFull_0 4 rfl rfl)
theorem dX1_isFull_5 : decode cX1_isFull 5 = .ok (.iaload, 1) := dk_46 (dk_at dksX1_isFull_0 5 rfl rfl)
theorem dX1_isFull_6 : decode cX1_isFull 6 = .ok (.aload_n 0, 1) := dk_42 (dk_at dksX1_isFull_0 6 rfl rfl)
theorem dX1_isFull_7 : decode cX1_isFull 7 = .ok (.getfield 18, 3) := dk_180 0 18 (dk_at dksX1_isFull_0 7 rfl rfl)
theorem dX1_isFull_10 : decode cX1_isFull 10 = .ok (.iload_n 1, 1) := dk_27 (dk_at dksX1_isFull_0 10 rfl rfl)
theorem dX1_isFull_11 : decode cX1_isFull 11 = .ok (.iaload, 1) := dk_46 (dk_at dksX1_isFull_0 11 rfl rfl)
theorem dX1_isFull_12 : decode cX1_isFull 12 = .ok (.if_icmp .ne 7, 3) := dk_160 0 7 (dk_at dksX1_isFull_0 12 rfl rfl)
theorem dX1_isFull_15 : decode cX1_isFull 15 = .ok (.iconst 1, 1) := dk_4 (dk_at dksX1_isFull_0 15 rfl rfl)
theorem dX1_isFull_16 : decode cX1_isFull 16 = .ok (.goto 4, 3) := dk_167 0 4 (dk_at dksX1_isFull_0 16 rfl rfl)
theorem dX1_isFull_19 : decode cX1_isFull 19 = .ok (.iconst 0, 1) := dk_3 (dk_at dksX1_isFull_0 19 rfl rfl)
theorem dX1_isFull_20 : decode cX1_isFull 20 = .ok (.ireturn, 1) := dk_172 (dk_at dksX1_isFull_0 20 rfl rfl)
abbrev cX1_joy : ByteArray := prog_14_method_16_code
def yX1_joy : MethodName := ⟨RX1, "joy", "(I)I"⟩
def dkwX1_joy_1 : List UInt8 := [42, 29, 182, 0, 129, 96, 61, 132, 3, 1, 167, 255, 237, 28, 172]
abbrev dktX1_joy_1 : List UInt8 := dkwX1_joy_1 ++ []
def dkwX1_joy_0 : List UInt8 := [27, 2, 159, 0, 9, 42, 27, 182, 0, 129, 172, 3, 61, 3, 62, 29, 42, 180, 0, 71, 162, 0, 17, 28]
abbrev dktX1_joy_0 : List UInt8 := dkwX1_joy_0 ++ dktX1_joy_1
theorem dksX1_joy_0 : cX1_joy.data.toList.drop 0 = dktX1_joy_0 := by decide +kernel
theorem dksX1_joy_1 : cX1_joy.data.toList.drop 24 = dktX1_joy_1 := dk_seg dksX1_joy_0 24 rfl rfl
theorem dX1_joy_0 : decode cX1_joy 0 = .ok (.iload_n 1, 1) := dk_27 (dk_at dksX1_joy_0 0 rfl rfl)
theorem dX1_joy_1 : decode cX1_joy 1 = .ok (.iconst (-1), 1) := dk_2 (dk_at dksX1_joy_0 1 rfl rfl)
theorem dX1_joy_2 : decode cX1_joy 2 = .ok (.if_icmp .eq 9, 3) := dk_159 0 9 (dk_at dksX1_joy_0 2 rfl rfl)
theorem dX1_joy_5 : decode cX1_joy 5 = .ok (.aload_n 0, 1) := dk_42 (dk_at dksX1_joy_0 5 rfl rfl)
theorem dX1_joy_6 : decode cX1_joy 6 = .ok (.iload_n 1, 1) := dk_27 (dk_at dksX1_joy_0 6 rfl rfl)
theorem dX1_joy_7 : decode cX1_joy 7 = .ok (.invokevirtual 129, 3) := dk_182 0 129 (dk_at dksX1_joy_0 7 rfl rfl)
theorem dX1_joy_10 : decode cX1_joy 10 = .ok (.ireturn, 1) := dk_172 (dk_at dksX1_joy_0 10 rfl rfl)
theorem dX1_joy_11 : decode cX1_joy 11 = .ok (.iconst 0, 1) := dk_3 (dk_at dksX1_joy_0 11 rfl rfl)
theorem dX1_joy_12 : decode cX1_joy 12 = .ok (.istore_n 2, 1) := dk_61 (dk_at dksX1_joy_0 12 rfl rfl)
theorem dX1_joy_13 : decode cX1_joy 13 = .ok (.iconst 0, 1) := dk_3 (dk_at dksX1_joy_0 13 rfl rfl)
theorem dX1_joy_14 : decode cX1_joy 14 = .ok (.istore_n 3, 1) := dk_62 (dk_at dksX1_joy_0 14 rfl rfl)
theorem dX1_joy_15 : decode cX1_joy 15 = .ok (.iload_n 3, 1) := dk_29 (dk_at dksX1_joy_0 15 rfl rfl)
theorem dX1_joy_16 : decode cX1_joy 16 = .ok (.aload_n 0, 1) := dk_42 (dk_at dksX1_joy_0 16 rfl rfl)
theorem dX1_joy_17 : decode cX1_joy 17 = .ok (.getfield 71, 3) := dk_180 0 71 (dk_at dksX1_joy_0 17 rfl rfl)
theorem dX1_joy_20 : decode cX1_joy 20 = .ok (.if_icmp .ge 17, 3) := dk_162 0 17 (dk_at dksX1_joy_0 20 rfl rfl)
theorem dX1_joy_23 : decode cX1_joy 23 = .ok (.iload_n 2, 1) := dk_28 (dk_at dksX1_joy_0 23 rfl rfl)
theorem dX1_joy_24 : decode cX1_joy 24 = .ok (.aload_n 0, 1) := dk_42 (dk_at dksX1_joy_1 0 rfl rfl)
theorem dX1_joy_25 : decode cX1_joy 25 = .ok (.iload_n 3, 1) := dk_29 (dk_at dksX1_joy_1 1 rfl rfl)
theorem dX1_joy_26 : decode cX1_joy 26 = .ok (.invokevirtual 129, 3) := dk_182 0 129 (dk_at dksX1_joy_1 2 rfl rfl)
theorem dX1_joy_29 : decode cX1_joy 29 = .ok (.iadd, 1) := dk_96 (dk_at dksX1_joy_1 5 rfl rfl)
theorem dX1_joy_30 : decode cX1_joy 30 = .ok (.istore_n 2, 1) := dk_61 (dk_at dksX1_joy_1 6 rfl rfl)
theorem dX1_joy_31 : decode cX1_joy 31 = .ok (.iinc 3 1, 3) := dk_132 3 1 (dk_at dksX1_joy_1 7 rfl rfl)
theorem dX1_joy_34 : decode cX1_joy 34 = .ok (.goto (-19), 3) := dk_167 255 237 (dk_at dksX1_joy_1 10 rfl rfl)
theorem dX1_joy_37 : decode cX1_joy 37 = .ok (.iload_n 2, 1) := dk_28 (dk_at dksX1_joy_1 13 rfl rfl)
theorem dX1_joy_38 : decode cX1_joy 38 = .ok (.ireturn, 1) := dk_172 (dk_at dksX1_joy_1 14 rfl rfl)
abbrev cX1_joyOf : ByteArray := prog_14_method_15_code
def yX1_joyOf : MethodName := ⟨RX1, "joyOf", "(I)I"⟩
def dkwX1_joyOf_2 : List UInt8 := [182, 0, 88, 153, 0, 8, 16, 20, 167, 0, 4, 3, 100, 104, 96, 61, 132, 3, 1, 167, 255, 205, 28, 172]
abbrev dktX1_joyOf_2 : List UInt8 := dkwX1_joyOf_2 ++ []
def dkwX1_joyOf_1 : List UInt8 := [180, 0, 44, 27, 50, 29, 46, 42, 180, 0, 9, 29, 46, 42, 180, 0, 21, 29, 46, 100, 42, 29]
abbrev dktX1_joyOf_1 : List UInt8 := dkwX1_joyOf_1 ++ dktX1_joyOf_2
def dkwX1_joyOf_0 : List UInt8 := [16, 226, 42, 180, 0, 50, 27, 46, 104, 61, 3, 62, 29, 42, 180, 0, 68, 162, 0, 49, 28, 42]
abbrev dktX1_joyOf_0 : List UInt8 := dkwX1_joyOf_0 ++ dktX1_joyOf_1
theorem dksX1_joyOf_0 : cX1_joyOf.data.toList.drop 0 = dktX1_joyOf_0 := by decide +kernel
theorem dksX1_joyOf_1 : cX1_joyOf.data.toList.drop 22 = dktX1_joyOf_1 := dk_seg dksX1_joyOf_0 22 rfl rfl
theorem dksX1_joyOf_2 : cX1_joyOf.data.toList.drop 44 = dktX1_joyOf_2 := dk_seg dksX1_joyOf_1 22 rfl rfl
theorem dX1_joyOf_0 : decode cX1_joyOf 0 = .ok (.bipush (-30), 2) := dk_16 226 (dk_at dksX1_joyOf_0 0 rfl rfl)
theorem dX1_joyOf_2 : decode cX1_joyOf 2 = .ok (.aload_n 0, 1) := dk_42 (dk_at dksX1_joyOf_0 2 rfl rfl)
theorem dX1_joyOf_3 : decode cX1_joyOf 3 = .ok (.getfield 50, 3) := dk_180 0 50 (dk_at dksX1_joyOf_0 3 rfl rfl)
theorem dX1_joyOf_6 : decode cX1_joyOf 6 = .ok (.iload_n 1, 1) := dk_27 (dk_at dksX1_joyOf_0 6 rfl rfl)
theorem dX1_joyOf_7 : decode cX1_joyOf 7 = .ok (.iaload, 1) := dk_46 (dk_at dksX1_joyOf_0 7 rfl rfl)
theorem dX1_joyOf_8 : decode cX1_joyOf 8 = .ok (.imul, 1) := dk_104 (dk_at dksX1_joyOf_0 8 rfl rfl)
theorem dX1_joyOf_9 : decode cX1_joyOf 9 = .ok (.istore_n 2, 1) := dk_61 (dk_at dksX1_joyOf_0 9 rfl rfl)
theorem dX1_joyOf_10 : decode cX1_joyOf 10 = .ok (.iconst 0, 1) := dk_3 (dk_at dksX1_joyOf_0 10 rfl rfl)
theorem dX1_joyOf_11 : decode cX1_joyOf 11 = .ok (.istore_n 3, 1) := dk_62 (dk_at dksX1_joyOf_0 11 rfl rfl)
theorem dX1_joyOf_12 : decode cX1_joyOf 12 = .ok (.iload_n 3, 1) := dk_29 (dk_at dksX1_joyOf_0 12 rfl rfl)
theorem dX1_joyOf_13 : decode cX1_joyOf 13 = .ok (.aload_n 0, 1) := dk_42 (dk_at dksX1_joyOf_0 13 rfl rfl)
theorem dX1_joyOf_14 : decode cX1_joyOf 14 = .ok (.getfield 68, 3) := dk_180 0 68 (dk_at dksX1_joyOf_0 14 rfl rfl)
theorem dX1_joyOf_17 : decode cX1_joyOf 17 = .ok (.if_icmp .ge 49, 3) := dk_162 0 49 (dk_at dksX1_joyOf_0 17 rfl rfl)
theorem dX1_joyOf_20 : decode cX1_joyOf 20 = .ok (.iload_n 2, 1) := dk_28 (dk_at dksX1_joyOf_0 20 rfl rfl)
theorem dX1_joyOf_21 : decode cX1_joyOf 21 = .ok (.aload_n 0, 1) := dk_42 (dk_at dksX1_joyOf_0 21 rfl rfl)
theorem dX1_joyOf_22 : decode cX1_joyOf 22 = .ok (.getfield 44, 3) := dk_180 0 44 (dk_at dksX1_joyOf_1 0 rfl rfl)
theorem dX1_joyOf_25 : decode cX1_joyOf 25 = .ok (.iload_n 1, 1) := dk_27 (dk_at dksX1_joyOf_1 3 rfl rfl)
theorem dX1_joyOf_26 : decode cX1_joyOf 26 = .ok (.aaload, 1) := dk_50 (dk_at dksX1_joyOf_1 4 rfl rfl)
theorem dX1_joyOf_27 : decode cX1_joyOf 27 = .ok (.iload_n 3, 1) := dk_29 (dk_at dksX1_joyOf_1 5 rfl rfl)
theorem dX1_joyOf_28 : decode cX1_joyOf 28 = .ok (.iaload, 1) := dk_46 (dk_at dksX1_joyOf_1 6 rfl rfl)
theorem dX1_joyOf_29 : decode cX1_joyOf 29 = .ok (.aload_n 0, 1) := dk_42 (dk_at dksX1_joyOf_1 7 rfl rfl)
theorem dX1_joyOf_30 : decode cX1_joyOf 30 = .ok (.getfield 9, 3) := dk_180 0 9 (dk_at dksX1_joyOf_1 8 rfl rfl)
theorem dX1_joyOf_33 : decode cX1_joyOf 33 = .ok (.iload_n 3, 1) := dk_29 (dk_at dksX1_joyOf_1 11 rfl rfl)
theorem dX1_joyOf_34 : decode cX1_joyOf 34 = .ok (.iaload, 1) := dk_46 (dk_at dksX1_joyOf_1 12 rfl rfl)
theorem dX1_joyOf_35 : decode cX1_joyOf 35 = .ok (.aload_n 0, 1) := dk_42 (dk_at dksX1_joyOf_1 13 rfl rfl)
theorem dX1_joyOf_36 : decode cX1_joyOf 36 = .ok (.getfield 21, 3) := dk_180 0 21 (dk_at dksX1_joyOf_1 14 rfl rfl)
theorem dX1_joyOf_39 : decode cX1_joyOf 39 = .ok (.iload_n 3, 1) := dk_29 (dk_at dksX1_joyOf_1 17 rfl rfl)
theorem dX1_joyOf_40 : decode cX1_joyOf 40 = .ok (.iaload, 1) := dk_46 (dk_at dksX1_joyOf_1 18 rfl rfl)
theorem dX1_joyOf_41 : decode cX1_joyOf 41 = .ok (.isub, 1) := dk_100 (dk_at dksX1_joyOf_1 19 rfl rfl)
theorem dX1_joyOf_42 : decode cX1_joyOf 42 = .ok (.aload_n 0, 1) := dk_42 (dk_at dksX1_joyOf_1 20 rfl rfl)
theorem dX1_joyOf_43 : decode cX1_joyOf 43 = .ok (.iload_n 3, 1) := dk_29 (dk_at dksX1_joyOf_1 21 rfl rfl)
theorem dX1_joyOf_44 : decode cX1_joyOf 44 = .ok (.invokevirtual 88, 3) := dk_182 0 88 (dk_at dksX1_joyOf_2 0 rfl rfl)
theorem dX1_joyOf_47 : decode cX1_joyOf 47 = .ok (.ifCond .eq 8, 3) := dk_153 0 8 (dk_at dksX1_joyOf_2 3 rfl rfl)
theorem dX1_joyOf_50 : decode cX1_joyOf 50 = .ok (.bipush 20, 2) := dk_16 20 (dk_at dksX1_joyOf_2 6 rfl rfl)
theorem dX1_joyOf_52 : decode cX1_joyOf 52 = .ok (.goto 4, 3) := dk_167 0 4 (dk_at dksX1_joyOf_2 8 rfl rfl)
theorem dX1_joyOf_55 : decode cX1_joyOf 55 = .ok (.iconst 0, 1) := dk_3 (dk_at dksX1_joyOf_2 11 rfl rfl)
theorem dX1_joyOf_56 : decode cX1_joyOf 56 = .ok (.isub, 1) := dk_100 (dk_at dksX1_joyOf_2 12 rfl rfl)
theorem dX1_joyOf_57 : decode cX1_joyOf 57 = .ok (.imul, 1) := dk_104 (dk_at dksX1_joyOf_2 13 rfl rfl)
theorem dX1_joyOf_58 : decode cX1_joyOf 58 = .ok (.iadd, 1) := dk_96 (dk_at dksX1_joyOf_2 14 rfl rfl)
theorem dX1_joyOf_59 : decode cX1_joyOf 59 = .ok (.istore_n 2, 1) := dk_61 (dk_at dksX1_joyOf_2 15 rfl rfl)
theorem dX1_joyOf_60 : decode cX1_joyOf 60 = .ok (.iinc 3 1, 3) := dk_132 3 1 (dk_at dksX1_joyOf_2 16 rfl rfl)
theorem dX1_joyOf_63 : decode cX1_joyOf 63 = .ok (.goto (-51), 3) := dk_167 255 205 (dk_at dksX1_joyOf_2 19 rfl rfl)
theorem dX1_joyOf_66 : decode cX1_joyOf 66 = .ok (.iload_n 2, 1) := dk_28 (dk_at dksX1_joyOf_2 22 rfl rfl)
theorem dX1_joyOf_67 : decode cX1_joyOf 67 = .ok (.ireturn, 1) := dk_172 (dk_at dksX1_joyOf_2 23 rfl rfl)
abbrev cX1_night_2 : ByteArray := prog_14_method_14_code
def yX1_night_2 : MethodName := ⟨RX1, "night", "(II)LEverybodyHasTheBook$Valley;"⟩
def dkwX1_night_2_5 : List UInt8 := [167, 255, 145, 42, 176]
abbrev dktX1_night_2_5 : List UInt8 := dkwX1_night_2_5 ++ []
def dkwX1_night_2_4 : List UInt8 := [42, 28, 182, 0, 125, 42, 21, 4, 21, 5, 182, 0, 119, 132, 4, 1, 167, 255, 159, 132, 3, 1]
abbrev dktX1_night_2_4 : List UInt8 := dkwX1_night_2_4 ++ dktX1_night_2_5
def dkwX1_night_2_3 : List UInt8 := [160, 0, 37, 42, 27, 182, 0, 125, 42, 21, 4, 42, 180, 0, 39, 21, 4, 46, 21, 5, 100, 182, 0, 119]
abbrev dktX1_night_2_3 : List UInt8 := dkwX1_night_2_3 ++ dktX1_night_2_4
def dkwX1_night_2_2 : List UInt8 := [3, 54, 5, 42, 180, 0, 35, 21, 4, 50, 182, 0, 115, 29, 4, 160, 0, 7, 4, 167, 0, 4, 3]
abbrev dktX1_night_2_2 : List UInt8 := dkwX1_night_2_2 ++ dktX1_night_2_3
def dkwX1_night_2_1 : List UInt8 := [180, 0, 35, 21, 4, 50, 193, 0, 123, 153, 0, 15, 42, 180, 0, 39, 21, 4, 46, 5, 108, 167, 0, 4]
abbrev dktX1_night_2_1 : List UInt8 := dkwX1_night_2_1 ++ dktX1_night_2_2
def dkwX1_night_2_0 : List UInt8 := [42, 182, 0, 112, 3, 62, 29, 5, 162, 0, 112, 3, 54, 4, 21, 4, 42, 180, 0, 71, 162, 0, 94, 42]
abbrev dktX1_night_2_0 : List UInt8 := dkwX1_night_2_0 ++ dktX1_night_2_1
theorem dksX1_night_2_0 : cX1_night_2.data.toList.drop 0 = dktX1_night_2_0 := by decide +kernel
theorem dksX1_night_2_1 : cX1_night_2.data.toList.drop 24 = dktX1_night_2_1 := dk_seg dksX1_night_2_0 24 rfl rfl
theorem dksX1_night_2_2 : cX1_night_2.data.toList.drop 48 = dktX1_night_2_2 := dk_seg dksX1_night_2_1 24 rfl rfl
theorem dksX1_night_2_3 : cX1_night_2.data.toList.drop 71 = dktX1_night_2_3 := dk_seg dksX1_night_2_2 23 rfl rfl
theorem dksX1_night_2_4 : cX1_night_2.data.toList.drop 95 = dktX1_night_2_4 := dk_seg dksX1_night_2_3 24 rfl rfl
theorem dksX1_night_2_5 : cX1_night_2.data.toList.drop 117 = dktX1_night_2_5 := dk_seg dksX1_night_2_4 22 rfl rfl
theorem dX1_night_2_0 : decode cX1_night_2 0 = .ok (.aload_n 0, 1) := dk_42 (dk_at dksX1_night_2_0 0 rfl rfl)
theorem dX1_night_2_1 : decode cX1_night_2 1 = .ok (.invokevirtual 112, 3) := dk_182 0 112 (dk_at dksX1_night_2_0 1 rfl rfl)
theorem dX1_night_2_4 : decode cX1_night_2 4 = .ok (.iconst 0, 1) := dk_3 (dk_at dksX1_night_2_0 4 rfl rfl)
theorem dX1_night_2_5 : decode cX1_night_2 5 = .ok (.istore_n 3, 1) := dk_62 (dk_at dksX1_night_2_0 5 rfl rfl)
theorem dX1_night_2_6 : decode cX1_night_2 6 = .ok (.iload_n 3, 1) := dk_29 (dk_at dksX1_night_2_0 6 rfl rfl)
theorem dX1_night_2_7 : decode cX1_night_2 7 = .ok (.iconst 2, 1) := dk_5 (dk_at dksX1_night_2_0 7 rfl rfl)
theorem dX1_night_2_8 : decode cX1_night_2 8 = .ok (.if_icmp .ge 112, 3) := dk_162 0 112 (dk_at dksX1_night_2_0 8 rfl rfl)
theorem dX1_night_2_11 : decode cX1_night_2 11 = .ok (.iconst 0, 1) := dk_3 (dk_at dksX1_night_2_0 11 rfl rfl)
theorem dX1_night_2_12 : decode cX1_night_2 12 = .ok (.istore 4, 2) := dk_54 4 (dk_at dksX1_night_2_0 12 rfl rfl)
theorem dX1_night_2_14 : decode cX1_night_2 14 = .ok (.iload 4, 2) := dk_21 4 (dk_at dksX1_night_2_0 14 rfl rfl)
theorem dX1_night_2_16 : decode cX1_night_2 16 = .ok (.aload_n 0, 1) := dk_42 (dk_at dksX1_night_2_0 16 rfl rfl)
theorem dX1_night_2_17 : decode cX1_night_2 17 = .ok (.getfield 71, 3) := dk_180 0 71 (dk_at dksX1_night_2_0 17 rfl rfl)
theorem dX1_night_2_20 : decode cX1_night_2 20 = .ok (.if_icmp .ge 94, 3) := dk_162 0 94 (dk_at dksX1_night_2_0 20 rfl rfl)
theorem dX1_night_2_23 : decode cX1_night_2 23 = .ok (.aload_n 0, 1) := dk_42 (dk_at dksX1_night_2_0 23 rfl rfl)
theorem dX1_night_2_24 : decode cX1_night_2 24 = .ok (.getfield 35, 3) := dk_180 0 35 (dk_at dksX1_night_2_1 0 rfl rfl)
theorem dX1_night_2_27 : decode cX1_night_2 27 = .ok (.iload 4, 2) := dk_21 4 (dk_at dksX1_night_2_1 3 rfl rfl)
theorem dX1_night_2_29 : decode cX1_night_2 29 = .ok (.aaload, 1) := dk_50 (dk_at dksX1_night_2_1 5 rfl rfl)
theorem dX1_night_2_30 : decode cX1_night_2 30 = .ok (.instanceof 123, 3) := dk_193 0 123 (dk_at dksX1_night_2_1 6 rfl rfl)
theorem dX1_night_2_33 : decode cX1_night_2 33 = .ok (.ifCond .eq 15, 3) := dk_153 0 15 (dk_at dksX1_night_2_1 9 rfl rfl)
theorem dX1_night_2_36 : decode cX1_night_2 36 = .ok (.aload_n 0, 1) := dk_42 (dk_at dksX1_night_2_1 12 rfl rfl)
theorem dX1_night_2_37 : decode cX1_night_2 37 = .ok (.getfield 39, 3) := dk_180 0 39 (dk_at dksX1_night_2_1 13 rfl rfl)
theorem dX1_night_2_40 : decode cX1_night_2 40 = .ok (.iload 4, 2) := dk_21 4 (dk_at dksX1_night_2_1 16 rfl rfl)
theorem dX1_night_2_42 : decode cX1_night_2 42 = .ok (.iaload, 1) := dk_46 (dk_at dksX1_night_2_1 18 rfl rfl)
theorem dX1_night_2_43 : decode cX1_night_2 43 = .ok (.iconst 2, 1) := dk_5 (dk_at dksX1_night_2_1 19 rfl rfl)
theorem dX1_night_2_44 : decode cX1_night_2 44 = .ok (.idiv, 1) := dk_108 (dk_at dksX1_night_2_1 20 rfl rfl)
theorem dX1_night_2_45 : decode cX1_night_2 45 = .ok (.goto 4, 3) := dk_167 0 4 (dk_at dksX1_night_2_1 21 rfl rfl)
theorem dX1_night_2_48 : decode cX1_night_2 48 = .ok (.iconst 0, 1) := dk_3 (dk_at dksX1_night_2_2 0 rfl rfl)
theorem dX1_night_2_49 : decode cX1_night_2 49 = .ok (.istore 5, 2) := dk_54 5 (dk_at dksX1_night_2_2 1 rfl rfl)
theorem dX1_night_2_51 : decode cX1_night_2 51 = .ok (.aload_n 0, 1) := dk_42 (dk_at dksX1_night_2_2 3 rfl rfl)
theorem dX1_night_2_52 : decode cX1_night_2 52 = .ok (.getfield 35, 3) := dk_180 0 35 (dk_at dksX1_night_2_2 4 rfl rfl)
theorem dX1_night_2_55 : decode cX1_night_2 55 = .ok (.iload 4, 2) := dk_21 4 (dk_at dksX1_night_2_2 7 rfl rfl)
theorem dX1_night_2_57 : decode cX1_night_2 57 = .ok (.aaload, 1) := dk_50 (dk_at dksX1_night_2_2 9 rfl rfl)
theorem dX1_night_2_58 : decode cX1_night_2 58 = .ok (.invokevirtual 115, 3) := dk_182 0 115 (dk_at dksX1_night_2_2 10 rfl rfl)
theorem dX1_night_2_61 : decode cX1_night_2 61 = .ok (.iload_n 3, 1) := dk_29 (dk_at dksX1_night_2_2 13 rfl rfl)
theorem dX1_night_2_62 : decode cX1_night_2 62 = .ok (.iconst 1, 1) := dk_4 (dk_at dksX1_night_2_2 14 rfl rfl)
theorem dX1_night_2_63 : decode cX1_night_2 63 = .ok (.if_icmp .ne 7, 3) := dk_160 0 7 (dk_at dksX1_night_2_2 15 rfl rfl)
theorem dX1_night_2_66 : decode cX1_night_2 66 = .ok (.iconst 1, 1) := dk_4 (dk_at dksX1_night_2_2 18 rfl rfl)
theorem dX1_night_2_67 : decode cX1_night_2 67 = .ok (.goto 4, 3) := dk_167 0 4 (dk_at dksX1_night_2_2 19 rfl rfl)
theorem dX1_night_2_70 : decode cX1_night_2 70 = .ok (.iconst 0, 1) := dk_3 (dk_at dksX1_night_2_2 22 rfl rfl)
theorem dX1_night_2_71 : decode cX1_night_2 71 = .ok (.if_icmp .ne 37, 3) := dk_160 0 37 (dk_at dksX1_night_2_3 0 rfl rfl)
theorem dX1_night_2_74 : decode cX1_night_2 74 = .ok (.aload_n 0, 1) := dk_42 (dk_at dksX1_night_2_3 3 rfl rfl)
theorem dX1_night_2_75 : decode cX1_night_2 75 = .ok (.iload_n 1, 1) := dk_27 (dk_at dksX1_night_2_3 4 rfl rfl)
theorem dX1_night_2_76 : decode cX1_night_2 76 = .ok (.invokevirtual 125, 3) := dk_182 0 125 (dk_at dksX1_night_2_3 5 rfl rfl)
theorem dX1_night_2_79 : decode cX1_night_2 79 = .ok (.aload_n 0, 1) := dk_42 (dk_at dksX1_night_2_3 8 rfl rfl)
theorem dX1_night_2_80 : decode cX1_night_2 80 = .ok (.iload 4, 2) := dk_21 4 (dk_at dksX1_night_2_3 9 rfl rfl)
theorem dX1_night_2_82 : decode cX1_night_2 82 = .ok (.aload_n 0, 1) := dk_42 (dk_at dksX1_night_2_3 11 rfl rfl)
theorem dX1_night_2_83 : decode cX1_night_2 83 = .ok (.getfield 39, 3) := dk_180 0 39 (dk_at dksX1_night_2_3 12 rfl rfl)
theorem dX1_night_2_86 : decode cX1_night_2 86 = .ok (.iload 4, 2) := dk_21 4 (dk_at dksX1_night_2_3 15 rfl rfl)
theorem dX1_night_2_88 : decode cX1_night_2 88 = .ok (.iaload, 1) := dk_46 (dk_at dksX1_night_2_3 17 rfl rfl)
theorem dX1_night_2_89 : decode cX1_night_2 89 = .ok (.iload 5, 2) := dk_21 5 (dk_at dksX1_night_2_3 18 rfl rfl)
theorem dX1_night_2_91 : decode cX1_night_2 91 = .ok (.isub, 1) := dk_100 (dk_at dksX1_night_2_3 20 rfl rfl)
theorem dX1_night_2_92 : decode cX1_night_2 92 = .ok (.invokevirtual 119, 3) := dk_182 0 119 (dk_at dksX1_night_2_3 21 rfl rfl)
theorem dX1_night_2_95 : decode cX1_night_2 95 = .ok (.aload_n 0, 1) := dk_42 (dk_at dksX1_night_2_4 0 rfl rfl)
theorem dX1_night_2_96 : decode cX1_night_2 96 = .ok (.iload_n 2, 1) := dk_28 (dk_at dksX1_night_2_4 1 rfl rfl)
theorem dX1_night_2_97 : decode cX1_night_2 97 = .ok (.invokevirtual 125, 3) := dk_182 0 125 (dk_at dksX1_night_2_4 2 rfl rfl)
theorem dX1_night_2_100 : decode cX1_night_2 100 = .ok (.aload_n 0, 1) := dk_42 (dk_at dksX1_night_2_4 5 rfl rfl)
theorem dX1_night_2_101 : decode cX1_night_2 101 = .ok (.iload 4, 2) := dk_21 4 (dk_at dksX1_night_2_4 6 rfl rfl)
theorem dX1_night_2_103 : decode cX1_night_2 103 = .ok (.iload 5, 2) := dk_21 5 (dk_at dksX1_night_2_4 8 rfl rfl)
theorem dX1_night_2_105 : decode cX1_night_2 105 = .ok (.invokevirtual 119, 3) := dk_182 0 119 (dk_at dksX1_night_2_4 10 rfl rfl)
theorem dX1_night_2_108 : decode cX1_night_2 108 = .ok (.iinc 4 1, 3) := dk_132 4 1 (dk_at dksX1_night_2_4 13 rfl rfl)
theorem dX1_night_2_111 : decode cX1_night_2 111 = .ok (.goto (-97), 3) := dk_167 255 159 (dk_at dksX1_night_2_4 16 rfl rfl)
theorem dX1_night_2_114 : decode cX1_night_2 114 = .ok (.iinc 3 1, 3) := dk_132 3 1 (dk_at dksX1_night_2_4 19 rfl rfl)
theorem dX1_night_2_117 : decode cX1_night_2 117 = .ok (.goto (-111), 3) := dk_167 255 145 (dk_at dksX1_night_2_5 0 rfl rfl)
theorem dX1_night_2_120 : decode cX1_night_2 120 = .ok (.aload_n 0, 1) := dk_42 (dk_at dksX1_night_2_5 3 rfl rfl)
theorem dX1_night_2_121 : decode cX1_night_2 121 = .ok (.areturn, 1) := dk_176 (dk_at dksX1_night_2_5 4 rfl rfl)
abbrev cX1_years : ByteArray := prog_14_method_20_code
def yX1_years : MethodName := ⟨RX1, "years", "(II)I"⟩
def dkwX1_years_1 : List UInt8 := [182, 0, 151, 132, 4, 1, 167, 255, 232, 29, 172]
abbrev dktX1_years_1 : List UInt8 := dkwX1_years_1 ++ []
def dkwX1_years_0 : List UInt8 := [3, 62, 3, 54, 4, 21, 4, 27, 162, 0, 24, 29, 42, 182, 0, 144, 28, 182, 0, 148, 96, 62, 42]
abbrev dktX1_years_0 : List UInt8 := dkwX1_years_0 ++ dktX1_years_1
theorem dksX1_years_0 : cX1_years.data.toList.drop 0 = dktX1_years_0 := by decide +kernel
theorem dksX1_years_1 : cX1_years.data.toList.drop 23 = dktX1_years_1 := dk_seg dksX1_years_0 23 rfl rfl
theorem dX1_years_0 : decode cX1_years 0 = .ok (.iconst 0, 1) := dk_3 (dk_at dksX1_years_0 0 rfl rfl)
theorem dX1_years_1 : decode cX1_years 1 = .ok (.istore_n 3, 1) := dk_62 (dk_at dksX1_years_0 1 rfl rfl)
theorem dX1_years_2 : decode cX1_years 2 = .ok (.iconst 0, 1) := dk_3 (dk_at dksX1_years_0 2 rfl rfl)
theorem dX1_years_3 : decode cX1_years 3 = .ok (.istore 4, 2) := dk_54 4 (dk_at dksX1_years_0 3 rfl rfl)
theorem dX1_years_5 : decode cX1_years 5 = .ok (.iload 4, 2) := dk_21 4 (dk_at dksX1_years_0 5 rfl rfl)
theorem dX1_years_7 : decode cX1_years 7 = .ok (.iload_n 1, 1) := dk_27 (dk_at dksX1_years_0 7 rfl rfl)
theorem dX1_years_8 : decode cX1_years 8 = .ok (.if_icmp .ge 24, 3) := dk_162 0 24 (dk_at dksX1_years_0 8 rfl rfl)
theorem dX1_years_11 : decode cX1_years 11 = .ok (.iload_n 3, 1) := dk_29 (dk_at dksX1_years_0 11 rfl rfl)
theorem dX1_years_12 : decode cX1_years 12 = .ok (.aload_n 0, 1) := dk_42 (dk_at dksX1_years_0 12 rfl rfl)
theorem dX1_years_13 : decode cX1_years 13 = .ok (.invokevirtual 144, 3) := dk_182 0 144 (dk_at dksX1_years_0 13 rfl rfl)
theorem dX1_years_16 : decode cX1_years 16 = .ok (.iload_n 2, 1) := dk_28 (dk_at dksX1_years_0 16 rfl rfl)
theorem dX1_years_17 : decode cX1_years 17 = .ok (.invokevirtual 148, 3) := dk_182 0 148 (dk_at dksX1_years_0 17 rfl rfl)
theorem dX1_years_20 : decode cX1_years 20 = .ok (.iadd, 1) := dk_96 (dk_at dksX1_years_0 20 rfl rfl)
theorem dX1_years_21 : decode cX1_years 21 = .ok (.istore_n 3, 1) := dk_62 (dk_at dksX1_years_0 21 rfl rfl)
theorem dX1_years_22 : decode cX1_years 22 = .ok (.aload_n 0, 1) := dk_42 (dk_at dksX1_years_0 22 rfl rfl)
theorem dX1_years_23 : decode cX1_years 23 = .ok (.invokevirtual 151, 3) := dk_182 0 151 (dk_at dksX1_years_1 0 rfl rfl)
theorem dX1_years_26 : decode cX1_years 26 = .ok (.iinc 4 1, 3) := dk_132 4 1 (dk_at dksX1_years_1 3 rfl rfl)
theorem dX1_years_29 : decode cX1_years 29 = .ok (.goto (-24), 3) := dk_167 255 232 (dk_at dksX1_years_1 6 rfl rfl)
theorem dX1_years_32 : decode cX1_years 32 = .ok (.iload_n 3, 1) := dk_29 (dk_at dksX1_years_1 9 rfl rfl)
theorem dX1_years_33 : decode cX1_years 33 = .ok (.ireturn, 1) := dk_172 (dk_at dksX1_years_1 10 rfl rfl)
abbrev cX1_ages : ByteArray := prog_14_method_19_code
def yX1_ages : MethodName := ⟨RX1, "ages", "()V"⟩
def dkwX1_ages_1 : List UInt8 := [42, 180, 0, 74, 4, 96, 184, 0, 100, 181, 0, 74, 177]
abbrev dktX1_ages_1 : List UInt8 := dkwX1_ages_1 ++ []
def dkwX1_ages_0 : List UInt8 := [3, 60, 27, 42, 180, 0, 68, 162, 0, 14, 42, 27, 182, 0, 141, 132, 1, 1, 167, 255, 240, 42, 16, 99]
abbrev dktX1_ages_0 : List UInt8 := dkwX1_ages_0 ++ dktX1_ages_1
theorem dksX1_ages_0 : cX1_ages.data.toList.drop 0 = dktX1_ages_0 := by decide +kernel
theorem dksX1_ages_1 : cX1_ages.data.toList.drop 24 = dktX1_ages_1 := dk_seg dksX1_ages_0 24 rfl rfl
theorem dX1_ages_0 : decode cX1_ages 0 = .ok (.iconst 0, 1) := dk_3 (dk_at dksX1_ages_0 0 rfl rfl)
theorem dX1_ages_1 : decode cX1_ages 1 = .ok (.istore_n 1, 1) := dk_60 (dk_at dksX1_ages_0 1 rfl rfl)
theorem dX1_ages_2 : decode cX1_ages 2 = .ok (.iload_n 1, 1) := dk_27 (dk_at dksX1_ages_0 2 rfl rfl)
theorem dX1_ages_3 : decode cX1_ages 3 = .ok (.aload_n 0, 1) := dk_42 (dk_at dksX1_ages_0 3 rfl rfl)
theorem dX1_ages_4 : decode cX1_ages 4 = .ok (.getfield 68, 3) := dk_180 0 68 (dk_at dksX1_ages_0 4 rfl rfl)
theorem dX1_ages_7 : decode cX1_ages 7 = .ok (.if_icmp .ge 14, 3) := dk_162 0 14 (dk_at dksX1_ages_0 7 rfl rfl)
theorem dX1_ages_10 : decode cX1_ages 10 = .ok (.aload_n 0, 1) := dk_42 (dk_at dksX1_ages_0 10 rfl rfl)
theorem dX1_ages_11 : decode cX1_ages 11 = .ok (.iload_n 1, 1) := dk_27 (dk_at dksX1_ages_0 11 rfl rfl)
theorem dX1_ages_12 : decode cX1_ages 12 = .ok (.invokevirtual 141, 3) := dk_182 0 141 (dk_at dksX1_ages_0 12 rfl rfl)
theorem dX1_ages_15 : decode cX1_ages 15 = .ok (.iinc 1 1, 3) := dk_132 1 1 (dk_at dksX1_ages_0 15 rfl rfl)
theorem dX1_ages_18 : decode cX1_ages 18 = .ok (.goto (-16), 3) := dk_167 255 240 (dk_at dksX1_ages_0 18 rfl rfl)
theorem dX1_ages_21 : decode cX1_ages 21 = .ok (.aload_n 0, 1) := dk_42 (dk_at dksX1_ages_0 21 rfl rfl)
theorem dX1_ages_22 : decode cX1_ages 22 = .ok (.bipush 99, 2) := dk_16 99 (dk_at dksX1_ages_0 22 rfl rfl)
theorem dX1_ages_24 : decode cX1_ages 24 = .ok (.aload_n 0, 1) := dk_42 (dk_at dksX1_ages_1 0 rfl rfl)
theorem dX1_ages_25 : decode cX1_ages 25 = .ok (.getfield 74, 3) := dk_180 0 74 (dk_at dksX1_ages_1 1 rfl rfl)
theorem dX1_ages_28 : decode cX1_ages 28 = .ok (.iconst 1, 1) := dk_4 (dk_at dksX1_ages_1 4 rfl rfl)
theorem dX1_ages_29 : decode cX1_ages 29 = .ok (.iadd, 1) := dk_96 (dk_at dksX1_ages_1 5 rfl rfl)
theorem dX1_ages_30 : decode cX1_ages 30 = .ok (.invokestatic 100, 3) := dk_184 0 100 (dk_at dksX1_ages_1 6 rfl rfl)
theorem dX1_ages_33 : decode cX1_ages 33 = .ok (.putfield 74, 3) := dk_181 0 74 (dk_at dksX1_ages_1 9 rfl rfl)
theorem dX1_ages_36 : decode cX1_ages 36 = .ok (.return_, 1) := dk_177 (dk_at dksX1_ages_1 12 rfl rfl)
abbrev cX1_ages_2 : ByteArray := prog_14_method_18_code
def yX1_ages_2 : MethodName := ⟨RX1, "ages", "(I)V"⟩
def dkwX1_ages_2_8 : List UInt8 := [27, 3, 42, 180, 0, 21, 27, 46, 4, 100, 184, 0, 135, 79, 177]
abbrev dktX1_ages_2_8 : List UInt8 := dkwX1_ages_2_8 ++ []
def dkwX1_ages_2_7 : List UInt8 := [180, 0, 9, 27, 46, 6, 96, 184, 0, 100, 167, 0, 9, 42, 180, 0, 9, 27, 46, 79, 42, 180, 0, 21]
abbrev dktX1_ages_2_7 : List UInt8 := dkwX1_ages_2_7 ++ dktX1_ages_2_8
def dkwX1_ages_2_6 : List UInt8 := [27, 42, 180, 0, 9, 27, 46, 42, 180, 0, 15, 27, 46, 162, 0, 23, 42, 180, 0, 15, 27, 46, 42]
abbrev dktX1_ages_2_6 : List UInt8 := dkwX1_ages_2_6 ++ dktX1_ages_2_7
def dkwX1_ages_2_5 : List UInt8 := [167, 0, 85, 5, 42, 180, 0, 47, 27, 46, 104, 42, 180, 0, 18, 27, 46, 162, 0, 68, 42, 180, 0, 9]
abbrev dktX1_ages_2_5 : List UInt8 := dkwX1_ages_2_5 ++ dktX1_ages_2_6
def dkwX1_ages_2_4 : List UInt8 := [16, 99, 42, 180, 0, 21, 27, 46, 42, 180, 0, 21, 27, 46, 7, 108, 96, 4, 96, 184, 0, 100, 79]
abbrev dktX1_ages_2_4 : List UInt8 := dkwX1_ages_2_4 ++ dktX1_ages_2_5
def dkwX1_ages_2_3 : List UInt8 := [180, 0, 9, 27, 3, 42, 180, 0, 9, 27, 46, 16, 6, 100, 184, 0, 135, 79, 42, 180, 0, 21, 27]
abbrev dktX1_ages_2_3 : List UInt8 := dkwX1_ages_2_3 ++ dktX1_ages_2_4
def dkwX1_ages_2_2 : List UInt8 := [167, 0, 9, 42, 180, 0, 9, 27, 46, 184, 0, 135, 182, 0, 138, 42, 27, 182, 0, 88, 153, 0, 53, 42]
abbrev dktX1_ages_2_2 : List UInt8 := dkwX1_ages_2_2 ++ dktX1_ages_2_3
def dkwX1_ages_2_1 : List UInt8 := [180, 0, 9, 27, 46, 42, 180, 0, 24, 27, 46, 162, 0, 15, 42, 180, 0, 9, 27, 46, 16, 10, 100]
abbrev dktX1_ages_2_1 : List UInt8 := dkwX1_ages_2_1 ++ dktX1_ages_2_2
def dkwX1_ages_2_0 : List UInt8 := [42, 180, 0, 47, 27, 46, 158, 0, 56, 42, 180, 0, 27, 27, 46, 16, 99, 162, 0, 45, 42, 27, 3, 42]
abbrev dktX1_ages_2_0 : List UInt8 := dkwX1_ages_2_0 ++ dktX1_ages_2_1
theorem dksX1_ages_2_0 : cX1_ages_2.data.toList.drop 0 = dktX1_ages_2_0 := by decide +kernel
theorem dksX1_ages_2_1 : cX1_ages_2.data.toList.drop 24 = dktX1_ages_2_1 := dk_seg dksX1_ages_2_0 24 rfl rfl
theorem dksX1_ages_2_2 : cX1_ages_2.data.toList.drop 47 = dktX1_ages_2_2 := dk_seg dksX1_ages_2_1 23 rfl rfl
theorem dksX1_ages_2_3 : cX1_ages_2.data.toList.drop 71 = dktX1_ages_2_3 := dk_seg dksX1_ages_2_2 24 rfl rfl
theorem dksX1_ages_2_4 : cX1_ages_2.data.toList.drop 94 = dktX1_ages_2_4 := dk_seg dksX1_ages_2_3 23 rfl rfl
theorem dksX1_ages_2_5 : cX1_ages_2.data.toList.drop 117 = dktX1_ages_2_5 := dk_seg dksX1_ages_2_4 23 rfl rfl
theorem dksX1_ages_2_6 : cX1_ages_2.data.toList.drop 141 = dktX1_ages_2_6 := dk_seg dksX1_ages_2_5 24 rfl rfl
theorem dksX1_ages_2_7 : cX1_ages_2.data.toList.drop 164 = dktX1_ages_2_7 := dk_seg dksX1_ages_2_6 23 rfl rfl
theorem dksX1_ages_2_8 : cX1_ages_2.data.toList.drop 188 = dktX1_ages_2_8 := dk_seg dksX1_ages_2_7 24 rfl rfl
theorem dX1_ages_2_0 : decode cX1_ages_2 0 = .ok (.aload_n 0, 1) := dk_42 (dk_at dksX1_ages_2_0 0 rfl rfl)
theorem dX1_ages_2_1 : decode cX1_ages_2 1 = .ok (.getfield 47, 3) := dk_180 0 47 (dk_at dksX1_ages_2_0 1 rfl rfl)
theorem dX1_ages_2_4 : decode cX1_ages_2 4 = .ok (.iload_n 1, 1) := dk_27 (dk_at dksX1_ages_2_0 4 rfl rfl)
theorem dX1_ages_2_5 : decode cX1_ages_2 5 = .ok (.iaload, 1) := dk_46 (dk_at dksX1_ages_2_0 5 rfl rfl)
theorem dX1_ages_2_6 : decode cX1_ages_2 6 = .ok (.ifCond .le 56, 3) := dk_158 0 56 (dk_at dksX1_ages_2_0 6 rfl rfl)
theorem dX1_ages_2_9 : decode cX1_ages_2 9 = .ok (.aload_n 0, 1) := dk_42 (dk_at dksX1_ages_2_0 9 rfl rfl)
theorem dX1_ages_2_10 : decode cX1_ages_2 10 = .ok (.getfield 27, 3) := dk_180 0 27 (dk_at dksX1_ages_2_0 10 rfl rfl)
theorem dX1_ages_2_13 : decode cX1_ages_2 13 = .ok (.iload_n 1, 1) := dk_27 (dk_at dksX1_ages_2_0 13 rfl rfl)
theorem dX1_ages_2_14 : decode cX1_ages_2 14 = .ok (.iaload, 1) := dk_46 (dk_at dksX1_ages_2_0 14 rfl rfl)
theorem dX1_ages_2_15 : decode cX1_ages_2 15 = .ok (.bipush 99, 2) := dk_16 99 (dk_at dksX1_ages_2_0 15 rfl rfl)
theorem dX1_ages_2_17 : decode cX1_ages_2 17 = .ok (.if_icmp .ge 45, 3) := dk_162 0 45 (dk_at dksX1_ages_2_0 17 rfl rfl)
theorem dX1_ages_2_20 : decode cX1_ages_2 20 = .ok (.aload_n 0, 1) := dk_42 (dk_at dksX1_ages_2_0 20 rfl rfl)
theorem dX1_ages_2_21 : decode cX1_ages_2 21 = .ok (.iload_n 1, 1) := dk_27 (dk_at dksX1_ages_2_0 21 rfl rfl)
theorem dX1_ages_2_22 : decode cX1_ages_2 22 = .ok (.iconst 0, 1) := dk_3 (dk_at dksX1_ages_2_0 22 rfl rfl)
theorem dX1_ages_2_23 : decode cX1_ages_2 23 = .ok (.aload_n 0, 1) := dk_42 (dk_at dksX1_ages_2_0 23 rfl rfl)
theorem dX1_ages_2_24 : decode cX1_ages_2 24 = .ok (.getfield 9, 3) := dk_180 0 9 (dk_at dksX1_ages_2_1 0 rfl rfl)
theorem dX1_ages_2_27 : decode cX1_ages_2 27 = .ok (.iload_n 1, 1) := dk_27 (dk_at dksX1_ages_2_1 3 rfl rfl)
theorem dX1_ages_2_28 : decode cX1_ages_2 28 = .ok (.iaload, 1) := dk_46 (dk_at dksX1_ages_2_1 4 rfl rfl)
theorem dX1_ages_2_29 : decode cX1_ages_2 29 = .ok (.aload_n 0, 1) := dk_42 (dk_at dksX1_ages_2_1 5 rfl rfl)
theorem dX1_ages_2_30 : decode cX1_ages_2 30 = .ok (.getfield 24, 3) := dk_180 0 24 (dk_at dksX1_ages_2_1 6 rfl rfl)
theorem dX1_ages_2_33 : decode cX1_ages_2 33 = .ok (.iload_n 1, 1) := dk_27 (dk_at dksX1_ages_2_1 9 rfl rfl)
theorem dX1_ages_2_34 : decode cX1_ages_2 34 = .ok (.iaload, 1) := dk_46 (dk_at dksX1_ages_2_1 10 rfl rfl)
theorem dX1_ages_2_35 : decode cX1_ages_2 35 = .ok (.if_icmp .ge 15, 3) := dk_162 0 15 (dk_at dksX1_ages_2_1 11 rfl rfl)
theorem dX1_ages_2_38 : decode cX1_ages_2 38 = .ok (.aload_n 0, 1) := dk_42 (dk_at dksX1_ages_2_1 14 rfl rfl)
theorem dX1_ages_2_39 : decode cX1_ages_2 39 = .ok (.getfield 9, 3) := dk_180 0 9 (dk_at dksX1_ages_2_1 15 rfl rfl)
theorem dX1_ages_2_42 : decode cX1_ages_2 42 = .ok (.iload_n 1, 1) := dk_27 (dk_at dksX1_ages_2_1 18 rfl rfl)
theorem dX1_ages_2_43 : decode cX1_ages_2 43 = .ok (.iaload, 1) := dk_46 (dk_at dksX1_ages_2_1 19 rfl rfl)
theorem dX1_ages_2_44 : decode cX1_ages_2 44 = .ok (.bipush 10, 2) := dk_16 10 (dk_at dksX1_ages_2_1 20 rfl rfl)
theorem dX1_ages_2_46 : decode cX1_ages_2 46 = .ok (.isub, 1) := dk_100 (dk_at dksX1_ages_2_1 22 rfl rfl)
theorem dX1_ages_2_47 : decode cX1_ages_2 47 = .ok (.goto 9, 3) := dk_167 0 9 (dk_at dksX1_ages_2_2 0 rfl rfl)
theorem dX1_ages_2_50 : decode cX1_ages_2 50 = .ok (.aload_n 0, 1) := dk_42 (dk_at dksX1_ages_2_2 3 rfl rfl)
theorem dX1_ages_2_51 : decode cX1_ages_2 51 = .ok (.getfield 9, 3) := dk_180 0 9 (dk_at dksX1_ages_2_2 4 rfl rfl)
theorem dX1_ages_2_54 : decode cX1_ages_2 54 = .ok (.iload_n 1, 1) := dk_27 (dk_at dksX1_ages_2_2 7 rfl rfl)
theorem dX1_ages_2_55 : decode cX1_ages_2 55 = .ok (.iaload, 1) := dk_46 (dk_at dksX1_ages_2_2 8 rfl rfl)
theorem dX1_ages_2_56 : decode cX1_ages_2 56 = .ok (.invokestatic 135, 3) := dk_184 0 135 (dk_at dksX1_ages_2_2 9 rfl rfl)
theorem dX1_ages_2_59 : decode cX1_ages_2 59 = .ok (.invokevirtual 138, 3) := dk_182 0 138 (dk_at dksX1_ages_2_2 12 rfl rfl)
theorem dX1_ages_2_62 : decode cX1_ages_2 62 = .ok (.aload_n 0, 1) := dk_42 (dk_at dksX1_ages_2_2 15 rfl rfl)
theorem dX1_ages_2_63 : decode cX1_ages_2 63 = .ok (.iload_n 1, 1) := dk_27 (dk_at dksX1_ages_2_2 16 rfl rfl)
theorem dX1_ages_2_64 : decode cX1_ages_2 64 = .ok (.invokevirtual 88, 3) := dk_182 0 88 (dk_at dksX1_ages_2_2 17 rfl rfl)
theorem dX1_ages_2_67 : decode cX1_ages_2 67 = .ok (.ifCond .eq 53, 3) := dk_153 0 53 (dk_at dksX1_ages_2_2 20 rfl rfl)
theorem dX1_ages_2_70 : decode cX1_ages_2 70 = .ok (.aload_n 0, 1) := dk_42 (dk_at dksX1_ages_2_2 23 rfl rfl)
theorem dX1_ages_2_71 : decode cX1_ages_2 71 = .ok (.getfield 9, 3) := dk_180 0 9 (dk_at dksX1_ages_2_3 0 rfl rfl)
theorem dX1_ages_2_74 : decode cX1_ages_2 74 = .ok (.iload_n 1, 1) := dk_27 (dk_at dksX1_ages_2_3 3 rfl rfl)
theorem dX1_ages_2_75 : decode cX1_ages_2 75 = .ok (.iconst 0, 1) := dk_3 (dk_at dksX1_ages_2_3 4 rfl rfl)
theorem dX1_ages_2_76 : decode cX1_ages_2 76 = .ok (.aload_n 0, 1) := dk_42 (dk_at dksX1_ages_2_3 5 rfl rfl)
theorem dX1_ages_2_77 : decode cX1_ages_2 77 = .ok (.getfield 9, 3) := dk_180 0 9 (dk_at dksX1_ages_2_3 6 rfl rfl)
theorem dX1_ages_2_80 : decode cX1_ages_2 80 = .ok (.iload_n 1, 1) := dk_27 (dk_at dksX1_ages_2_3 9 rfl rfl)
theorem dX1_ages_2_81 : decode cX1_ages_2 81 = .ok (.iaload, 1) := dk_46 (dk_at dksX1_ages_2_3 10 rfl rfl)
theorem dX1_ages_2_82 : decode cX1_ages_2 82 = .ok (.bipush 6, 2) := dk_16 6 (dk_at dksX1_ages_2_3 11 rfl rfl)
theorem dX1_ages_2_84 : decode cX1_ages_2 84 = .ok (.isub, 1) := dk_100 (dk_at dksX1_ages_2_3 13 rfl rfl)
theorem dX1_ages_2_85 : decode cX1_ages_2 85 = .ok (.invokestatic 135, 3) := dk_184 0 135 (dk_at dksX1_ages_2_3 14 rfl rfl)
theorem dX1_ages_2_88 : decode cX1_ages_2 88 = .ok (.iastore, 1) := dk_79 (dk_at dksX1_ages_2_3 17 rfl rfl)
theorem dX1_ages_2_89 : decode cX1_ages_2 89 = .ok (.aload_n 0, 1) := dk_42 (dk_at dksX1_ages_2_3 18 rfl rfl)
theorem dX1_ages_2_90 : decode cX1_ages_2 90 = .ok (.getfield 21, 3) := dk_180 0 21 (dk_at dksX1_ages_2_3 19 rfl rfl)
theorem dX1_ages_2_93 : decode cX1_ages_2 93 = .ok (.iload_n 1, 1) := dk_27 (dk_at dksX1_ages_2_3 22 rfl rfl)
theorem dX1_ages_2_94 : decode cX1_ages_2 94 = .ok (.bipush 99, 2) := dk_16 99 (dk_at dksX1_ages_2_4 0 rfl rfl)
theorem dX1_ages_2_96 : decode cX1_ages_2 96 = .ok (.aload_n 0, 1) := dk_42 (dk_at dksX1_ages_2_4 2 rfl rfl)
theorem dX1_ages_2_97 : decode cX1_ages_2 97 = .ok (.getfield 21, 3) := dk_180 0 21 (dk_at dksX1_ages_2_4 3 rfl rfl)
theorem dX1_ages_2_100 : decode cX1_ages_2 100 = .ok (.iload_n 1, 1) := dk_27 (dk_at dksX1_ages_2_4 6 rfl rfl)
theorem dX1_ages_2_101 : decode cX1_ages_2 101 = .ok (.iaload, 1) := dk_46 (dk_at dksX1_ages_2_4 7 rfl rfl)
theorem dX1_ages_2_102 : decode cX1_ages_2 102 = .ok (.aload_n 0, 1) := dk_42 (dk_at dksX1_ages_2_4 8 rfl rfl)
theorem dX1_ages_2_103 : decode cX1_ages_2 103 = .ok (.getfield 21, 3) := dk_180 0 21 (dk_at dksX1_ages_2_4 9 rfl rfl)
theorem dX1_ages_2_106 : decode cX1_ages_2 106 = .ok (.iload_n 1, 1) := dk_27 (dk_at dksX1_ages_2_4 12 rfl rfl)
theorem dX1_ages_2_107 : decode cX1_ages_2 107 = .ok (.iaload, 1) := dk_46 (dk_at dksX1_ages_2_4 13 rfl rfl)
theorem dX1_ages_2_108 : decode cX1_ages_2 108 = .ok (.iconst 4, 1) := dk_7 (dk_at dksX1_ages_2_4 14 rfl rfl)
theorem dX1_ages_2_109 : decode cX1_ages_2 109 = .ok (.idiv, 1) := dk_108 (dk_at dksX1_ages_2_4 15 rfl rfl)
theorem dX1_ages_2_110 : decode cX1_ages_2 110 = .ok (.iadd, 1) := dk_96 (dk_at dksX1_ages_2_4 16 rfl rfl)
theorem dX1_ages_2_111 : decode cX1_ages_2 111 = .ok (.iconst 1, 1) := dk_4 (dk_at dksX1_ages_2_4 17 rfl rfl)
theorem dX1_ages_2_112 : decode cX1_ages_2 112 = .ok (.iadd, 1) := dk_96 (dk_at dksX1_ages_2_4 18 rfl rfl)
theorem dX1_ages_2_113 : decode cX1_ages_2 113 = .ok (.invokestatic 100, 3) := dk_184 0 100 (dk_at dksX1_ages_2_4 19 rfl rfl)
theorem dX1_ages_2_116 : decode cX1_ages_2 116 = .ok (.iastore, 1) := dk_79 (dk_at dksX1_ages_2_4 22 rfl rfl)
theorem dX1_ages_2_117 : decode cX1_ages_2 117 = .ok (.goto 85, 3) := dk_167 0 85 (dk_at dksX1_ages_2_5 0 rfl rfl)
theorem dX1_ages_2_120 : decode cX1_ages_2 120 = .ok (.iconst 2, 1) := dk_5 (dk_at dksX1_ages_2_5 3 rfl rfl)
theorem dX1_ages_2_121 : decode cX1_ages_2 121 = .ok (.aload_n 0, 1) := dk_42 (dk_at dksX1_ages_2_5 4 rfl rfl)
theorem dX1_ages_2_122 : decode cX1_ages_2 122 = .ok (.getfield 47, 3) := dk_180 0 47 (dk_at dksX1_ages_2_5 5 rfl rfl)
theorem dX1_ages_2_125 : decode cX1_ages_2 125 = .ok (.iload_n 1, 1) := dk_27 (dk_at dksX1_ages_2_5 8 rfl rfl)
theorem dX1_ages_2_126 : decode cX1_ages_2 126 = .ok (.iaload, 1) := dk_46 (dk_at dksX1_ages_2_5 9 rfl rfl)
theorem dX1_ages_2_127 : decode cX1_ages_2 127 = .ok (.imul, 1) := dk_104 (dk_at dksX1_ages_2_5 10 rfl rfl)
theorem dX1_ages_2_128 : decode cX1_ages_2 128 = .ok (.aload_n 0, 1) := dk_42 (dk_at dksX1_ages_2_5 11 rfl rfl)
theorem dX1_ages_2_129 : decode cX1_ages_2 129 = .ok (.getfield 18, 3) := dk_180 0 18 (dk_at dksX1_ages_2_5 12 rfl rfl)
theorem dX1_ages_2_132 : decode cX1_ages_2 132 = .ok (.iload_n 1, 1) := dk_27 (dk_at dksX1_ages_2_5 15 rfl rfl)
theorem dX1_ages_2_133 : decode cX1_ages_2 133 = .ok (.iaload, 1) := dk_46 (dk_at dksX1_ages_2_5 16 rfl rfl)
theorem dX1_ages_2_134 : decode cX1_ages_2 134 = .ok (.if_icmp .ge 68, 3) := dk_162 0 68 (dk_at dksX1_ages_2_5 17 rfl rfl)
theorem dX1_ages_2_137 : decode cX1_ages_2 137 = .ok (.aload_n 0, 1) := dk_42 (dk_at dksX1_ages_2_5 20 rfl rfl)
theorem dX1_ages_2_138 : decode cX1_ages_2 138 = .ok (.getfield 9, 3) := dk_180 0 9 (dk_at dksX1_ages_2_5 21 rfl rfl)
theorem dX1_ages_2_141 : decode cX1_ages_2 141 = .ok (.iload_n 1, 1) := dk_27 (dk_at dksX1_ages_2_6 0 rfl rfl)
theorem dX1_ages_2_142 : decode cX1_ages_2 142 = .ok (.aload_n 0, 1) := dk_42 (dk_at dksX1_ages_2_6 1 rfl rfl)
theorem dX1_ages_2_143 : decode cX1_ages_2 143 = .ok (.getfield 9, 3) := dk_180 0 9 (dk_at dksX1_ages_2_6 2 rfl rfl)
theorem dX1_ages_2_146 : decode cX1_ages_2 146 = .ok (.iload_n 1, 1) := dk_27 (dk_at dksX1_ages_2_6 5 rfl rfl)
theorem dX1_ages_2_147 : decode cX1_ages_2 147 = .ok (.iaload, 1) := dk_46 (dk_at dksX1_ages_2_6 6 rfl rfl)
theorem dX1_ages_2_148 : decode cX1_ages_2 148 = .ok (.aload_n 0, 1) := dk_42 (dk_at dksX1_ages_2_6 7 rfl rfl)
theorem dX1_ages_2_149 : decode cX1_ages_2 149 = .ok (.getfield 15, 3) := dk_180 0 15 (dk_at dksX1_ages_2_6 8 rfl rfl)
theorem dX1_ages_2_152 : decode cX1_ages_2 152 = .ok (.iload_n 1, 1) := dk_27 (dk_at dksX1_ages_2_6 11 rfl rfl)
theorem dX1_ages_2_153 : decode cX1_ages_2 153 = .ok (.iaload, 1) := dk_46 (dk_at dksX1_ages_2_6 12 rfl rfl)
theorem dX1_ages_2_154 : decode cX1_ages_2 154 = .ok (.if_icmp .ge 23, 3) := dk_162 0 23 (dk_at dksX1_ages_2_6 13 rfl rfl)
theorem dX1_ages_2_157 : decode cX1_ages_2 157 = .ok (.aload_n 0, 1) := dk_42 (dk_at dksX1_ages_2_6 16 rfl rfl)
theorem dX1_ages_2_158 : decode cX1_ages_2 158 = .ok (.getfield 15, 3) := dk_180 0 15 (dk_at dksX1_ages_2_6 17 rfl rfl)
theorem dX1_ages_2_161 : decode cX1_ages_2 161 = .ok (.iload_n 1, 1) := dk_27 (dk_at dksX1_ages_2_6 20 rfl rfl)
theorem dX1_ages_2_162 : decode cX1_ages_2 162 = .ok (.iaload, 1) := dk_46 (dk_at dksX1_ages_2_6 21 rfl rfl)
theorem dX1_ages_2_163 : decode cX1_ages_2 163 = .ok (.aload_n 0, 1) := dk_42 (dk_at dksX1_ages_2_6 22 rfl rfl)
theorem dX1_ages_2_164 : decode cX1_ages_2 164 = .ok (.getfield 9, 3) := dk_180 0 9 (dk_at dksX1_ages_2_7 0 rfl rfl)
theorem dX1_ages_2_167 : decode cX1_ages_2 167 = .ok (.iload_n 1, 1) := dk_27 (dk_at dksX1_ages_2_7 3 rfl rfl)
theorem dX1_ages_2_168 : decode cX1_ages_2 168 = .ok (.iaload, 1) := dk_46 (dk_at dksX1_ages_2_7 4 rfl rfl)
theorem dX1_ages_2_169 : decode cX1_ages_2 169 = .ok (.iconst 3, 1) := dk_6 (dk_at dksX1_ages_2_7 5 rfl rfl)
theorem dX1_ages_2_170 : decode cX1_ages_2 170 = .ok (.iadd, 1) := dk_96 (dk_at dksX1_ages_2_7 6 rfl rfl)
theorem dX1_ages_2_171 : decode cX1_ages_2 171 = .ok (.invokestatic 100, 3) := dk_184 0 100 (dk_at dksX1_ages_2_7 7 rfl rfl)
theorem dX1_ages_2_174 : decode cX1_ages_2 174 = .ok (.goto 9, 3) := dk_167 0 9 (dk_at dksX1_ages_2_7 10 rfl rfl)
theorem dX1_ages_2_177 : decode cX1_ages_2 177 = .ok (.aload_n 0, 1) := dk_42 (dk_at dksX1_ages_2_7 13 rfl rfl)
theorem dX1_ages_2_178 : decode cX1_ages_2 178 = .ok (.getfield 9, 3) := dk_180 0 9 (dk_at dksX1_ages_2_7 14 rfl rfl)
theorem dX1_ages_2_181 : decode cX1_ages_2 181 = .ok (.iload_n 1, 1) := dk_27 (dk_at dksX1_ages_2_7 17 rfl rfl)
theorem dX1_ages_2_182 : decode cX1_ages_2 182 = .ok (.iaload, 1) := dk_46 (dk_at dksX1_ages_2_7 18 rfl rfl)
theorem dX1_ages_2_183 : decode cX1_ages_2 183 = .ok (.iastore, 1) := dk_79 (dk_at dksX1_ages_2_7 19 rfl rfl)
theorem dX1_ages_2_184 : decode cX1_ages_2 184 = .ok (.aload_n 0, 1) := dk_42 (dk_at dksX1_ages_2_7 20 rfl rfl)
theorem dX1_ages_2_185 : decode cX1_ages_2 185 = .ok (.getfield 21, 3) := dk_180 0 21 (dk_at dksX1_ages_2_7 21 rfl rfl)
theorem dX1_ages_2_188 : decode cX1_ages_2 188 = .ok (.iload_n 1, 1) := dk_27 (dk_at dksX1_ages_2_8 0 rfl rfl)
theorem dX1_ages_2_189 : decode cX1_ages_2 189 = .ok (.iconst 0, 1) := dk_3 (dk_at dksX1_ages_2_8 1 rfl rfl)
theorem dX1_ages_2_190 : decode cX1_ages_2 190 = .ok (.aload_n 0, 1) := dk_42 (dk_at dksX1_ages_2_8 2 rfl rfl)
theorem dX1_ages_2_191 : decode cX1_ages_2 191 = .ok (.getfield 21, 3) := dk_180 0 21 (dk_at dksX1_ages_2_8 3 rfl rfl)
theorem dX1_ages_2_194 : decode cX1_ages_2 194 = .ok (.iload_n 1, 1) := dk_27 (dk_at dksX1_ages_2_8 6 rfl rfl)
theorem dX1_ages_2_195 : decode cX1_ages_2 195 = .ok (.iaload, 1) := dk_46 (dk_at dksX1_ages_2_8 7 rfl rfl)
theorem dX1_ages_2_196 : decode cX1_ages_2 196 = .ok (.iconst 1, 1) := dk_4 (dk_at dksX1_ages_2_8 8 rfl rfl)
theorem dX1_ages_2_197 : decode cX1_ages_2 197 = .ok (.isub, 1) := dk_100 (dk_at dksX1_ages_2_8 9 rfl rfl)
theorem dX1_ages_2_198 : decode cX1_ages_2 198 = .ok (.invokestatic 135, 3) := dk_184 0 135 (dk_at dksX1_ages_2_8 10 rfl rfl)
theorem dX1_ages_2_201 : decode cX1_ages_2 201 = .ok (.iastore, 1) := dk_79 (dk_at dksX1_ages_2_8 13 rfl rfl)
theorem dX1_ages_2_202 : decode cX1_ages_2 202 = .ok (.return_, 1) := dk_177 (dk_at dksX1_ages_2_8 14 rfl rfl)
abbrev cX1_yearsOfOwn : ByteArray := prog_14_method_21_code
def yX1_yearsOfOwn : MethodName := ⟨RX1, "yearsOfOwn", "(I)I"⟩
def dkwX1_yearsOfOwn_1 : List UInt8 := [132, 3, 1, 167, 255, 234, 28, 172]
abbrev dktX1_yearsOfOwn_1 : List UInt8 := dkwX1_yearsOfOwn_1 ++ []
def dkwX1_yearsOfOwn_0 : List UInt8 := [3, 61, 3, 62, 29, 27, 162, 0, 23, 28, 42, 182, 0, 144, 182, 0, 153, 96, 61, 42, 182, 0, 151]
abbrev dktX1_yearsOfOwn_0 : List UInt8 := dkwX1_yearsOfOwn_0 ++ dktX1_yearsOfOwn_1
theorem dksX1_yearsOfOwn_0 : cX1_yearsOfOwn.data.toList.drop 0 = dktX1_yearsOfOwn_0 := by decide +kernel
theorem dksX1_yearsOfOwn_1 : cX1_yearsOfOwn.data.toList.drop 23 = dktX1_yearsOfOwn_1 := dk_seg dksX1_yearsOfOwn_0 23 rfl rfl
theorem dX1_yearsOfOwn_0 : decode cX1_yearsOfOwn 0 = .ok (.iconst 0, 1) := dk_3 (dk_at dksX1_yearsOfOwn_0 0 rfl rfl)
theorem dX1_yearsOfOwn_1 : decode cX1_yearsOfOwn 1 = .ok (.istore_n 2, 1) := dk_61 (dk_at dksX1_yearsOfOwn_0 1 rfl rfl)
theorem dX1_yearsOfOwn_2 : decode cX1_yearsOfOwn 2 = .ok (.iconst 0, 1) := dk_3 (dk_at dksX1_yearsOfOwn_0 2 rfl rfl)
theorem dX1_yearsOfOwn_3 : decode cX1_yearsOfOwn 3 = .ok (.istore_n 3, 1) := dk_62 (dk_at dksX1_yearsOfOwn_0 3 rfl rfl)
theorem dX1_yearsOfOwn_4 : decode cX1_yearsOfOwn 4 = .ok (.iload_n 3, 1) := dk_29 (dk_at dksX1_yearsOfOwn_0 4 rfl rfl)
theorem dX1_yearsOfOwn_5 : decode cX1_yearsOfOwn 5 = .ok (.iload_n 1, 1) := dk_27 (dk_at dksX1_yearsOfOwn_0 5 rfl rfl)
theorem dX1_yearsOfOwn_6 : decode cX1_yearsOfOwn 6 = .ok (.if_icmp .ge 23, 3) := dk_162 0 23 (dk_at dksX1_yearsOfOwn_0 6 rfl rfl)
theorem dX1_yearsOfOwn_9 : decode cX1_yearsOfOwn 9 = .ok (.iload_n 2, 1) := dk_28 (dk_at dksX1_yearsOfOwn_0 9 rfl rfl)
theorem dX1_yearsOfOwn_10 : decode cX1_yearsOfOwn 10 = .ok (.aload_n 0, 1) := dk_42 (dk_at dksX1_yearsOfOwn_0 10 rfl rfl)
theorem dX1_yearsOfOwn_11 : decode cX1_yearsOfOwn 11 = .ok (.invokevirtual 144, 3) := dk_182 0 144 (dk_at dksX1_yearsOfOwn_0 11 rfl rfl)
theorem dX1_yearsOfOwn_14 : decode cX1_yearsOfOwn 14 = .ok (.invokevirtual 153, 3) := dk_182 0 153 (dk_at dksX1_yearsOfOwn_0 14 rfl rfl)
theorem dX1_yearsOfOwn_17 : decode cX1_yearsOfOwn 17 = .ok (.iadd, 1) := dk_96 (dk_at dksX1_yearsOfOwn_0 17 rfl rfl)
theorem dX1_yearsOfOwn_18 : decode cX1_yearsOfOwn 18 = .ok (.istore_n 2, 1) := dk_61 (dk_at dksX1_yearsOfOwn_0 18 rfl rfl)
theorem dX1_yearsOfOwn_19 : decode cX1_yearsOfOwn 19 = .ok (.aload_n 0, 1) := dk_42 (dk_at dksX1_yearsOfOwn_0 19 rfl rfl)
theorem dX1_yearsOfOwn_20 : decode cX1_yearsOfOwn 20 = .ok (.invokevirtual 151, 3) := dk_182 0 151 (dk_at dksX1_yearsOfOwn_0 20 rfl rfl)
theorem dX1_yearsOfOwn_23 : decode cX1_yearsOfOwn 23 = .ok (.iinc 3 1, 3) := dk_132 3 1 (dk_at dksX1_yearsOfOwn_1 0 rfl rfl)
theorem dX1_yearsOfOwn_26 : decode cX1_yearsOfOwn 26 = .ok (.goto (-22), 3) := dk_167 255 234 (dk_at dksX1_yearsOfOwn_1 3 rfl rfl)
theorem dX1_yearsOfOwn_29 : decode cX1_yearsOfOwn 29 = .ok (.iload_n 2, 1) := dk_28 (dk_at dksX1_yearsOfOwn_1 6 rfl rfl)
theorem dX1_yearsOfOwn_30 : decode cX1_yearsOfOwn 30 = .ok (.ireturn, 1) := dk_172 (dk_at dksX1_yearsOfOwn_1 7 rfl rfl)
abbrev cX1_joyOfOwn : ByteArray := prog_14_method_17_code
def yX1_joyOfOwn : MethodName := ⟨RX1, "joyOfOwn", "()I"⟩
def dkwX1_joyOfOwn_1 : List UInt8 := [153, 0, 11, 42, 28, 182, 0, 129, 167, 0, 4, 3, 96, 60, 132, 2, 1, 167, 255, 221, 27, 172]
abbrev dktX1_joyOfOwn_1 : List UInt8 := dkwX1_joyOfOwn_1 ++ []
def dkwX1_joyOfOwn_0 : List UInt8 := [3, 60, 3, 61, 28, 42, 180, 0, 71, 162, 0, 33, 27, 42, 180, 0, 35, 28, 50, 193, 0, 133]
abbrev dktX1_joyOfOwn_0 : List UInt8 := dkwX1_joyOfOwn_0 ++ dktX1_joyOfOwn_1
theorem dksX1_joyOfOwn_0 : cX1_joyOfOwn.data.toList.drop 0 = dktX1_joyOfOwn_0 := by decide +kernel
theorem dksX1_joyOfOwn_1 : cX1_joyOfOwn.data.toList.drop 22 = dktX1_joyOfOwn_1 := dk_seg dksX1_joyOfOwn_0 22 rfl rfl
theorem dX1_joyOfOwn_0 : decode cX1_joyOfOwn 0 = .ok (.iconst 0, 1) := dk_3 (dk_at dksX1_joyOfOwn_0 0 rfl rfl)
theorem dX1_joyOfOwn_1 : decode cX1_joyOfOwn 1 = .ok (.istore_n 1, 1) := dk_60 (dk_at dksX1_joyOfOwn_0 1 rfl rfl)
theorem dX1_joyOfOwn_2 : decode cX1_joyOfOwn 2 = .ok (.iconst 0, 1) := dk_3 (dk_at dksX1_joyOfOwn_0 2 rfl rfl)
theorem dX1_joyOfOwn_3 : decode cX1_joyOfOwn 3 = .ok (.istore_n 2, 1) := dk_61 (dk_at dksX1_joyOfOwn_0 3 rfl rfl)
theorem dX1_joyOfOwn_4 : decode cX1_joyOfOwn 4 = .ok (.iload_n 2, 1) := dk_28 (dk_at dksX1_joyOfOwn_0 4 rfl rfl)
theorem dX1_joyOfOwn_5 : decode cX1_joyOfOwn 5 = .ok (.aload_n 0, 1) := dk_42 (dk_at dksX1_joyOfOwn_0 5 rfl rfl)
theorem dX1_joyOfOwn_6 : decode cX1_joyOfOwn 6 = .ok (.getfield 71, 3) := dk_180 0 71 (dk_at dksX1_joyOfOwn_0 6 rfl rfl)
theorem dX1_joyOfOwn_9 : decode cX1_joyOfOwn 9 = .ok (.if_icmp .ge 33, 3) := dk_162 0 33 (dk_at dksX1_joyOfOwn_0 9 rfl rfl)
theorem dX1_joyOfOwn_12 : decode cX1_joyOfOwn 12 = .ok (.iload_n 1, 1) := dk_27 (dk_at dksX1_joyOfOwn_0 12 rfl rfl)
theorem dX1_joyOfOwn_13 : decode cX1_joyOfOwn 13 = .ok (.aload_n 0, 1) := dk_42 (dk_at dksX1_joyOfOwn_0 13 rfl rfl)
theorem dX1_joyOfOwn_14 : decode cX1_joyOfOwn 14 = .ok (.getfield 35, 3) := dk_180 0 35 (dk_at dksX1_joyOfOwn_0 14 rfl rfl)
theorem dX1_joyOfOwn_17 : decode cX1_joyOfOwn 17 = .ok (.iload_n 2, 1) := dk_28 (dk_at dksX1_joyOfOwn_0 17 rfl rfl)
theorem dX1_joyOfOwn_18 : decode cX1_joyOfOwn 18 = .ok (.aaload, 1) := dk_50 (dk_at dksX1_joyOfOwn_0 18 rfl rfl)
theorem dX1_joyOfOwn_19 : decode cX1_joyOfOwn 19 = .ok (.instanceof 133, 3) := dk_193 0 133 (dk_at dksX1_joyOfOwn_0 19 rfl rfl)
theorem dX1_joyOfOwn_22 : decode cX1_joyOfOwn 22 = .ok (.ifCond .eq 11, 3) := dk_153 0 11 (dk_at dksX1_joyOfOwn_1 0 rfl rfl)
theorem dX1_joyOfOwn_25 : decode cX1_joyOfOwn 25 = .ok (.aload_n 0, 1) := dk_42 (dk_at dksX1_joyOfOwn_1 3 rfl rfl)
theorem dX1_joyOfOwn_26 : decode cX1_joyOfOwn 26 = .ok (.iload_n 2, 1) := dk_28 (dk_at dksX1_joyOfOwn_1 4 rfl rfl)
theorem dX1_joyOfOwn_27 : decode cX1_joyOfOwn 27 = .ok (.invokevirtual 129, 3) := dk_182 0 129 (dk_at dksX1_joyOfOwn_1 5 rfl rfl)
theorem dX1_joyOfOwn_30 : decode cX1_joyOfOwn 30 = .ok (.goto 4, 3) := dk_167 0 4 (dk_at dksX1_joyOfOwn_1 8 rfl rfl)
theorem dX1_joyOfOwn_33 : decode cX1_joyOfOwn 33 = .ok (.iconst 0, 1) := dk_3 (dk_at dksX1_joyOfOwn_1 11 rfl rfl)
theorem dX1_joyOfOwn_34 : decode cX1_joyOfOwn 34 = .ok (.iadd, 1) := dk_96 (dk_at dksX1_joyOfOwn_1 12 rfl rfl)
theorem dX1_joyOfOwn_35 : decode cX1_joyOfOwn 35 = .ok (.istore_n 1, 1) := dk_60 (dk_at dksX1_joyOfOwn_1 13 rfl rfl)
theorem dX1_joyOfOwn_36 : decode cX1_joyOfOwn 36 = .ok (.iinc 2 1, 3) := dk_132 2 1 (dk_at dksX1_joyOfOwn_1 14 rfl rfl)
theorem dX1_joyOfOwn_39 : decode cX1_joyOfOwn 39 = .ok (.goto (-35), 3) := dk_167 255 221 (dk_at dksX1_joyOfOwn_1 17 rfl rfl)
theorem dX1_joyOfOwn_42 : decode cX1_joyOfOwn 42 = .ok (.iload_n 1, 1) := dk_27 (dk_at dksX1_joyOfOwn_1 20 rfl rfl)
theorem dX1_joyOfOwn_43 : decode cX1_joyOfOwn 43 = .ok (.ireturn, 1) := dk_172 (dk_at dksX1_joyOfOwn_1 21 rfl rfl)
abbrev cX1_draw : ByteArray := prog_14_method_22_code
def yX1_draw : MethodName := ⟨RX1, "draw", "(I)I"⟩
def dkwX1_draw_1 : List UInt8 := [172]
abbrev dktX1_draw_1 : List UInt8 := dkwX1_draw_1 ++ []
def dkwX1_draw_0 : List UInt8 := [42, 42, 180, 0, 53, 18, 156, 104, 17, 48, 57, 96, 181, 0, 53, 42, 180, 0, 53, 16, 16, 124, 27, 112]
abbrev dktX1_draw_0 : List UInt8 := dkwX1_draw_0 ++ dktX1_draw_1
theorem dksX1_draw_0 : cX1_draw.data.toList.drop 0 = dktX1_draw_0 := by decide +kernel
theorem dksX1_draw_1 : cX1_draw.data.toList.drop 24 = dktX1_draw_1 := dk_seg dksX1_draw_0 24 rfl rfl
theorem dX1_draw_0 : decode cX1_draw 0 = .ok (.aload_n 0, 1) := dk_42 (dk_at dksX1_draw_0 0 rfl rfl)
theorem dX1_draw_1 : decode cX1_draw 1 = .ok (.aload_n 0, 1) := dk_42 (dk_at dksX1_draw_0 1 rfl rfl)
theorem dX1_draw_2 : decode cX1_draw 2 = .ok (.getfield 53, 3) := dk_180 0 53 (dk_at dksX1_draw_0 2 rfl rfl)
theorem dX1_draw_5 : decode cX1_draw 5 = .ok (.ldc 156, 2) := dk_18 156 (dk_at dksX1_draw_0 5 rfl rfl)
theorem dX1_draw_7 : decode cX1_draw 7 = .ok (.imul, 1) := dk_104 (dk_at dksX1_draw_0 7 rfl rfl)
theorem dX1_draw_8 : decode cX1_draw 8 = .ok (.sipush 12345, 3) := dk_17 48 57 (dk_at dksX1_draw_0 8 rfl rfl)
theorem dX1_draw_11 : decode cX1_draw 11 = .ok (.iadd, 1) := dk_96 (dk_at dksX1_draw_0 11 rfl rfl)
theorem dX1_draw_12 : decode cX1_draw 12 = .ok (.putfield 53, 3) := dk_181 0 53 (dk_at dksX1_draw_0 12 rfl rfl)
theorem dX1_draw_15 : decode cX1_draw 15 = .ok (.aload_n 0, 1) := dk_42 (dk_at dksX1_draw_0 15 rfl rfl)
theorem dX1_draw_16 : decode cX1_draw 16 = .ok (.getfield 53, 3) := dk_180 0 53 (dk_at dksX1_draw_0 16 rfl rfl)
theorem dX1_draw_19 : decode cX1_draw 19 = .ok (.bipush 16, 2) := dk_16 16 (dk_at dksX1_draw_0 19 rfl rfl)
theorem dX1_draw_21 : decode cX1_draw 21 = .ok (.iushr, 1) := dk_124 (dk_at dksX1_draw_0 21 rfl rfl)
theorem dX1_draw_22 : decode cX1_draw 22 = .ok (.iload_n 1, 1) := dk_27 (dk_at dksX1_draw_0 22 rfl rfl)
theorem dX1_draw_23 : decode cX1_draw 23 = .ok (.irem, 1) := dk_112 (dk_at dksX1_draw_0 23 rfl rfl)
theorem dX1_draw_24 : decode cX1_draw 24 = .ok (.ireturn, 1) := dk_172 (dk_at dksX1_draw_1 0 rfl rfl)
theorem q77 : (Jvm.Cond.initialized "EverybodyHasTheBook$Valley") ∈ lw_all := lw_g (lw_at lw_m1 2 rfl) rfl
theorem q119 : (Jvm.Cond.instantiable "EverybodyHasTheBook$Valley" (17 : Nat)) ∈ lw_all := lw_g (lw_at lw_m1 44 rfl) rfl
theorem q121 : (Jvm.Cond.instanceMethod ({ cls := "EverybodyHasTheBook$Valley", name := "<init>", desc := "()V" } : Jvm.MethodName)) ∈ lw_all := lw_g (lw_at lw_m1 46 rfl) rfl
theorem q122 : (Jvm.Cond.code ({ cls := "EverybodyHasTheBook$Valley", name := "<init>", desc := "()V" } : Jvm.MethodName) prog_14_method_1_code (1 : Nat) (Option.none : Option Jvm.ClassFile.FieldType)) ∈ lw_all := lw_g (lw_at lw_m1 47 rfl) rfl
theorem q123 : (Jvm.Cond.methodLink "EverybodyHasTheBook$Valley" (3 : Nat) ({ cls := "java/lang/Object", name := "<init>", desc := "()V" } : Jvm.MethodName)) ∈ lw_all := lw_g (lw_at lw_m1 48 rfl) rfl
theorem q124 : (Jvm.Cond.classLink "EverybodyHasTheBook$Valley" (33 : Nat) "EverybodyHasTheBook$Goer") ∈ lw_all := lw_g (lw_at lw_m1 49 rfl) rfl
theorem q126 : (Jvm.Cond.classLink "EverybodyHasTheBook$Valley" (42 : Nat) "[[I") ∈ lw_all := lw_g (lw_at lw_m1 51 rfl) rfl
theorem q128 : (Jvm.Cond.fieldLink "EverybodyHasTheBook$Valley" (9 : Nat) "EverybodyHasTheBook$Valley" "good" "[I") ∈ lw_all := lw_g (lw_at lw_m1 53 rfl) rfl
theorem q132 : (Jvm.Cond.fieldLink "EverybodyHasTheBook$Valley" (15 : Nat) "EverybodyHasTheBook$Valley" "base" "[I") ∈ lw_all := lw_g (lw_at lw_m1 57 rfl) rfl
theorem q134 : (Jvm.Cond.fieldLink "EverybodyHasTheBook$Valley" (18 : Nat) "EverybodyHasTheBook$Valley" "rooms" "[I") ∈ lw_all := lw_g (lw_at lw_m1 59 rfl) rfl
theorem q136 : (Jvm.Cond.fieldLink "EverybodyHasTheBook$Valley" (21 : Nat) "EverybodyHasTheBook$Valley" "price" "[I") ∈ lw_all := lw_g (lw_at lw_m1 61 rfl) rfl
theorem q140 : (Jvm.Cond.fieldLink "EverybodyHasTheBook$Valley" (24 : Nat) "EverybodyHasTheBook$Valley" "said" "[I") ∈ lw_all := lw_g (lw_at lw_m1 65 rfl) rfl
theorem q146 : (Jvm.Cond.fieldLink "EverybodyHasTheBook$Valley" (27 : Nat) "EverybodyHasTheBook$Valley" "letters" "[I") ∈ lw_all := lw_g (lw_at lw_m1 71 rfl) rfl
theorem q150 : (Jvm.Cond.fieldLink "EverybodyHasTheBook$Valley" (30 : Nat) "EverybodyHasTheBook$Valley" "sum" "[I") ∈ lw_all := lw_g (lw_at lw_m1 75 rfl) rfl
theorem q153 : (Jvm.Cond.fieldLink "EverybodyHasTheBook$Valley" (35 : Nat) "EverybodyHasTheBook$Valley" "goer" "[LEverybodyHasTheBook$Goer;") ∈ lw_all := lw_g (lw_at lw_m1 78 rfl) rfl
theorem q155 : (Jvm.Cond.fieldLink "EverybodyHasTheBook$Valley" (39 : Nat) "EverybodyHasTheBook$Valley" "heads" "[I") ∈ lw_all := lw_g (lw_at lw_m1 80 rfl) rfl
theorem q157 : (Jvm.Cond.fieldLink "EverybodyHasTheBook$Valley" (44 : Nat) "EverybodyHasTheBook$Valley" "sleeps" "[[I") ∈ lw_all := lw_g (lw_at lw_m1 82 rfl) rfl
theorem q159 : (Jvm.Cond.fieldLink "EverybodyHasTheBook$Valley" (47 : Nat) "EverybodyHasTheBook$Valley" "guests" "[I") ∈ lw_all := lw_g (lw_at lw_m1 84 rfl) rfl
theorem q161 : (Jvm.Cond.fieldLink "EverybodyHasTheBook$Valley" (50 : Nat) "EverybodyHasTheBook$Valley" "out" "[I") ∈ lw_all := lw_g (lw_at lw_m1 86 rfl) rfl
theorem q165 : (Jvm.Cond.fieldLink "EverybodyHasTheBook$Valley" (68 : Nat) "EverybodyHasTheBook$Valley" "inns" "I") ∈ lw_all := lw_g (lw_at lw_m1 90 rfl) rfl
theorem q168 : (Jvm.Cond.fieldLink "EverybodyHasTheBook$Valley" (71 : Nat) "EverybodyHasTheBook$Valley" "goers" "I") ∈ lw_all := lw_g (lw_at lw_m1 93 rfl) rfl
theorem q172 : (Jvm.Cond.fieldLink "EverybodyHasTheBook$Valley" (74 : Nat) "EverybodyHasTheBook$Valley" "age" "I") ∈ lw_all := lw_g (lw_at lw_m1 97 rfl) rfl
theorem q175 : (Jvm.Cond.fieldLink "EverybodyHasTheBook$Valley" (53 : Nat) "EverybodyHasTheBook$Valley" "seed" "I") ∈ lw_all := lw_g (lw_at lw_m1 100 rfl) rfl
theorem q177 : (Jvm.Cond.fieldLink "EverybodyHasTheBook$Valley" (77 : Nat) "EverybodyHasTheBook$Valley" "gone" "I") ∈ lw_all := lw_g (lw_at lw_m1 102 rfl) rfl
theorem q179 : (Jvm.Cond.laysFinal "EverybodyHasTheBook$Valley" "EverybodyHasTheBook$Valley" "good" "[I") ∈ lw_all := lw_g (lw_at lw_m1 104 rfl) rfl
theorem q180 : (Jvm.Cond.soleField "EverybodyHasTheBook$Valley" "good") ∈ lw_all := lw_g (lw_at lw_m1 105 rfl) rfl
theorem q181 : (Jvm.Cond.laysFinal "EverybodyHasTheBook$Valley" "EverybodyHasTheBook$Valley" "base" "[I") ∈ lw_all := lw_g (lw_at lw_m1 106 rfl) rfl
theorem q182 : (Jvm.Cond.soleField "EverybodyHasTheBook$Valley" "base") ∈ lw_all := lw_g (lw_at lw_m1 107 rfl) rfl
theorem q183 : (Jvm.Cond.laysFinal "EverybodyHasTheBook$Valley" "EverybodyHasTheBook$Valley" "rooms" "[I") ∈ lw_all := lw_g (lw_at lw_m1 108 rfl) rfl
theorem q184 : (Jvm.Cond.soleField "EverybodyHasTheBook$Valley" "rooms") ∈ lw_all := lw_g (lw_at lw_m1 109 rfl) rfl
theorem q185 : (Jvm.Cond.laysFinal "EverybodyHasTheBook$Valley" "EverybodyHasTheBook$Valley" "price" "[I") ∈ lw_all := lw_g (lw_at lw_m1 110 rfl) rfl
theorem q186 : (Jvm.Cond.soleField "EverybodyHasTheBook$Valley" "price") ∈ lw_all := lw_g (lw_at lw_m1 111 rfl) rfl
theorem q187 : (Jvm.Cond.laysFinal "EverybodyHasTheBook$Valley" "EverybodyHasTheBook$Valley" "said" "[I") ∈ lw_all := lw_g (lw_at lw_m1 112 rfl) rfl
theorem q188 : (Jvm.Cond.soleField "EverybodyHasTheBook$Valley" "said") ∈ lw_all := lw_g (lw_at lw_m1 113 rfl) rfl
theorem q189 : (Jvm.Cond.laysFinal "EverybodyHasTheBook$Valley" "EverybodyHasTheBook$Valley" "letters" "[I") ∈ lw_all := lw_g (lw_at lw_m1 114 rfl) rfl
theorem q190 : (Jvm.Cond.soleField "EverybodyHasTheBook$Valley" "letters") ∈ lw_all := lw_g (lw_at lw_m1 115 rfl) rfl
theorem q191 : (Jvm.Cond.laysFinal "EverybodyHasTheBook$Valley" "EverybodyHasTheBook$Valley" "sum" "[I") ∈ lw_all := lw_g (lw_at lw_m1 116 rfl) rfl
theorem q192 : (Jvm.Cond.soleField "EverybodyHasTheBook$Valley" "sum") ∈ lw_all := lw_g (lw_at lw_m1 117 rfl) rfl
theorem q193 : (Jvm.Cond.laysFinal "EverybodyHasTheBook$Valley" "EverybodyHasTheBook$Valley" "goer" "[LEverybodyHasTheBook$Goer;") ∈ lw_all := lw_g (lw_at lw_m1 118 rfl) rfl
theorem q194 : (Jvm.Cond.soleField "EverybodyHasTheBook$Valley" "goer") ∈ lw_all := lw_g (lw_at lw_m1 119 rfl) rfl
theorem q195 : (Jvm.Cond.laysFinal "EverybodyHasTheBook$Valley" "EverybodyHasTheBook$Valley" "heads" "[I") ∈ lw_all := lw_g (lw_at lw_m1 120 rfl) rfl
theorem q196 : (Jvm.Cond.soleField "EverybodyHasTheBook$Valley" "heads") ∈ lw_all := lw_g (lw_at lw_m1 121 rfl) rfl
theorem q197 : (Jvm.Cond.laysFinal "EverybodyHasTheBook$Valley" "EverybodyHasTheBook$Valley" "sleeps" "[[I") ∈ lw_all := lw_g (lw_at lw_m1 122 rfl) rfl
theorem q198 : (Jvm.Cond.soleField "EverybodyHasTheBook$Valley" "sleeps") ∈ lw_all := lw_g (lw_at lw_m1 123 rfl) rfl
theorem q199 : (Jvm.Cond.laysFinal "EverybodyHasTheBook$Valley" "EverybodyHasTheBook$Valley" "guests" "[I") ∈ lw_all := lw_g (lw_at lw_m1 124 rfl) rfl
theorem q200 : (Jvm.Cond.soleField "EverybodyHasTheBook$Valley" "guests") ∈ lw_all := lw_g (lw_at lw_m1 125 rfl) rfl
theorem q201 : (Jvm.Cond.laysFinal "EverybodyHasTheBook$Valley" "EverybodyHasTheBook$Valley" "out" "[I") ∈ lw_all := lw_g (lw_at lw_m1 126 rfl) rfl
theorem q202 : (Jvm.Cond.soleField "EverybodyHasTheBook$Valley" "out") ∈ lw_all := lw_g (lw_at lw_m1 127 rfl) rfl
theorem q203 : (Jvm.Cond.lays "EverybodyHasTheBook$Valley" "EverybodyHasTheBook$Valley" "inns" "I") ∈ lw_all := lw_g (lw_at lw_m1 128 rfl) rfl
theorem q204 : (Jvm.Cond.soleField "EverybodyHasTheBook$Valley" "inns") ∈ lw_all := lw_g (lw_at lw_m1 129 rfl) rfl
theorem q205 : (Jvm.Cond.lays "EverybodyHasTheBook$Valley" "EverybodyHasTheBook$Valley" "goers" "I") ∈ lw_all := lw_g (lw_at lw_m1 130 rfl) rfl
theorem q206 : (Jvm.Cond.soleField "EverybodyHasTheBook$Valley" "goers") ∈ lw_all := lw_g (lw_at lw_m1 131 rfl) rfl
theorem q207 : (Jvm.Cond.lays "EverybodyHasTheBook$Valley" "EverybodyHasTheBook$Valley" "age" "I") ∈ lw_all := lw_g (lw_at lw_m1 132 rfl) rfl
theorem q208 : (Jvm.Cond.soleField "EverybodyHasTheBook$Valley" "age") ∈ lw_all := lw_g (lw_at lw_m1 133 rfl) rfl
theorem q209 : (Jvm.Cond.lays "EverybodyHasTheBook$Valley" "EverybodyHasTheBook$Valley" "seed" "I") ∈ lw_all := lw_g (lw_at lw_m1 134 rfl) rfl
theorem q210 : (Jvm.Cond.soleField "EverybodyHasTheBook$Valley" "seed") ∈ lw_all := lw_g (lw_at lw_m1 135 rfl) rfl
theorem q211 : (Jvm.Cond.lays "EverybodyHasTheBook$Valley" "EverybodyHasTheBook$Valley" "gone" "I") ∈ lw_all := lw_g (lw_at lw_m1 136 rfl) rfl
theorem q212 : (Jvm.Cond.soleField "EverybodyHasTheBook$Valley" "gone") ∈ lw_all := lw_g (lw_at lw_m1 137 rfl) rfl
theorem q213 : (Jvm.Cond.superclass "EverybodyHasTheBook$Valley" "java/lang/Object") ∈ lw_all := lw_g (lw_at lw_m1 138 rfl) rfl
theorem q600 : (Jvm.Cond.instanceMethod ({ cls := "EverybodyHasTheBook$Valley", name := "adds", desc := "(III)V" } : Jvm.MethodName)) ∈ lw_all := lw_g (lw_at lw_m3 45 rfl) rfl
theorem q601 : (Jvm.Cond.selects "EverybodyHasTheBook$Valley" ({ cls := "EverybodyHasTheBook$Valley", name := "adds", desc := "(III)V" } : Jvm.MethodName) ({ cls := "EverybodyHasTheBook$Valley", name := "adds", desc := "(III)V" } : Jvm.MethodName)) ∈ lw_all := lw_g (lw_at lw_m3 46 rfl) rfl
theorem q602 : (Jvm.Cond.code ({ cls := "EverybodyHasTheBook$Valley", name := "adds", desc := "(III)V" } : Jvm.MethodName) prog_14_method_4_code (4 : Nat) (Option.none : Option Jvm.ClassFile.FieldType)) ∈ lw_all := lw_g (lw_at lw_m3 47 rfl) rfl
theorem q665 : (Jvm.Cond.instanceMethod ({ cls := "EverybodyHasTheBook$Valley", name := "adds", desc := "(LEverybodyHasTheBook$Goer;I)V" } : Jvm.MethodName)) ∈ lw_all := lw_g (lw_at lw_m3 110 rfl) rfl
theorem q666 : (Jvm.Cond.selects "EverybodyHasTheBook$Valley" ({ cls := "EverybodyHasTheBook$Valley", name := "adds", desc := "(LEverybodyHasTheBook$Goer;I)V" } : Jvm.MethodName) ({ cls := "EverybodyHasTheBook$Valley", name := "adds", desc := "(LEverybodyHasTheBook$Goer;I)V" } : Jvm.MethodName)) ∈ lw_all := lw_g (lw_at lw_m3 111 rfl) rfl
theorem q667 : (Jvm.Cond.code ({ cls := "EverybodyHasTheBook$Valley", name := "adds", desc := "(LEverybodyHasTheBook$Goer;I)V" } : Jvm.MethodName) prog_14_method_5_code (3 : Nat) (Option.none : Option Jvm.ClassFile.FieldType)) ∈ lw_all := lw_g (lw_at lw_m3 112 rfl) rfl
theorem q673 : (Jvm.Cond.instanceMethod ({ cls := "EverybodyHasTheBook$Valley", name := "isInn", desc := "(I)Z" } : Jvm.MethodName)) ∈ lw_all := lw_g (lw_at lw_m3 118 rfl) rfl
theorem q674 : (Jvm.Cond.selects "EverybodyHasTheBook$Valley" ({ cls := "EverybodyHasTheBook$Valley", name := "isInn", desc := "(I)Z" } : Jvm.MethodName) ({ cls := "EverybodyHasTheBook$Valley", name := "isInn", desc := "(I)Z" } : Jvm.MethodName)) ∈ lw_all := lw_g (lw_at lw_m3 119 rfl) rfl
theorem q675 : (Jvm.Cond.code ({ cls := "EverybodyHasTheBook$Valley", name := "isInn", desc := "(I)Z" } : Jvm.MethodName) prog_14_method_6_code (2 : Nat) (Option.some Jvm.ClassFile.FieldType.boolean)) ∈ lw_all := lw_g (lw_at lw_m3 120 rfl) rfl
theorem q676 : (Jvm.Cond.methodLinkNest "EverybodyHasTheBook$Valley" (80 : Nat) ({ cls := "EverybodyHasTheBook", name := "isIn", desc := "(III)Z" } : Jvm.MethodName) "EverybodyHasTheBook") ∈ lw_tbl := lw_at lw_m3 121 rfl
theorem q686 : (Jvm.Cond.instanceMethod ({ cls := "EverybodyHasTheBook$Valley", name := "writes", desc := "(I)V" } : Jvm.MethodName)) ∈ lw_all := lw_g (lw_at lw_m3 131 rfl) rfl
theorem q687 : (Jvm.Cond.selects "EverybodyHasTheBook$Valley" ({ cls := "EverybodyHasTheBook$Valley", name := "writes", desc := "(I)V" } : Jvm.MethodName) ({ cls := "EverybodyHasTheBook$Valley", name := "writes", desc := "(I)V" } : Jvm.MethodName)) ∈ lw_all := lw_g (lw_at lw_m3 132 rfl) rfl
theorem q688 : (Jvm.Cond.code ({ cls := "EverybodyHasTheBook$Valley", name := "writes", desc := "(I)V" } : Jvm.MethodName) prog_14_method_7_code (3 : Nat) (Option.none : Option Jvm.ClassFile.FieldType)) ∈ lw_all := lw_g (lw_at lw_m3 133 rfl) rfl
theorem q689 : (Jvm.Cond.methodLinkNest "EverybodyHasTheBook$Valley" (84 : Nat) ({ cls := "EverybodyHasTheBook", name := "has", desc := "(II)Z" } : Jvm.MethodName) "EverybodyHasTheBook") ∈ lw_tbl := lw_at lw_m3 134 rfl
theorem q701 : (Jvm.Cond.instanceMethod ({ cls := "EverybodyHasTheBook$Valley", name := "gets", desc := "(II)V" } : Jvm.MethodName)) ∈ lw_all := lw_g (lw_at lw_m3 146 rfl) rfl
theorem q702 : (Jvm.Cond.selects "EverybodyHasTheBook$Valley" ({ cls := "EverybodyHasTheBook$Valley", name := "gets", desc := "(II)V" } : Jvm.MethodName) ({ cls := "EverybodyHasTheBook$Valley", name := "gets", desc := "(II)V" } : Jvm.MethodName)) ∈ lw_all := lw_g (lw_at lw_m3 147 rfl) rfl
theorem q703 : (Jvm.Cond.code ({ cls := "EverybodyHasTheBook$Valley", name := "gets", desc := "(II)V" } : Jvm.MethodName) prog_14_method_8_code (3 : Nat) (Option.none : Option Jvm.ClassFile.FieldType)) ∈ lw_all := lw_g (lw_at lw_m3 148 rfl) rfl
theorem q728 : (Jvm.Cond.instanceMethod ({ cls := "EverybodyHasTheBook$Valley", name := "copied", desc := "()LEverybodyHasTheBook$Valley;" } : Jvm.MethodName)) ∈ lw_all := lw_g (lw_at lw_m3 173 rfl) rfl
theorem q729 : (Jvm.Cond.selects "EverybodyHasTheBook$Valley" ({ cls := "EverybodyHasTheBook$Valley", name := "copied", desc := "()LEverybodyHasTheBook$Valley;" } : Jvm.MethodName) ({ cls := "EverybodyHasTheBook$Valley", name := "copied", desc := "()LEverybodyHasTheBook$Valley;" } : Jvm.MethodName)) ∈ lw_all := lw_g (lw_at lw_m3 174 rfl) rfl
theorem q730 : (Jvm.Cond.code ({ cls := "EverybodyHasTheBook$Valley", name := "copied", desc := "()LEverybodyHasTheBook$Valley;" } : Jvm.MethodName) prog_14_method_2_code (1 : Nat) (Option.some (Jvm.ClassFile.FieldType.object "EverybodyHasTheBook$Valley"))) ∈ lw_all := lw_g (lw_at lw_m3 175 rfl) rfl
theorem q731 : (Jvm.Cond.classLink "EverybodyHasTheBook$Valley" (10 : Nat) "EverybodyHasTheBook$Valley") ∈ lw_all := lw_g (lw_at lw_m3 176 rfl) rfl
theorem q732 : (Jvm.Cond.methodLink "EverybodyHasTheBook$Valley" (57 : Nat) ({ cls := "EverybodyHasTheBook$Valley", name := "<init>", desc := "()V" } : Jvm.MethodName)) ∈ lw_all := lw_g (lw_at lw_m3 177 rfl) rfl
theorem q733 : (Jvm.Cond.methodLink "EverybodyHasTheBook$Valley" (58 : Nat) ({ cls := "EverybodyHasTheBook$Valley", name := "becomes", desc := "(LEverybodyHasTheBook$Valley;)LEverybodyHasTheBook$Valley;" } : Jvm.MethodName)) ∈ lw_all := lw_g (lw_at lw_m3 178 rfl) rfl
theorem q734 : (Jvm.Cond.instanceMethod ({ cls := "EverybodyHasTheBook$Valley", name := "becomes", desc := "(LEverybodyHasTheBook$Valley;)LEverybodyHasTheBook$Valley;" } : Jvm.MethodName)) ∈ lw_all := lw_g (lw_at lw_m3 179 rfl) rfl
theorem q735 : (Jvm.Cond.selects "EverybodyHasTheBook$Valley" ({ cls := "EverybodyHasTheBook$Valley", name := "becomes", desc := "(LEverybodyHasTheBook$Valley;)LEverybodyHasTheBook$Valley;" } : Jvm.MethodName) ({ cls := "EverybodyHasTheBook$Valley", name := "becomes", desc := "(LEverybodyHasTheBook$Valley;)LEverybodyHasTheBook$Valley;" } : Jvm.MethodName)) ∈ lw_all := lw_g (lw_at lw_m3 180 rfl) rfl
theorem q736 : (Jvm.Cond.code ({ cls := "EverybodyHasTheBook$Valley", name := "becomes", desc := "(LEverybodyHasTheBook$Valley;)LEverybodyHasTheBook$Valley;" } : Jvm.MethodName) prog_14_method_3_code (2 : Nat) (Option.some (Jvm.ClassFile.FieldType.object "EverybodyHasTheBook$Valley"))) ∈ lw_all := lw_g (lw_at lw_m3 181 rfl) rfl
theorem q737 : (Jvm.Cond.methodLink "EverybodyHasTheBook$Valley" (62 : Nat) ({ cls := "java/lang/System", name := "arraycopy", desc := "(Ljava/lang/Object;ILjava/lang/Object;II)V" } : Jvm.MethodName)) ∈ lw_all := lw_g (lw_at lw_m3 182 rfl) rfl
theorem q1136 : (Jvm.Cond.instanceMethod ({ cls := "EverybodyHasTheBook$Valley", name := "night", desc := "()LEverybodyHasTheBook$Valley;" } : Jvm.MethodName)) ∈ lw_all := lw_g (lw_at lw_m5 101 rfl) rfl
theorem q1137 : (Jvm.Cond.selects "EverybodyHasTheBook$Valley" ({ cls := "EverybodyHasTheBook$Valley", name := "night", desc := "()LEverybodyHasTheBook$Valley;" } : Jvm.MethodName) ({ cls := "EverybodyHasTheBook$Valley", name := "night", desc := "()LEverybodyHasTheBook$Valley;" } : Jvm.MethodName)) ∈ lw_all := lw_g (lw_at lw_m5 102 rfl) rfl
theorem q1138 : (Jvm.Cond.code ({ cls := "EverybodyHasTheBook$Valley", name := "night", desc := "()LEverybodyHasTheBook$Valley;" } : Jvm.MethodName) prog_14_method_13_code (3 : Nat) (Option.some (Jvm.ClassFile.FieldType.object "EverybodyHasTheBook$Valley"))) ∈ lw_all := lw_g (lw_at lw_m5 103 rfl) rfl
theorem q1139 : (Jvm.Cond.methodLink "EverybodyHasTheBook$Valley" (112 : Nat) ({ cls := "EverybodyHasTheBook$Valley", name := "empties", desc := "()V" } : Jvm.MethodName)) ∈ lw_all := lw_g (lw_at lw_m5 104 rfl) rfl
theorem q1140 : (Jvm.Cond.privateMethod ({ cls := "EverybodyHasTheBook$Valley", name := "empties", desc := "()V" } : Jvm.MethodName)) ∈ lw_tbl := lw_at lw_m5 105 rfl
theorem q1141 : (Jvm.Cond.instanceMethod ({ cls := "EverybodyHasTheBook$Valley", name := "empties", desc := "()V" } : Jvm.MethodName)) ∈ lw_all := lw_g (lw_at lw_m5 106 rfl) rfl
theorem q1142 : (Jvm.Cond.code ({ cls := "EverybodyHasTheBook$Valley", name := "empties", desc := "()V" } : Jvm.MethodName) prog_14_method_12_code (2 : Nat) (Option.none : Option Jvm.ClassFile.FieldType)) ∈ lw_all := lw_g (lw_at lw_m5 107 rfl) rfl
theorem q1143 : (Jvm.Cond.methodLink "EverybodyHasTheBook$Valley" (106 : Nat) ({ cls := "java/util/Arrays", name := "fill", desc := "([II)V" } : Jvm.MethodName)) ∈ lw_all := lw_g (lw_at lw_m5 108 rfl) rfl
theorem q1146 : (Jvm.Cond.methodLink "EverybodyHasTheBook$Valley" (115 : Nat) ({ cls := "EverybodyHasTheBook$Goer", name := "isLate", desc := "()Z" } : Jvm.MethodName)) ∈ lw_all := lw_g (lw_at lw_m5 111 rfl) rfl
theorem q1158 : (Jvm.Cond.methodLink "EverybodyHasTheBook$Valley" (119 : Nat) ({ cls := "EverybodyHasTheBook$Valley", name := "comes", desc := "(II)V" } : Jvm.MethodName)) ∈ lw_all := lw_g (lw_at lw_m5 123 rfl) rfl
theorem q1159 : (Jvm.Cond.privateMethod ({ cls := "EverybodyHasTheBook$Valley", name := "comes", desc := "(II)V" } : Jvm.MethodName)) ∈ lw_tbl := lw_at lw_m5 124 rfl
theorem q1160 : (Jvm.Cond.instanceMethod ({ cls := "EverybodyHasTheBook$Valley", name := "comes", desc := "(II)V" } : Jvm.MethodName)) ∈ lw_all := lw_g (lw_at lw_m5 125 rfl) rfl
theorem q1161 : (Jvm.Cond.code ({ cls := "EverybodyHasTheBook$Valley", name := "comes", desc := "(II)V" } : Jvm.MethodName) prog_14_method_11_code (6 : Nat) (Option.none : Option Jvm.ClassFile.FieldType)) ∈ lw_all := lw_g (lw_at lw_m5 126 rfl) rfl
theorem q1162 : (Jvm.Cond.methodLink "EverybodyHasTheBook$Valley" (92 : Nat) ({ cls := "EverybodyHasTheBook$Valley", name := "open", desc := "()I" } : Jvm.MethodName)) ∈ lw_all := lw_g (lw_at lw_m5 127 rfl) rfl
theorem q1163 : (Jvm.Cond.privateMethod ({ cls := "EverybodyHasTheBook$Valley", name := "open", desc := "()I" } : Jvm.MethodName)) ∈ lw_tbl := lw_at lw_m5 128 rfl
theorem q1164 : (Jvm.Cond.instanceMethod ({ cls := "EverybodyHasTheBook$Valley", name := "open", desc := "()I" } : Jvm.MethodName)) ∈ lw_all := lw_g (lw_at lw_m5 129 rfl) rfl
theorem q1165 : (Jvm.Cond.code ({ cls := "EverybodyHasTheBook$Valley", name := "open", desc := "()I" } : Jvm.MethodName) prog_14_method_10_code (3 : Nat) (Option.some Jvm.ClassFile.FieldType.int)) ∈ lw_all := lw_g (lw_at lw_m5 130 rfl) rfl
theorem q1166 : (Jvm.Cond.methodLink "EverybodyHasTheBook$Valley" (88 : Nat) ({ cls := "EverybodyHasTheBook$Valley", name := "isFull", desc := "(I)Z" } : Jvm.MethodName)) ∈ lw_all := lw_g (lw_at lw_m5 131 rfl) rfl
theorem q1167 : (Jvm.Cond.instanceMethod ({ cls := "EverybodyHasTheBook$Valley", name := "isFull", desc := "(I)Z" } : Jvm.MethodName)) ∈ lw_all := lw_g (lw_at lw_m5 132 rfl) rfl
theorem q1168 : (Jvm.Cond.selects "EverybodyHasTheBook$Valley" ({ cls := "EverybodyHasTheBook$Valley", name := "isFull", desc := "(I)Z" } : Jvm.MethodName) ({ cls := "EverybodyHasTheBook$Valley", name := "isFull", desc := "(I)Z" } : Jvm.MethodName)) ∈ lw_all := lw_g (lw_at lw_m5 133 rfl) rfl
theorem q1169 : (Jvm.Cond.code ({ cls := "EverybodyHasTheBook$Valley", name := "isFull", desc := "(I)Z" } : Jvm.MethodName) prog_14_method_9_code (2 : Nat) (Option.some Jvm.ClassFile.FieldType.boolean)) ∈ lw_all := lw_g (lw_at lw_m5 134 rfl) rfl
theorem q1170 : (Jvm.Cond.methodLink "EverybodyHasTheBook$Valley" (100 : Nat) ({ cls := "java/lang/Math", name := "min", desc := "(II)I" } : Jvm.MethodName)) ∈ lw_all := lw_g (lw_at lw_m5 135 rfl) rfl
theorem q1189 : (Jvm.Cond.instanceMethod ({ cls := "EverybodyHasTheBook$Valley", name := "joy", desc := "(I)I" } : Jvm.MethodName)) ∈ lw_all := lw_g (lw_at lw_m5 154 rfl) rfl
theorem q1190 : (Jvm.Cond.selects "EverybodyHasTheBook$Valley" ({ cls := "EverybodyHasTheBook$Valley", name := "joy", desc := "(I)I" } : Jvm.MethodName) ({ cls := "EverybodyHasTheBook$Valley", name := "joy", desc := "(I)I" } : Jvm.MethodName)) ∈ lw_all := lw_g (lw_at lw_m5 155 rfl) rfl
theorem q1191 : (Jvm.Cond.code ({ cls := "EverybodyHasTheBook$Valley", name := "joy", desc := "(I)I" } : Jvm.MethodName) prog_14_method_16_code (4 : Nat) (Option.some Jvm.ClassFile.FieldType.int)) ∈ lw_all := lw_g (lw_at lw_m5 156 rfl) rfl
theorem q1192 : (Jvm.Cond.methodLink "EverybodyHasTheBook$Valley" (129 : Nat) ({ cls := "EverybodyHasTheBook$Valley", name := "joyOf", desc := "(I)I" } : Jvm.MethodName)) ∈ lw_all := lw_g (lw_at lw_m5 157 rfl) rfl
theorem q1193 : (Jvm.Cond.instanceMethod ({ cls := "EverybodyHasTheBook$Valley", name := "joyOf", desc := "(I)I" } : Jvm.MethodName)) ∈ lw_all := lw_g (lw_at lw_m5 158 rfl) rfl
theorem q1194 : (Jvm.Cond.selects "EverybodyHasTheBook$Valley" ({ cls := "EverybodyHasTheBook$Valley", name := "joyOf", desc := "(I)I" } : Jvm.MethodName) ({ cls := "EverybodyHasTheBook$Valley", name := "joyOf", desc := "(I)I" } : Jvm.MethodName)) ∈ lw_all := lw_g (lw_at lw_m5 159 rfl) rfl
theorem q1195 : (Jvm.Cond.code ({ cls := "EverybodyHasTheBook$Valley", name := "joyOf", desc := "(I)I" } : Jvm.MethodName) prog_14_method_15_code (4 : Nat) (Option.some Jvm.ClassFile.FieldType.int)) ∈ lw_all := lw_g (lw_at lw_m5 160 rfl) rfl
theorem q1254 : (Jvm.Cond.instanceMethod ({ cls := "EverybodyHasTheBook$Valley", name := "night", desc := "(II)LEverybodyHasTheBook$Valley;" } : Jvm.MethodName)) ∈ lw_all := lw_g (lw_at lw_m5 219 rfl) rfl
theorem q1255 : (Jvm.Cond.selects "EverybodyHasTheBook$Valley" ({ cls := "EverybodyHasTheBook$Valley", name := "night", desc := "(II)LEverybodyHasTheBook$Valley;" } : Jvm.MethodName) ({ cls := "EverybodyHasTheBook$Valley", name := "night", desc := "(II)LEverybodyHasTheBook$Valley;" } : Jvm.MethodName)) ∈ lw_all := lw_g (lw_at lw_m5 220 rfl) rfl
theorem q1256 : (Jvm.Cond.code ({ cls := "EverybodyHasTheBook$Valley", name := "night", desc := "(II)LEverybodyHasTheBook$Valley;" } : Jvm.MethodName) prog_14_method_14_code (6 : Nat) (Option.some (Jvm.ClassFile.FieldType.object "EverybodyHasTheBook$Valley"))) ∈ lw_all := lw_g (lw_at lw_m5 221 rfl) rfl
theorem q1257 : (Jvm.Cond.classLink "EverybodyHasTheBook$Valley" (123 : Nat) "EverybodyHasTheBook$Booked") ∈ lw_all := lw_g (lw_at lw_m5 222 rfl) rfl
theorem q1258 : (Jvm.Cond.methodLink "EverybodyHasTheBook$Valley" (125 : Nat) ({ cls := "EverybodyHasTheBook$Valley", name := "writes", desc := "(I)V" } : Jvm.MethodName)) ∈ lw_all := lw_g (lw_at lw_m5 223 rfl) rfl
theorem q1275 : (Jvm.Cond.instanceMethod ({ cls := "EverybodyHasTheBook$Valley", name := "years", desc := "(II)I" } : Jvm.MethodName)) ∈ lw_all := lw_g (lw_at lw_m6 0 rfl) rfl
theorem q1276 : (Jvm.Cond.selects "EverybodyHasTheBook$Valley" ({ cls := "EverybodyHasTheBook$Valley", name := "years", desc := "(II)I" } : Jvm.MethodName) ({ cls := "EverybodyHasTheBook$Valley", name := "years", desc := "(II)I" } : Jvm.MethodName)) ∈ lw_all := lw_g (lw_at lw_m6 1 rfl) rfl
theorem q1277 : (Jvm.Cond.code ({ cls := "EverybodyHasTheBook$Valley", name := "years", desc := "(II)I" } : Jvm.MethodName) prog_14_method_20_code (5 : Nat) (Option.some Jvm.ClassFile.FieldType.int)) ∈ lw_all := lw_g (lw_at lw_m6 2 rfl) rfl
theorem q1278 : (Jvm.Cond.methodLink "EverybodyHasTheBook$Valley" (144 : Nat) ({ cls := "EverybodyHasTheBook$Valley", name := "night", desc := "()LEverybodyHasTheBook$Valley;" } : Jvm.MethodName)) ∈ lw_all := lw_g (lw_at lw_m6 3 rfl) rfl
theorem q1279 : (Jvm.Cond.methodLink "EverybodyHasTheBook$Valley" (148 : Nat) ({ cls := "EverybodyHasTheBook$Valley", name := "joy", desc := "(I)I" } : Jvm.MethodName)) ∈ lw_all := lw_g (lw_at lw_m6 4 rfl) rfl
theorem q1280 : (Jvm.Cond.methodLink "EverybodyHasTheBook$Valley" (151 : Nat) ({ cls := "EverybodyHasTheBook$Valley", name := "ages", desc := "()V" } : Jvm.MethodName)) ∈ lw_all := lw_g (lw_at lw_m6 5 rfl) rfl
theorem q1281 : (Jvm.Cond.instanceMethod ({ cls := "EverybodyHasTheBook$Valley", name := "ages", desc := "()V" } : Jvm.MethodName)) ∈ lw_all := lw_g (lw_at lw_m6 6 rfl) rfl
theorem q1282 : (Jvm.Cond.selects "EverybodyHasTheBook$Valley" ({ cls := "EverybodyHasTheBook$Valley", name := "ages", desc := "()V" } : Jvm.MethodName) ({ cls := "EverybodyHasTheBook$Valley", name := "ages", desc := "()V" } : Jvm.MethodName)) ∈ lw_all := lw_g (lw_at lw_m6 7 rfl) rfl
theorem q1283 : (Jvm.Cond.code ({ cls := "EverybodyHasTheBook$Valley", name := "ages", desc := "()V" } : Jvm.MethodName) prog_14_method_19_code (2 : Nat) (Option.none : Option Jvm.ClassFile.FieldType)) ∈ lw_all := lw_g (lw_at lw_m6 8 rfl) rfl
theorem q1284 : (Jvm.Cond.methodLink "EverybodyHasTheBook$Valley" (141 : Nat) ({ cls := "EverybodyHasTheBook$Valley", name := "ages", desc := "(I)V" } : Jvm.MethodName)) ∈ lw_all := lw_g (lw_at lw_m6 9 rfl) rfl
theorem q1285 : (Jvm.Cond.privateMethod ({ cls := "EverybodyHasTheBook$Valley", name := "ages", desc := "(I)V" } : Jvm.MethodName)) ∈ lw_tbl := lw_at lw_m6 10 rfl
theorem q1286 : (Jvm.Cond.instanceMethod ({ cls := "EverybodyHasTheBook$Valley", name := "ages", desc := "(I)V" } : Jvm.MethodName)) ∈ lw_all := lw_g (lw_at lw_m6 11 rfl) rfl
theorem q1287 : (Jvm.Cond.code ({ cls := "EverybodyHasTheBook$Valley", name := "ages", desc := "(I)V" } : Jvm.MethodName) prog_14_method_18_code (2 : Nat) (Option.none : Option Jvm.ClassFile.FieldType)) ∈ lw_all := lw_g (lw_at lw_m6 12 rfl) rfl
theorem q1288 : (Jvm.Cond.methodLink "EverybodyHasTheBook$Valley" (135 : Nat) ({ cls := "java/lang/Math", name := "max", desc := "(II)I" } : Jvm.MethodName)) ∈ lw_all := lw_g (lw_at lw_m6 13 rfl) rfl
theorem q1289 : (Jvm.Cond.methodLink "EverybodyHasTheBook$Valley" (138 : Nat) ({ cls := "EverybodyHasTheBook$Valley", name := "gets", desc := "(II)V" } : Jvm.MethodName)) ∈ lw_all := lw_g (lw_at lw_m6 14 rfl) rfl
theorem q1365 : (Jvm.Cond.instanceMethod ({ cls := "EverybodyHasTheBook$Valley", name := "yearsOfOwn", desc := "(I)I" } : Jvm.MethodName)) ∈ lw_all := lw_g (lw_at lw_m6 90 rfl) rfl
theorem q1366 : (Jvm.Cond.selects "EverybodyHasTheBook$Valley" ({ cls := "EverybodyHasTheBook$Valley", name := "yearsOfOwn", desc := "(I)I" } : Jvm.MethodName) ({ cls := "EverybodyHasTheBook$Valley", name := "yearsOfOwn", desc := "(I)I" } : Jvm.MethodName)) ∈ lw_all := lw_g (lw_at lw_m6 91 rfl) rfl
theorem q1367 : (Jvm.Cond.code ({ cls := "EverybodyHasTheBook$Valley", name := "yearsOfOwn", desc := "(I)I" } : Jvm.MethodName) prog_14_method_21_code (4 : Nat) (Option.some Jvm.ClassFile.FieldType.int)) ∈ lw_all := lw_g (lw_at lw_m6 92 rfl) rfl
theorem q1368 : (Jvm.Cond.methodLink "EverybodyHasTheBook$Valley" (153 : Nat) ({ cls := "EverybodyHasTheBook$Valley", name := "joyOfOwn", desc := "()I" } : Jvm.MethodName)) ∈ lw_all := lw_g (lw_at lw_m6 93 rfl) rfl
theorem q1369 : (Jvm.Cond.instanceMethod ({ cls := "EverybodyHasTheBook$Valley", name := "joyOfOwn", desc := "()I" } : Jvm.MethodName)) ∈ lw_all := lw_g (lw_at lw_m6 94 rfl) rfl
theorem q1370 : (Jvm.Cond.selects "EverybodyHasTheBook$Valley" ({ cls := "EverybodyHasTheBook$Valley", name := "joyOfOwn", desc := "()I" } : Jvm.MethodName) ({ cls := "EverybodyHasTheBook$Valley", name := "joyOfOwn", desc := "()I" } : Jvm.MethodName)) ∈ lw_all := lw_g (lw_at lw_m6 95 rfl) rfl
theorem q1371 : (Jvm.Cond.code ({ cls := "EverybodyHasTheBook$Valley", name := "joyOfOwn", desc := "()I" } : Jvm.MethodName) prog_14_method_17_code (3 : Nat) (Option.some Jvm.ClassFile.FieldType.int)) ∈ lw_all := lw_g (lw_at lw_m6 96 rfl) rfl
theorem q1372 : (Jvm.Cond.classLink "EverybodyHasTheBook$Valley" (133 : Nat) "EverybodyHasTheBook$Own") ∈ lw_all := lw_g (lw_at lw_m6 97 rfl) rfl
theorem q1414 : (Jvm.Cond.instanceMethod ({ cls := "EverybodyHasTheBook$Valley", name := "draw", desc := "(I)I" } : Jvm.MethodName)) ∈ lw_all := lw_g (lw_at lw_m6 139 rfl) rfl
theorem q1415 : (Jvm.Cond.selects "EverybodyHasTheBook$Valley" ({ cls := "EverybodyHasTheBook$Valley", name := "draw", desc := "(I)I" } : Jvm.MethodName) ({ cls := "EverybodyHasTheBook$Valley", name := "draw", desc := "(I)I" } : Jvm.MethodName)) ∈ lw_all := lw_g (lw_at lw_m6 140 rfl) rfl
theorem q1416 : (Jvm.Cond.code ({ cls := "EverybodyHasTheBook$Valley", name := "draw", desc := "(I)I" } : Jvm.MethodName) prog_14_method_22_code (2 : Nat) (Option.some Jvm.ClassFile.FieldType.int)) ∈ lw_all := lw_g (lw_at lw_m6 141 rfl) rfl
theorem q1417 : (Jvm.Cond.constant "EverybodyHasTheBook$Valley" (156 : Nat) (1103515245 : Int32)) ∈ lw_all := lw_g (lw_at lw_m6 142 rfl) rfl
theorem in_X1 : ∀ w ∈ wsX10, w ∈ lw_all := lw_in wsX10 [179, 181, 183, 185, 187, 189, 191, 193, 195, 197, 199, 201, 203, 205, 207, 209, 211] (by decide +kernel) (by decide +kernel)
/-! EverybodyHasTheBook$Sheet -/
set_option maxRecDepth 100000
def RX2 : String := "EverybodyHasTheBook$Sheet"
def TX2 : u_T := fun k => match k with
  | _ => ("EverybodyHasTheBook$Sheet", "held", "Ljava/lang/Object;", false)
def tyX2 : Nat → FieldType := fun k => match k with
  | _ => .object "java/lang/Object"
abbrev wsX20 : List Cond := u_ws RX2 TX2 1
theorem nmX2 : ∀ a, a < 1 → ∀ b, b < 1 → a ≠ b → (TX2 a).2.1 ≠ (TX2 b).2.1 := by decide +kernel
theorem tyX2_ok : ∀ k, k < 1 → parseFieldDescriptor (TX2 k).2.2.1 = some (tyX2 k) := by decide +kernel
abbrev cX2_init : ByteArray := prog_13_method_1_code
def yX2_init : MethodName := ⟨RX2, "<init>", "()V"⟩
theorem dX2_init_0 : decode cX2_init 0 = .ok (.aload_n 0, 1) := by decide +kernel
theorem dX2_init_1 : decode cX2_init 1 = .ok (.invokespecial 1, 3) := by decide +kernel
theorem dX2_init_4 : decode cX2_init 4 = .ok (.return_, 1) := by decide +kernel
theorem q78 : (Jvm.Cond.initialized "EverybodyHasTheBook$Sheet") ∈ lw_all := lw_g (lw_at lw_m1 3 rfl) rfl
theorem q217 : (Jvm.Cond.instantiable "EverybodyHasTheBook$Sheet" (1 : Nat)) ∈ lw_all := lw_g (lw_at lw_m1 142 rfl) rfl
theorem q219 : (Jvm.Cond.instanceMethod ({ cls := "EverybodyHasTheBook$Sheet", name := "<init>", desc := "()V" } : Jvm.MethodName)) ∈ lw_all := lw_g (lw_at lw_m1 144 rfl) rfl
theorem q220 : (Jvm.Cond.code ({ cls := "EverybodyHasTheBook$Sheet", name := "<init>", desc := "()V" } : Jvm.MethodName) prog_13_method_1_code (1 : Nat) (Option.none : Option Jvm.ClassFile.FieldType)) ∈ lw_all := lw_g (lw_at lw_m1 145 rfl) rfl
theorem q221 : (Jvm.Cond.methodLink "EverybodyHasTheBook$Sheet" (1 : Nat) ({ cls := "java/lang/Object", name := "<init>", desc := "()V" } : Jvm.MethodName)) ∈ lw_all := lw_g (lw_at lw_m1 146 rfl) rfl
theorem q223 : (Jvm.Cond.lays "EverybodyHasTheBook$Sheet" "EverybodyHasTheBook$Sheet" "held" "Ljava/lang/Object;") ∈ lw_all := lw_g (lw_at lw_m1 148 rfl) rfl
theorem q224 : (Jvm.Cond.soleField "EverybodyHasTheBook$Sheet" "held") ∈ lw_all := lw_g (lw_at lw_m1 149 rfl) rfl
theorem q225 : (Jvm.Cond.superclass "EverybodyHasTheBook$Sheet" "java/lang/Object") ∈ lw_all := lw_g (lw_at lw_m1 150 rfl) rfl
theorem in_X2 : ∀ w ∈ wsX20, w ∈ lw_all := lw_in wsX20 [223] (by decide +kernel) (by decide +kernel)
/-! EverybodyHasTheBook$Refused -/
set_option maxRecDepth 100000
def RX4 : String := "EverybodyHasTheBook$Refused"
def TX4 : u_T := fun k => match k with
  | 0 => ("java/lang/Throwable", "cause", "Ljava/lang/Throwable;", false)
  | 1 => ("java/lang/Throwable", "stackTrace", "[Ljava/lang/StackTraceElement;", false)
  | 2 => ("java/lang/Throwable", "suppressedExceptions", "Ljava/util/List;", false)
  | 3 => ("java/lang/Throwable", "detailMessage", "Ljava/lang/String;", false)
  | 4 => ("java/lang/Throwable", "backtrace", "Ljava/lang/Object;", false)
  | 5 => ("java/lang/Throwable", "depth", "I", false)
  | _ => ("EverybodyHasTheBook$Refused", "by", "I", true)
def tyX4 : Nat → FieldType := fun k => match k with
  | 0 => .object "java/lang/Throwable"
  | 1 => .array (.object "java/lang/StackTraceElement")
  | 2 => .object "java/util/List"
  | 3 => .object "java/lang/String"
  | 4 => .object "java/lang/Object"
  | 5 => .int
  | _ => .int
abbrev wsX40 : List Cond := u_ws RX4 TX4 7
theorem nmX4 : ∀ a, a < 7 → ∀ b, b < 7 → a ≠ b → (TX4 a).2.1 ≠ (TX4 b).2.1 := by decide +kernel
theorem tyX4_ok : ∀ k, k < 7 → parseFieldDescriptor (TX4 k).2.2.1 = some (tyX4 k) := by decide +kernel
abbrev cX4_init : ByteArray := prog_10_method_1_code
def yX4_init : MethodName := ⟨RX4, "<init>", "(I)V"⟩
def dkwX4_init_0 : List UInt8 := [42, 1, 1, 3, 3, 183, 0, 1, 42, 27, 181, 0, 7, 177]
abbrev dktX4_init_0 : List UInt8 := dkwX4_init_0 ++ []
theorem dksX4_init_0 : cX4_init.data.toList.drop 0 = dktX4_init_0 := by decide +kernel
theorem dX4_init_0 : decode cX4_init 0 = .ok (.aload_n 0, 1) := dk_42 (dk_at dksX4_init_0 0 rfl rfl)
theorem dX4_init_1 : decode cX4_init 1 = .ok (.aconst_null, 1) := dk_1 (dk_at dksX4_init_0 1 rfl rfl)
theorem dX4_init_2 : decode cX4_init 2 = .ok (.aconst_null, 1) := dk_1 (dk_at dksX4_init_0 2 rfl rfl)
theorem dX4_init_3 : decode cX4_init 3 = .ok (.iconst 0, 1) := dk_3 (dk_at dksX4_init_0 3 rfl rfl)
theorem dX4_init_4 : decode cX4_init 4 = .ok (.iconst 0, 1) := dk_3 (dk_at dksX4_init_0 4 rfl rfl)
theorem dX4_init_5 : decode cX4_init 5 = .ok (.invokespecial 1, 3) := dk_183 0 1 (dk_at dksX4_init_0 5 rfl rfl)
theorem dX4_init_8 : decode cX4_init 8 = .ok (.aload_n 0, 1) := dk_42 (dk_at dksX4_init_0 8 rfl rfl)
theorem dX4_init_9 : decode cX4_init 9 = .ok (.iload_n 1, 1) := dk_27 (dk_at dksX4_init_0 9 rfl rfl)
theorem dX4_init_10 : decode cX4_init 10 = .ok (.putfield 7, 3) := dk_181 0 7 (dk_at dksX4_init_0 10 rfl rfl)
theorem dX4_init_13 : decode cX4_init 13 = .ok (.return_, 1) := dk_177 (dk_at dksX4_init_0 13 rfl rfl)
theorem q87 : (Jvm.Cond.initialized "EverybodyHasTheBook$Refused") ∈ lw_all := lw_g (lw_at lw_m1 12 rfl) rfl
theorem q275 : (Jvm.Cond.selects "EverybodyHasTheBook$Refused" ({ cls := "java/lang/Throwable", name := "fillInStackTrace", desc := "()Ljava/lang/Throwable;" } : Jvm.MethodName) ({ cls := "java/lang/Throwable", name := "fillInStackTrace", desc := "()Ljava/lang/Throwable;" } : Jvm.MethodName)) ∈ lw_all := lw_g (lw_at lw_m1 200 rfl) rfl
theorem q386 : (Jvm.Cond.instantiable "EverybodyHasTheBook$Refused" (7 : Nat)) ∈ lw_all := lw_g (lw_at lw_m2 71 rfl) rfl
theorem q387 : (Jvm.Cond.castable "EverybodyHasTheBook$Refused" "EverybodyHasTheBook$Refused") ∈ lw_tbl := lw_at lw_m2 72 rfl
theorem q388 : (Jvm.Cond.selects "EverybodyHasTheBook$Refused" ({ cls := "java/lang/Throwable", name := "fillInStackTrace", desc := "(I)Ljava/lang/Throwable;" } : Jvm.MethodName) ({ cls := "java/lang/Throwable", name := "fillInStackTrace", desc := "(I)Ljava/lang/Throwable;" } : Jvm.MethodName)) ∈ lw_all := lw_g (lw_at lw_m2 73 rfl) rfl
theorem q389 : (Jvm.Cond.lays "EverybodyHasTheBook$Refused" "java/lang/Throwable" "cause" "Ljava/lang/Throwable;") ∈ lw_all := lw_g (lw_at lw_m2 74 rfl) rfl
theorem q390 : (Jvm.Cond.lays "EverybodyHasTheBook$Refused" "java/lang/Throwable" "stackTrace" "[Ljava/lang/StackTraceElement;") ∈ lw_all := lw_g (lw_at lw_m2 75 rfl) rfl
theorem q391 : (Jvm.Cond.lays "EverybodyHasTheBook$Refused" "java/lang/Throwable" "suppressedExceptions" "Ljava/util/List;") ∈ lw_all := lw_g (lw_at lw_m2 76 rfl) rfl
theorem q392 : (Jvm.Cond.lays "EverybodyHasTheBook$Refused" "java/lang/Throwable" "detailMessage" "Ljava/lang/String;") ∈ lw_all := lw_g (lw_at lw_m2 77 rfl) rfl
theorem q393 : (Jvm.Cond.lays "EverybodyHasTheBook$Refused" "java/lang/Throwable" "backtrace" "Ljava/lang/Object;") ∈ lw_all := lw_g (lw_at lw_m2 78 rfl) rfl
theorem q395 : (Jvm.Cond.instanceMethod ({ cls := "EverybodyHasTheBook$Refused", name := "<init>", desc := "(I)V" } : Jvm.MethodName)) ∈ lw_all := lw_g (lw_at lw_m2 80 rfl) rfl
theorem q396 : (Jvm.Cond.code ({ cls := "EverybodyHasTheBook$Refused", name := "<init>", desc := "(I)V" } : Jvm.MethodName) prog_10_method_1_code (2 : Nat) (Option.none : Option Jvm.ClassFile.FieldType)) ∈ lw_all := lw_g (lw_at lw_m2 81 rfl) rfl
theorem q397 : (Jvm.Cond.methodLink "EverybodyHasTheBook$Refused" (1 : Nat) ({ cls := "java/lang/RuntimeException", name := "<init>", desc := "(Ljava/lang/String;Ljava/lang/Throwable;ZZ)V" } : Jvm.MethodName)) ∈ lw_all := lw_g (lw_at lw_m2 82 rfl) rfl
theorem q406 : (Jvm.Cond.fieldLink "EverybodyHasTheBook$Refused" (7 : Nat) "EverybodyHasTheBook$Refused" "by" "I") ∈ lw_all := lw_g (lw_at lw_m2 91 rfl) rfl
theorem q408 : (Jvm.Cond.laysFinal "EverybodyHasTheBook$Refused" "EverybodyHasTheBook$Refused" "by" "I") ∈ lw_all := lw_g (lw_at lw_m2 93 rfl) rfl
theorem q409 : (Jvm.Cond.soleField "EverybodyHasTheBook$Refused" "by") ∈ lw_all := lw_g (lw_at lw_m2 94 rfl) rfl
theorem q410 : (Jvm.Cond.lays "EverybodyHasTheBook$Refused" "java/lang/Throwable" "depth" "I") ∈ lw_all := lw_g (lw_at lw_m2 95 rfl) rfl
theorem q411 : (Jvm.Cond.superclass "EverybodyHasTheBook$Refused" "java/lang/RuntimeException") ∈ lw_all := lw_g (lw_at lw_m2 96 rfl) rfl
theorem in_X4 : ∀ w ∈ wsX40, w ∈ lw_all := lw_in wsX40 [389, 390, 391, 392, 393, 410, 408] (by decide +kernel) (by decide +kernel)
/-! EverybodyHasTheBook$Goer -/
set_option maxRecDepth 100000
def RX5 : String := "EverybodyHasTheBook$Goer"
def TX5 : u_T := fun k => match k with
  | 0 => ("EverybodyHasTheBook$Goer", "number", "I", true)
  | _ => ("EverybodyHasTheBook$Goer", "a", "I", true)
def tyX5 : Nat → FieldType := fun k => match k with
  | 0 => .int
  | _ => .int
abbrev wsX50 : List Cond := u_ws RX5 TX5 2
theorem nmX5 : ∀ a, a < 2 → ∀ b, b < 2 → a ≠ b → (TX5 a).2.1 ≠ (TX5 b).2.1 := by decide +kernel
theorem tyX5_ok : ∀ k, k < 2 → parseFieldDescriptor (TX5 k).2.2.1 = some (tyX5 k) := by decide +kernel
abbrev cX5_score : ByteArray := prog_5_method_4_code
def yX5_score : MethodName := ⟨RX5, "score", "(LEverybodyHasTheBook$Valley;I)I"⟩
def dkwX5_score_0 : List UInt8 := [16, 100, 43, 180, 0, 18, 28, 46, 100, 172]
abbrev dktX5_score_0 : List UInt8 := dkwX5_score_0 ++ []
theorem dksX5_score_0 : cX5_score.data.toList.drop 0 = dktX5_score_0 := by decide +kernel
theorem dX5_score_0 : decode cX5_score 0 = .ok (.bipush 100, 2) := dk_16 100 (dk_at dksX5_score_0 0 rfl rfl)
theorem dX5_score_2 : decode cX5_score 2 = .ok (.aload_n 1, 1) := dk_43 (dk_at dksX5_score_0 2 rfl rfl)
theorem dX5_score_3 : decode cX5_score 3 = .ok (.getfield 18, 3) := dk_180 0 18 (dk_at dksX5_score_0 3 rfl rfl)
theorem dX5_score_6 : decode cX5_score 6 = .ok (.iload_n 2, 1) := dk_28 (dk_at dksX5_score_0 6 rfl rfl)
theorem dX5_score_7 : decode cX5_score 7 = .ok (.iaload, 1) := dk_46 (dk_at dksX5_score_0 7 rfl rfl)
theorem dX5_score_8 : decode cX5_score 8 = .ok (.isub, 1) := dk_100 (dk_at dksX5_score_0 8 rfl rfl)
theorem dX5_score_9 : decode cX5_score 9 = .ok (.ireturn, 1) := dk_172 (dk_at dksX5_score_0 9 rfl rfl)
abbrev cX5_init : ByteArray := prog_5_method_1_code
def yX5_init : MethodName := ⟨RX5, "<init>", "(II)V"⟩
def dkwX5_init_0 : List UInt8 := [42, 183, 0, 3, 42, 27, 181, 0, 9, 42, 28, 181, 0, 15, 177]
abbrev dktX5_init_0 : List UInt8 := dkwX5_init_0 ++ []
theorem dksX5_init_0 : cX5_init.data.toList.drop 0 = dktX5_init_0 := by decide +kernel
theorem dX5_init_0 : decode cX5_init 0 = .ok (.aload_n 0, 1) := dk_42 (dk_at dksX5_init_0 0 rfl rfl)
theorem dX5_init_1 : decode cX5_init 1 = .ok (.invokespecial 3, 3) := dk_183 0 3 (dk_at dksX5_init_0 1 rfl rfl)
theorem dX5_init_4 : decode cX5_init 4 = .ok (.aload_n 0, 1) := dk_42 (dk_at dksX5_init_0 4 rfl rfl)
theorem dX5_init_5 : decode cX5_init 5 = .ok (.iload_n 1, 1) := dk_27 (dk_at dksX5_init_0 5 rfl rfl)
theorem dX5_init_6 : decode cX5_init 6 = .ok (.putfield 9, 3) := dk_181 0 9 (dk_at dksX5_init_0 6 rfl rfl)
theorem dX5_init_9 : decode cX5_init 9 = .ok (.aload_n 0, 1) := dk_42 (dk_at dksX5_init_0 9 rfl rfl)
theorem dX5_init_10 : decode cX5_init 10 = .ok (.iload_n 2, 1) := dk_28 (dk_at dksX5_init_0 10 rfl rfl)
theorem dX5_init_11 : decode cX5_init 11 = .ok (.putfield 15, 3) := dk_181 0 15 (dk_at dksX5_init_0 11 rfl rfl)
theorem dX5_init_14 : decode cX5_init 14 = .ok (.return_, 1) := dk_177 (dk_at dksX5_init_0 14 rfl rfl)
abbrev cX5_kind : ByteArray := prog_5_method_2_code
def yX5_kind : MethodName := ⟨RX5, "kind", "()I"⟩
theorem dX5_kind_0 : decode cX5_kind 0 = .ok (.iconst 0, 1) := by decide +kernel
theorem dX5_kind_1 : decode cX5_kind 1 = .ok (.ireturn, 1) := by decide +kernel
abbrev cX5_isLate : ByteArray := prog_5_method_3_code
def yX5_isLate : MethodName := ⟨RX5, "isLate", "()Z"⟩
theorem dX5_isLate_0 : decode cX5_isLate 0 = .ok (.iconst 0, 1) := by decide +kernel
theorem dX5_isLate_1 : decode cX5_isLate 1 = .ok (.ireturn, 1) := by decide +kernel
theorem q93 : (Jvm.Cond.initialized "EverybodyHasTheBook$Goer") ∈ lw_all := lw_g (lw_at lw_m1 18 rfl) rfl
theorem q138 : (Jvm.Cond.fieldLink "EverybodyHasTheBook$Goer" (18 : Nat) "EverybodyHasTheBook$Valley" "price" "[I") ∈ lw_all := lw_g (lw_at lw_m1 63 rfl) rfl
theorem q516 : (Jvm.Cond.superclass "EverybodyHasTheBook$Goer" "java/lang/Object") ∈ lw_all := lw_g (lw_at lw_m2 201 rfl) rfl
theorem q520 : (Jvm.Cond.unhidden "EverybodyHasTheBook$Goer" "first" "(LEverybodyHasTheBook$Valley;I)I") ∈ lw_tbl := lw_at lw_m2 205 rfl
theorem q545 : (Jvm.Cond.instanceMethod ({ cls := "EverybodyHasTheBook$Goer", name := "score", desc := "(LEverybodyHasTheBook$Valley;I)I" } : Jvm.MethodName)) ∈ lw_all := lw_g (lw_at lw_m2 230 rfl) rfl
theorem q546 : (Jvm.Cond.code ({ cls := "EverybodyHasTheBook$Goer", name := "score", desc := "(LEverybodyHasTheBook$Valley;I)I" } : Jvm.MethodName) prog_5_method_4_code (3 : Nat) (Option.some Jvm.ClassFile.FieldType.int)) ∈ lw_all := lw_g (lw_at lw_m2 231 rfl) rfl
theorem q566 : (Jvm.Cond.castable "EverybodyHasTheBook$Goer" "EverybodyHasTheBook$Scores") ∈ lw_tbl := lw_at lw_m3 11 rfl
theorem q567 : (Jvm.Cond.selects "EverybodyHasTheBook$Goer" ({ cls := "EverybodyHasTheBook$Scores", name := "score", desc := "(LEverybodyHasTheBook$Valley;I)I" } : Jvm.MethodName) ({ cls := "EverybodyHasTheBook$Goer", name := "score", desc := "(LEverybodyHasTheBook$Valley;I)I" } : Jvm.MethodName)) ∈ lw_all := lw_g (lw_at lw_m3 12 rfl) rfl
theorem q568 : (Jvm.Cond.unhidden "EverybodyHasTheBook$Goer" "score" "(LEverybodyHasTheBook$Valley;I)I") ∈ lw_tbl := lw_at lw_m3 13 rfl
theorem q569 : (Jvm.Cond.publicMethod ({ cls := "EverybodyHasTheBook$Goer", name := "score", desc := "(LEverybodyHasTheBook$Valley;I)I" } : Jvm.MethodName)) ∈ lw_tbl := lw_at lw_m3 14 rfl
theorem q610 : (Jvm.Cond.instantiable "EverybodyHasTheBook$Goer" (2 : Nat)) ∈ lw_all := lw_g (lw_at lw_m3 55 rfl) rfl
theorem q612 : (Jvm.Cond.instanceMethod ({ cls := "EverybodyHasTheBook$Goer", name := "<init>", desc := "(II)V" } : Jvm.MethodName)) ∈ lw_all := lw_g (lw_at lw_m3 57 rfl) rfl
theorem q613 : (Jvm.Cond.code ({ cls := "EverybodyHasTheBook$Goer", name := "<init>", desc := "(II)V" } : Jvm.MethodName) prog_5_method_1_code (3 : Nat) (Option.none : Option Jvm.ClassFile.FieldType)) ∈ lw_all := lw_g (lw_at lw_m3 58 rfl) rfl
theorem q614 : (Jvm.Cond.methodLink "EverybodyHasTheBook$Goer" (3 : Nat) ({ cls := "java/lang/Object", name := "<init>", desc := "()V" } : Jvm.MethodName)) ∈ lw_all := lw_g (lw_at lw_m3 59 rfl) rfl
theorem q615 : (Jvm.Cond.fieldLink "EverybodyHasTheBook$Goer" (9 : Nat) "EverybodyHasTheBook$Goer" "number" "I") ∈ lw_all := lw_g (lw_at lw_m3 60 rfl) rfl
theorem q617 : (Jvm.Cond.fieldLink "EverybodyHasTheBook$Goer" (15 : Nat) "EverybodyHasTheBook$Goer" "a" "I") ∈ lw_all := lw_g (lw_at lw_m3 62 rfl) rfl
theorem q623 : (Jvm.Cond.laysFinal "EverybodyHasTheBook$Goer" "EverybodyHasTheBook$Goer" "number" "I") ∈ lw_all := lw_g (lw_at lw_m3 68 rfl) rfl
theorem q624 : (Jvm.Cond.soleField "EverybodyHasTheBook$Goer" "number") ∈ lw_all := lw_g (lw_at lw_m3 69 rfl) rfl
theorem q625 : (Jvm.Cond.laysFinal "EverybodyHasTheBook$Goer" "EverybodyHasTheBook$Goer" "a" "I") ∈ lw_all := lw_g (lw_at lw_m3 70 rfl) rfl
theorem q626 : (Jvm.Cond.soleField "EverybodyHasTheBook$Goer" "a") ∈ lw_all := lw_g (lw_at lw_m3 71 rfl) rfl
theorem q1102 : (Jvm.Cond.instanceMethod ({ cls := "EverybodyHasTheBook$Goer", name := "kind", desc := "()I" } : Jvm.MethodName)) ∈ lw_all := lw_g (lw_at lw_m5 67 rfl) rfl
theorem q1103 : (Jvm.Cond.selects "EverybodyHasTheBook$Goer" ({ cls := "EverybodyHasTheBook$Goer", name := "kind", desc := "()I" } : Jvm.MethodName) ({ cls := "EverybodyHasTheBook$Goer", name := "kind", desc := "()I" } : Jvm.MethodName)) ∈ lw_all := lw_g (lw_at lw_m5 68 rfl) rfl
theorem q1104 : (Jvm.Cond.sameMethod "EverybodyHasTheBook$Goer" "EverybodyHasTheBook$Goer" "kind" "()I") ∈ lw_all := lw_g (lw_at lw_m5 69 rfl) rfl
theorem q1120 : (Jvm.Cond.code ({ cls := "EverybodyHasTheBook$Goer", name := "kind", desc := "()I" } : Jvm.MethodName) prog_5_method_2_code (1 : Nat) (Option.some Jvm.ClassFile.FieldType.int)) ∈ lw_all := lw_g (lw_at lw_m5 85 rfl) rfl
theorem q1147 : (Jvm.Cond.instanceMethod ({ cls := "EverybodyHasTheBook$Goer", name := "isLate", desc := "()Z" } : Jvm.MethodName)) ∈ lw_all := lw_g (lw_at lw_m5 112 rfl) rfl
theorem q1148 : (Jvm.Cond.selects "EverybodyHasTheBook$Goer" ({ cls := "EverybodyHasTheBook$Goer", name := "isLate", desc := "()Z" } : Jvm.MethodName) ({ cls := "EverybodyHasTheBook$Goer", name := "isLate", desc := "()Z" } : Jvm.MethodName)) ∈ lw_all := lw_g (lw_at lw_m5 113 rfl) rfl
theorem q1149 : (Jvm.Cond.sameMethod "EverybodyHasTheBook$Goer" "EverybodyHasTheBook$Goer" "isLate" "()Z") ∈ lw_all := lw_g (lw_at lw_m5 114 rfl) rfl
theorem q1157 : (Jvm.Cond.code ({ cls := "EverybodyHasTheBook$Goer", name := "isLate", desc := "()Z" } : Jvm.MethodName) prog_5_method_3_code (1 : Nat) (Option.some Jvm.ClassFile.FieldType.boolean)) ∈ lw_all := lw_g (lw_at lw_m5 122 rfl) rfl
theorem q2030 : (Jvm.Cond.sameMethod "EverybodyHasTheBook$Goer" "EverybodyHasTheBook$Goer" "score" "(LEverybodyHasTheBook$Valley;I)I") ∈ lw_all := lw_g (lw_at lw_m9 35 rfl) rfl
theorem q2038 : (Jvm.Cond.selects "EverybodyHasTheBook$Goer" ({ cls := "EverybodyHasTheBook$Goer", name := "score", desc := "(LEverybodyHasTheBook$Valley;I)I" } : Jvm.MethodName) ({ cls := "EverybodyHasTheBook$Goer", name := "score", desc := "(LEverybodyHasTheBook$Valley;I)I" } : Jvm.MethodName)) ∈ lw_all := lw_g (lw_at lw_m9 43 rfl) rfl
theorem in_X5 : ∀ w ∈ wsX50, w ∈ lw_all := lw_in wsX50 [623, 625] (by decide +kernel) (by decide +kernel)
/-! EverybodyHasTheBook$Booked -/
set_option maxRecDepth 100000
def RX6 : String := "EverybodyHasTheBook$Booked"
def TX6 : u_T := fun k => match k with
  | 0 => ("EverybodyHasTheBook$Goer", "number", "I", true)
  | _ => ("EverybodyHasTheBook$Goer", "a", "I", true)
def tyX6 : Nat → FieldType := fun k => match k with
  | 0 => .int
  | _ => .int
abbrev wsX60 : List Cond := u_ws RX6 TX6 2
theorem nmX6 : ∀ a, a < 2 → ∀ b, b < 2 → a ≠ b → (TX6 a).2.1 ≠ (TX6 b).2.1 := by decide +kernel
theorem tyX6_ok : ∀ k, k < 2 → parseFieldDescriptor (TX6 k).2.2.1 = some (tyX6 k) := by decide +kernel
abbrev cX6_cheap : ByteArray := prog_3_method_4_code
def yX6_cheap : MethodName := ⟨RX6, "cheap", "(LEverybodyHasTheBook$Valley;I)I"⟩
def dkwX6_cheap_0 : List UInt8 := [42, 43, 28, 183, 0, 25, 172]
abbrev dktX6_cheap_0 : List UInt8 := dkwX6_cheap_0 ++ []
theorem dksX6_cheap_0 : cX6_cheap.data.toList.drop 0 = dktX6_cheap_0 := by decide +kernel
theorem dX6_cheap_0 : decode cX6_cheap 0 = .ok (.aload_n 0, 1) := dk_42 (dk_at dksX6_cheap_0 0 rfl rfl)
theorem dX6_cheap_1 : decode cX6_cheap 1 = .ok (.aload_n 1, 1) := dk_43 (dk_at dksX6_cheap_0 1 rfl rfl)
theorem dX6_cheap_2 : decode cX6_cheap 2 = .ok (.iload_n 2, 1) := dk_28 (dk_at dksX6_cheap_0 2 rfl rfl)
theorem dX6_cheap_3 : decode cX6_cheap 3 = .ok (.invokespecial 25, 3) := dk_183 0 25 (dk_at dksX6_cheap_0 3 rfl rfl)
theorem dX6_cheap_6 : decode cX6_cheap 6 = .ok (.ireturn, 1) := dk_172 (dk_at dksX6_cheap_0 6 rfl rfl)
abbrev cX6_score : ByteArray := prog_3_method_5_code
def yX6_score : MethodName := ⟨RX6, "score", "(LEverybodyHasTheBook$Valley;I)I"⟩
def dkwX6_score_0 : List UInt8 := [42, 43, 28, 182, 0, 29, 172]
abbrev dktX6_score_0 : List UInt8 := dkwX6_score_0 ++ []
theorem dksX6_score_0 : cX6_score.data.toList.drop 0 = dktX6_score_0 := by decide +kernel
theorem dX6_score_0 : decode cX6_score 0 = .ok (.aload_n 0, 1) := dk_42 (dk_at dksX6_score_0 0 rfl rfl)
theorem dX6_score_1 : decode cX6_score 1 = .ok (.aload_n 1, 1) := dk_43 (dk_at dksX6_score_0 1 rfl rfl)
theorem dX6_score_2 : decode cX6_score 2 = .ok (.iload_n 2, 1) := dk_28 (dk_at dksX6_score_0 2 rfl rfl)
theorem dX6_score_3 : decode cX6_score 3 = .ok (.invokevirtual 29, 3) := dk_182 0 29 (dk_at dksX6_score_0 3 rfl rfl)
theorem dX6_score_6 : decode cX6_score 6 = .ok (.ireturn, 1) := dk_172 (dk_at dksX6_score_0 6 rfl rfl)
abbrev cX6_said : ByteArray := prog_3_method_3_code
def yX6_said : MethodName := ⟨RX6, "said", "(LEverybodyHasTheBook$Valley;I)I"⟩
def dkwX6_said_1 : List UInt8 := [180, 0, 15, 104, 100, 184, 0, 19, 172]
abbrev dktX6_said_1 : List UInt8 := dkwX6_said_1 ++ []
def dkwX6_said_0 : List UInt8 := [43, 180, 0, 9, 28, 46, 2, 160, 0, 7, 3, 167, 0, 20, 3, 43, 180, 0, 9, 28, 46, 5, 43]
abbrev dktX6_said_0 : List UInt8 := dkwX6_said_0 ++ dktX6_said_1
theorem dksX6_said_0 : cX6_said.data.toList.drop 0 = dktX6_said_0 := by decide +kernel
theorem dksX6_said_1 : cX6_said.data.toList.drop 23 = dktX6_said_1 := dk_seg dksX6_said_0 23 rfl rfl
theorem dX6_said_0 : decode cX6_said 0 = .ok (.aload_n 1, 1) := dk_43 (dk_at dksX6_said_0 0 rfl rfl)
theorem dX6_said_1 : decode cX6_said 1 = .ok (.getfield 9, 3) := dk_180 0 9 (dk_at dksX6_said_0 1 rfl rfl)
theorem dX6_said_4 : decode cX6_said 4 = .ok (.iload_n 2, 1) := dk_28 (dk_at dksX6_said_0 4 rfl rfl)
theorem dX6_said_5 : decode cX6_said 5 = .ok (.iaload, 1) := dk_46 (dk_at dksX6_said_0 5 rfl rfl)
theorem dX6_said_6 : decode cX6_said 6 = .ok (.iconst (-1), 1) := dk_2 (dk_at dksX6_said_0 6 rfl rfl)
theorem dX6_said_7 : decode cX6_said 7 = .ok (.if_icmp .ne 7, 3) := dk_160 0 7 (dk_at dksX6_said_0 7 rfl rfl)
theorem dX6_said_10 : decode cX6_said 10 = .ok (.iconst 0, 1) := dk_3 (dk_at dksX6_said_0 10 rfl rfl)
theorem dX6_said_11 : decode cX6_said 11 = .ok (.goto 20, 3) := dk_167 0 20 (dk_at dksX6_said_0 11 rfl rfl)
theorem dX6_said_14 : decode cX6_said 14 = .ok (.iconst 0, 1) := dk_3 (dk_at dksX6_said_0 14 rfl rfl)
theorem dX6_said_15 : decode cX6_said 15 = .ok (.aload_n 1, 1) := dk_43 (dk_at dksX6_said_0 15 rfl rfl)
theorem dX6_said_16 : decode cX6_said 16 = .ok (.getfield 9, 3) := dk_180 0 9 (dk_at dksX6_said_0 16 rfl rfl)
theorem dX6_said_19 : decode cX6_said 19 = .ok (.iload_n 2, 1) := dk_28 (dk_at dksX6_said_0 19 rfl rfl)
theorem dX6_said_20 : decode cX6_said 20 = .ok (.iaload, 1) := dk_46 (dk_at dksX6_said_0 20 rfl rfl)
theorem dX6_said_21 : decode cX6_said 21 = .ok (.iconst 2, 1) := dk_5 (dk_at dksX6_said_0 21 rfl rfl)
theorem dX6_said_22 : decode cX6_said 22 = .ok (.aload_n 1, 1) := dk_43 (dk_at dksX6_said_0 22 rfl rfl)
theorem dX6_said_23 : decode cX6_said 23 = .ok (.getfield 15, 3) := dk_180 0 15 (dk_at dksX6_said_1 0 rfl rfl)
theorem dX6_said_26 : decode cX6_said 26 = .ok (.imul, 1) := dk_104 (dk_at dksX6_said_1 3 rfl rfl)
theorem dX6_said_27 : decode cX6_said 27 = .ok (.isub, 1) := dk_100 (dk_at dksX6_said_1 4 rfl rfl)
theorem dX6_said_28 : decode cX6_said 28 = .ok (.invokestatic 19, 3) := dk_184 0 19 (dk_at dksX6_said_1 5 rfl rfl)
theorem dX6_said_31 : decode cX6_said 31 = .ok (.ireturn, 1) := dk_172 (dk_at dksX6_said_1 8 rfl rfl)
abbrev cX6_init : ByteArray := prog_3_method_1_code
def yX6_init : MethodName := ⟨RX6, "<init>", "(II)V"⟩
def dkwX6_init_0 : List UInt8 := [42, 27, 28, 183, 0, 3, 177]
abbrev dktX6_init_0 : List UInt8 := dkwX6_init_0 ++ []
theorem dksX6_init_0 : cX6_init.data.toList.drop 0 = dktX6_init_0 := by decide +kernel
theorem dX6_init_0 : decode cX6_init 0 = .ok (.aload_n 0, 1) := dk_42 (dk_at dksX6_init_0 0 rfl rfl)
theorem dX6_init_1 : decode cX6_init 1 = .ok (.iload_n 1, 1) := dk_27 (dk_at dksX6_init_0 1 rfl rfl)
theorem dX6_init_2 : decode cX6_init 2 = .ok (.iload_n 2, 1) := dk_28 (dk_at dksX6_init_0 2 rfl rfl)
theorem dX6_init_3 : decode cX6_init 3 = .ok (.invokespecial 3, 3) := dk_183 0 3 (dk_at dksX6_init_0 3 rfl rfl)
theorem dX6_init_6 : decode cX6_init 6 = .ok (.return_, 1) := dk_177 (dk_at dksX6_init_0 6 rfl rfl)
abbrev cX6_kind : ByteArray := prog_3_method_2_code
def yX6_kind : MethodName := ⟨RX6, "kind", "()I"⟩
theorem dX6_kind_0 : decode cX6_kind 0 = .ok (.iconst 1, 1) := by decide +kernel
theorem dX6_kind_1 : decode cX6_kind 1 = .ok (.ireturn, 1) := by decide +kernel
theorem q94 : (Jvm.Cond.initialized "EverybodyHasTheBook$Booked") ∈ lw_all := lw_g (lw_at lw_m1 19 rfl) rfl
theorem q143 : (Jvm.Cond.fieldLink "EverybodyHasTheBook$Booked" (9 : Nat) "EverybodyHasTheBook$Valley" "said" "[I") ∈ lw_all := lw_g (lw_at lw_m1 68 rfl) rfl
theorem q171 : (Jvm.Cond.fieldLink "EverybodyHasTheBook$Booked" (15 : Nat) "EverybodyHasTheBook$Valley" "age" "I") ∈ lw_all := lw_g (lw_at lw_m1 96 rfl) rfl
theorem q519 : (Jvm.Cond.unhidden "EverybodyHasTheBook$Booked" "first" "(LEverybodyHasTheBook$Valley;I)I") ∈ lw_tbl := lw_at lw_m2 204 rfl
theorem q539 : (Jvm.Cond.declares ({ cls := "EverybodyHasTheBook$Booked", name := "cheap", desc := "(LEverybodyHasTheBook$Valley;I)I" } : Jvm.MethodName)) ∈ lw_tbl := lw_at lw_m2 224 rfl
theorem q541 : (Jvm.Cond.instanceMethod ({ cls := "EverybodyHasTheBook$Booked", name := "cheap", desc := "(LEverybodyHasTheBook$Valley;I)I" } : Jvm.MethodName)) ∈ lw_all := lw_g (lw_at lw_m2 226 rfl) rfl
theorem q542 : (Jvm.Cond.code ({ cls := "EverybodyHasTheBook$Booked", name := "cheap", desc := "(LEverybodyHasTheBook$Valley;I)I" } : Jvm.MethodName) prog_3_method_4_code (3 : Nat) (Option.some Jvm.ClassFile.FieldType.int)) ∈ lw_all := lw_g (lw_at lw_m2 227 rfl) rfl
theorem q543 : (Jvm.Cond.methodLink "EverybodyHasTheBook$Booked" (25 : Nat) ({ cls := "EverybodyHasTheBook$Goer", name := "score", desc := "(LEverybodyHasTheBook$Valley;I)I" } : Jvm.MethodName)) ∈ lw_all := lw_g (lw_at lw_m2 228 rfl) rfl
theorem q544 : (Jvm.Cond.superclass "EverybodyHasTheBook$Booked" "EverybodyHasTheBook$Goer") ∈ lw_all := lw_g (lw_at lw_m2 229 rfl) rfl
theorem q549 : (Jvm.Cond.instanceMethod ({ cls := "EverybodyHasTheBook$Booked", name := "score", desc := "(LEverybodyHasTheBook$Valley;I)I" } : Jvm.MethodName)) ∈ lw_all := lw_g (lw_at lw_m2 234 rfl) rfl
theorem q550 : (Jvm.Cond.code ({ cls := "EverybodyHasTheBook$Booked", name := "score", desc := "(LEverybodyHasTheBook$Valley;I)I" } : Jvm.MethodName) prog_3_method_5_code (3 : Nat) (Option.some Jvm.ClassFile.FieldType.int)) ∈ lw_all := lw_g (lw_at lw_m2 235 rfl) rfl
theorem q551 : (Jvm.Cond.methodLink "EverybodyHasTheBook$Booked" (29 : Nat) ({ cls := "EverybodyHasTheBook$Booked", name := "said", desc := "(LEverybodyHasTheBook$Valley;I)I" } : Jvm.MethodName)) ∈ lw_all := lw_g (lw_at lw_m2 236 rfl) rfl
theorem q552 : (Jvm.Cond.instanceMethod ({ cls := "EverybodyHasTheBook$Booked", name := "said", desc := "(LEverybodyHasTheBook$Valley;I)I" } : Jvm.MethodName)) ∈ lw_all := lw_g (lw_at lw_m2 237 rfl) rfl
theorem q553 : (Jvm.Cond.selects "EverybodyHasTheBook$Booked" ({ cls := "EverybodyHasTheBook$Booked", name := "said", desc := "(LEverybodyHasTheBook$Valley;I)I" } : Jvm.MethodName) ({ cls := "EverybodyHasTheBook$Booked", name := "said", desc := "(LEverybodyHasTheBook$Valley;I)I" } : Jvm.MethodName)) ∈ lw_all := lw_g (lw_at lw_m2 238 rfl) rfl
theorem q554 : (Jvm.Cond.sameMethod "EverybodyHasTheBook$Booked" "EverybodyHasTheBook$Booked" "said" "(LEverybodyHasTheBook$Valley;I)I") ∈ lw_all := lw_g (lw_at lw_m2 239 rfl) rfl
theorem q558 : (Jvm.Cond.code ({ cls := "EverybodyHasTheBook$Booked", name := "said", desc := "(LEverybodyHasTheBook$Valley;I)I" } : Jvm.MethodName) prog_3_method_3_code (3 : Nat) (Option.some Jvm.ClassFile.FieldType.int)) ∈ lw_all := lw_g (lw_at lw_m3 3 rfl) rfl
theorem q559 : (Jvm.Cond.methodLink "EverybodyHasTheBook$Booked" (19 : Nat) ({ cls := "java/lang/Math", name := "max", desc := "(II)I" } : Jvm.MethodName)) ∈ lw_all := lw_g (lw_at lw_m3 4 rfl) rfl
theorem q562 : (Jvm.Cond.castable "EverybodyHasTheBook$Booked" "EverybodyHasTheBook$Scores") ∈ lw_tbl := lw_at lw_m3 7 rfl
theorem q563 : (Jvm.Cond.selects "EverybodyHasTheBook$Booked" ({ cls := "EverybodyHasTheBook$Scores", name := "score", desc := "(LEverybodyHasTheBook$Valley;I)I" } : Jvm.MethodName) ({ cls := "EverybodyHasTheBook$Booked", name := "score", desc := "(LEverybodyHasTheBook$Valley;I)I" } : Jvm.MethodName)) ∈ lw_all := lw_g (lw_at lw_m3 8 rfl) rfl
theorem q564 : (Jvm.Cond.unhidden "EverybodyHasTheBook$Booked" "score" "(LEverybodyHasTheBook$Valley;I)I") ∈ lw_tbl := lw_at lw_m3 9 rfl
theorem q565 : (Jvm.Cond.publicMethod ({ cls := "EverybodyHasTheBook$Booked", name := "score", desc := "(LEverybodyHasTheBook$Valley;I)I" } : Jvm.MethodName)) ∈ lw_tbl := lw_at lw_m3 10 rfl
theorem q627 : (Jvm.Cond.instantiable "EverybodyHasTheBook$Booked" (2 : Nat)) ∈ lw_all := lw_g (lw_at lw_m3 72 rfl) rfl
theorem q629 : (Jvm.Cond.instanceMethod ({ cls := "EverybodyHasTheBook$Booked", name := "<init>", desc := "(II)V" } : Jvm.MethodName)) ∈ lw_all := lw_g (lw_at lw_m3 74 rfl) rfl
theorem q630 : (Jvm.Cond.code ({ cls := "EverybodyHasTheBook$Booked", name := "<init>", desc := "(II)V" } : Jvm.MethodName) prog_3_method_1_code (3 : Nat) (Option.none : Option Jvm.ClassFile.FieldType)) ∈ lw_all := lw_g (lw_at lw_m3 75 rfl) rfl
theorem q631 : (Jvm.Cond.methodLink "EverybodyHasTheBook$Booked" (3 : Nat) ({ cls := "EverybodyHasTheBook$Goer", name := "<init>", desc := "(II)V" } : Jvm.MethodName)) ∈ lw_all := lw_g (lw_at lw_m3 76 rfl) rfl
theorem q632 : (Jvm.Cond.laysFinal "EverybodyHasTheBook$Booked" "EverybodyHasTheBook$Goer" "number" "I") ∈ lw_all := lw_g (lw_at lw_m3 77 rfl) rfl
theorem q633 : (Jvm.Cond.laysFinal "EverybodyHasTheBook$Booked" "EverybodyHasTheBook$Goer" "a" "I") ∈ lw_all := lw_g (lw_at lw_m3 78 rfl) rfl
theorem q1108 : (Jvm.Cond.selects "EverybodyHasTheBook$Booked" ({ cls := "EverybodyHasTheBook$Goer", name := "kind", desc := "()I" } : Jvm.MethodName) ({ cls := "EverybodyHasTheBook$Booked", name := "kind", desc := "()I" } : Jvm.MethodName)) ∈ lw_all := lw_g (lw_at lw_m5 73 rfl) rfl
theorem q1109 : (Jvm.Cond.instanceMethod ({ cls := "EverybodyHasTheBook$Booked", name := "kind", desc := "()I" } : Jvm.MethodName)) ∈ lw_all := lw_g (lw_at lw_m5 74 rfl) rfl
theorem q1110 : (Jvm.Cond.code ({ cls := "EverybodyHasTheBook$Booked", name := "kind", desc := "()I" } : Jvm.MethodName) prog_3_method_2_code (1 : Nat) (Option.some Jvm.ClassFile.FieldType.int)) ∈ lw_all := lw_g (lw_at lw_m5 75 rfl) rfl
theorem q1151 : (Jvm.Cond.selects "EverybodyHasTheBook$Booked" ({ cls := "EverybodyHasTheBook$Goer", name := "isLate", desc := "()Z" } : Jvm.MethodName) ({ cls := "EverybodyHasTheBook$Goer", name := "isLate", desc := "()Z" } : Jvm.MethodName)) ∈ lw_all := lw_g (lw_at lw_m5 116 rfl) rfl
theorem q2031 : (Jvm.Cond.sameMethod "EverybodyHasTheBook$Booked" "EverybodyHasTheBook$Booked" "score" "(LEverybodyHasTheBook$Valley;I)I") ∈ lw_all := lw_g (lw_at lw_m9 36 rfl) rfl
theorem q2037 : (Jvm.Cond.selects "EverybodyHasTheBook$Booked" ({ cls := "EverybodyHasTheBook$Goer", name := "score", desc := "(LEverybodyHasTheBook$Valley;I)I" } : Jvm.MethodName) ({ cls := "EverybodyHasTheBook$Booked", name := "score", desc := "(LEverybodyHasTheBook$Valley;I)I" } : Jvm.MethodName)) ∈ lw_all := lw_g (lw_at lw_m9 42 rfl) rfl
theorem q2046 : (Jvm.Cond.castable "EverybodyHasTheBook$Booked" "EverybodyHasTheBook$Goer") ∈ lw_tbl := lw_at lw_m9 51 rfl
theorem in_X6 : ∀ w ∈ wsX60, w ∈ lw_all := lw_in wsX60 [632, 633] (by decide +kernel) (by decide +kernel)
/-! EverybodyHasTheBook$Against -/
set_option maxRecDepth 100000
def RX7 : String := "EverybodyHasTheBook$Against"
def TX7 : u_T := fun k => match k with
  | 0 => ("EverybodyHasTheBook$Goer", "number", "I", true)
  | _ => ("EverybodyHasTheBook$Goer", "a", "I", true)
def tyX7 : Nat → FieldType := fun k => match k with
  | 0 => .int
  | _ => .int
abbrev wsX70 : List Cond := u_ws RX7 TX7 2
theorem nmX7 : ∀ a, a < 2 → ∀ b, b < 2 → a ≠ b → (TX7 a).2.1 ≠ (TX7 b).2.1 := by decide +kernel
theorem tyX7_ok : ∀ k, k < 2 → parseFieldDescriptor (TX7 k).2.2.1 = some (tyX7 k) := by decide +kernel
abbrev cX7_score : ByteArray := prog_2_method_3_code
def yX7_score : MethodName := ⟨RX7, "score", "(LEverybodyHasTheBook$Valley;I)I"⟩
def dkwX7_score_1 : List UInt8 := [183, 0, 21, 42, 180, 0, 24, 100, 172]
abbrev dktX7_score_1 : List UInt8 := dkwX7_score_1 ++ []
def dkwX7_score_0 : List UInt8 := [43, 180, 0, 9, 28, 46, 2, 160, 0, 12, 42, 43, 28, 182, 0, 15, 167, 0, 14, 42, 43, 28]
abbrev dktX7_score_0 : List UInt8 := dkwX7_score_0 ++ dktX7_score_1
theorem dksX7_score_0 : cX7_score.data.toList.drop 0 = dktX7_score_0 := by decide +kernel
theorem dksX7_score_1 : cX7_score.data.toList.drop 22 = dktX7_score_1 := dk_seg dksX7_score_0 22 rfl rfl
theorem dX7_score_0 : decode cX7_score 0 = .ok (.aload_n 1, 1) := dk_43 (dk_at dksX7_score_0 0 rfl rfl)
theorem dX7_score_1 : decode cX7_score 1 = .ok (.getfield 9, 3) := dk_180 0 9 (dk_at dksX7_score_0 1 rfl rfl)
theorem dX7_score_4 : decode cX7_score 4 = .ok (.iload_n 2, 1) := dk_28 (dk_at dksX7_score_0 4 rfl rfl)
theorem dX7_score_5 : decode cX7_score 5 = .ok (.iaload, 1) := dk_46 (dk_at dksX7_score_0 5 rfl rfl)
theorem dX7_score_6 : decode cX7_score 6 = .ok (.iconst (-1), 1) := dk_2 (dk_at dksX7_score_0 6 rfl rfl)
theorem dX7_score_7 : decode cX7_score 7 = .ok (.if_icmp .ne 12, 3) := dk_160 0 12 (dk_at dksX7_score_0 7 rfl rfl)
theorem dX7_score_10 : decode cX7_score 10 = .ok (.aload_n 0, 1) := dk_42 (dk_at dksX7_score_0 10 rfl rfl)
theorem dX7_score_11 : decode cX7_score 11 = .ok (.aload_n 1, 1) := dk_43 (dk_at dksX7_score_0 11 rfl rfl)
theorem dX7_score_12 : decode cX7_score 12 = .ok (.iload_n 2, 1) := dk_28 (dk_at dksX7_score_0 12 rfl rfl)
theorem dX7_score_13 : decode cX7_score 13 = .ok (.invokevirtual 15, 3) := dk_182 0 15 (dk_at dksX7_score_0 13 rfl rfl)
theorem dX7_score_16 : decode cX7_score 16 = .ok (.goto 14, 3) := dk_167 0 14 (dk_at dksX7_score_0 16 rfl rfl)
theorem dX7_score_19 : decode cX7_score 19 = .ok (.aload_n 0, 1) := dk_42 (dk_at dksX7_score_0 19 rfl rfl)
theorem dX7_score_20 : decode cX7_score 20 = .ok (.aload_n 1, 1) := dk_43 (dk_at dksX7_score_0 20 rfl rfl)
theorem dX7_score_21 : decode cX7_score 21 = .ok (.iload_n 2, 1) := dk_28 (dk_at dksX7_score_0 21 rfl rfl)
theorem dX7_score_22 : decode cX7_score 22 = .ok (.invokespecial 21, 3) := dk_183 0 21 (dk_at dksX7_score_1 0 rfl rfl)
theorem dX7_score_25 : decode cX7_score 25 = .ok (.aload_n 0, 1) := dk_42 (dk_at dksX7_score_1 3 rfl rfl)
theorem dX7_score_26 : decode cX7_score 26 = .ok (.getfield 24, 3) := dk_180 0 24 (dk_at dksX7_score_1 4 rfl rfl)
theorem dX7_score_29 : decode cX7_score 29 = .ok (.isub, 1) := dk_100 (dk_at dksX7_score_1 7 rfl rfl)
theorem dX7_score_30 : decode cX7_score 30 = .ok (.ireturn, 1) := dk_172 (dk_at dksX7_score_1 8 rfl rfl)
abbrev cX7_init : ByteArray := prog_2_method_1_code
def yX7_init : MethodName := ⟨RX7, "<init>", "(II)V"⟩
def dkwX7_init_0 : List UInt8 := [42, 27, 28, 183, 0, 3, 177]
abbrev dktX7_init_0 : List UInt8 := dkwX7_init_0 ++ []
theorem dksX7_init_0 : cX7_init.data.toList.drop 0 = dktX7_init_0 := by decide +kernel
theorem dX7_init_0 : decode cX7_init 0 = .ok (.aload_n 0, 1) := dk_42 (dk_at dksX7_init_0 0 rfl rfl)
theorem dX7_init_1 : decode cX7_init 1 = .ok (.iload_n 1, 1) := dk_27 (dk_at dksX7_init_0 1 rfl rfl)
theorem dX7_init_2 : decode cX7_init 2 = .ok (.iload_n 2, 1) := dk_28 (dk_at dksX7_init_0 2 rfl rfl)
theorem dX7_init_3 : decode cX7_init 3 = .ok (.invokespecial 3, 3) := dk_183 0 3 (dk_at dksX7_init_0 3 rfl rfl)
theorem dX7_init_6 : decode cX7_init 6 = .ok (.return_, 1) := dk_177 (dk_at dksX7_init_0 6 rfl rfl)
abbrev cX7_kind : ByteArray := prog_2_method_2_code
def yX7_kind : MethodName := ⟨RX7, "kind", "()I"⟩
theorem dX7_kind_0 : decode cX7_kind 0 = .ok (.iconst 2, 1) := by decide +kernel
theorem dX7_kind_1 : decode cX7_kind 1 = .ok (.ireturn, 1) := by decide +kernel
theorem q95 : (Jvm.Cond.initialized "EverybodyHasTheBook$Against") ∈ lw_all := lw_g (lw_at lw_m1 20 rfl) rfl
theorem q142 : (Jvm.Cond.fieldLink "EverybodyHasTheBook$Against" (9 : Nat) "EverybodyHasTheBook$Valley" "said" "[I") ∈ lw_all := lw_g (lw_at lw_m1 67 rfl) rfl
theorem q518 : (Jvm.Cond.unhidden "EverybodyHasTheBook$Against" "first" "(LEverybodyHasTheBook$Valley;I)I") ∈ lw_tbl := lw_at lw_m2 203 rfl
theorem q531 : (Jvm.Cond.castable "EverybodyHasTheBook$Against" "EverybodyHasTheBook$Scores") ∈ lw_tbl := lw_at lw_m2 216 rfl
theorem q532 : (Jvm.Cond.selects "EverybodyHasTheBook$Against" ({ cls := "EverybodyHasTheBook$Scores", name := "score", desc := "(LEverybodyHasTheBook$Valley;I)I" } : Jvm.MethodName) ({ cls := "EverybodyHasTheBook$Against", name := "score", desc := "(LEverybodyHasTheBook$Valley;I)I" } : Jvm.MethodName)) ∈ lw_all := lw_g (lw_at lw_m2 217 rfl) rfl
theorem q533 : (Jvm.Cond.unhidden "EverybodyHasTheBook$Against" "score" "(LEverybodyHasTheBook$Valley;I)I") ∈ lw_tbl := lw_at lw_m2 218 rfl
theorem q534 : (Jvm.Cond.instanceMethod ({ cls := "EverybodyHasTheBook$Against", name := "score", desc := "(LEverybodyHasTheBook$Valley;I)I" } : Jvm.MethodName)) ∈ lw_all := lw_g (lw_at lw_m2 219 rfl) rfl
theorem q535 : (Jvm.Cond.publicMethod ({ cls := "EverybodyHasTheBook$Against", name := "score", desc := "(LEverybodyHasTheBook$Valley;I)I" } : Jvm.MethodName)) ∈ lw_tbl := lw_at lw_m2 220 rfl
theorem q536 : (Jvm.Cond.code ({ cls := "EverybodyHasTheBook$Against", name := "score", desc := "(LEverybodyHasTheBook$Valley;I)I" } : Jvm.MethodName) prog_2_method_3_code (3 : Nat) (Option.some Jvm.ClassFile.FieldType.int)) ∈ lw_all := lw_g (lw_at lw_m2 221 rfl) rfl
theorem q537 : (Jvm.Cond.methodLink "EverybodyHasTheBook$Against" (15 : Nat) ({ cls := "EverybodyHasTheBook$Against", name := "cheap", desc := "(LEverybodyHasTheBook$Valley;I)I" } : Jvm.MethodName)) ∈ lw_all := lw_g (lw_at lw_m2 222 rfl) rfl
theorem q538 : (Jvm.Cond.sameMethod "EverybodyHasTheBook$Against" "EverybodyHasTheBook$Booked" "cheap" "(LEverybodyHasTheBook$Valley;I)I") ∈ lw_all := lw_g (lw_at lw_m2 223 rfl) rfl
theorem q540 : (Jvm.Cond.selects "EverybodyHasTheBook$Against" ({ cls := "EverybodyHasTheBook$Against", name := "cheap", desc := "(LEverybodyHasTheBook$Valley;I)I" } : Jvm.MethodName) ({ cls := "EverybodyHasTheBook$Booked", name := "cheap", desc := "(LEverybodyHasTheBook$Valley;I)I" } : Jvm.MethodName)) ∈ lw_all := lw_g (lw_at lw_m2 225 rfl) rfl
theorem q547 : (Jvm.Cond.methodLink "EverybodyHasTheBook$Against" (21 : Nat) ({ cls := "EverybodyHasTheBook$Booked", name := "score", desc := "(LEverybodyHasTheBook$Valley;I)I" } : Jvm.MethodName)) ∈ lw_all := lw_g (lw_at lw_m2 232 rfl) rfl
theorem q548 : (Jvm.Cond.superclass "EverybodyHasTheBook$Against" "EverybodyHasTheBook$Booked") ∈ lw_all := lw_g (lw_at lw_m2 233 rfl) rfl
theorem q555 : (Jvm.Cond.selects "EverybodyHasTheBook$Against" ({ cls := "EverybodyHasTheBook$Booked", name := "said", desc := "(LEverybodyHasTheBook$Valley;I)I" } : Jvm.MethodName) ({ cls := "EverybodyHasTheBook$Booked", name := "said", desc := "(LEverybodyHasTheBook$Valley;I)I" } : Jvm.MethodName)) ∈ lw_all := lw_g (lw_at lw_m3 0 rfl) rfl
theorem q620 : (Jvm.Cond.fieldLink "EverybodyHasTheBook$Against" (24 : Nat) "EverybodyHasTheBook$Against" "a" "I") ∈ lw_all := lw_g (lw_at lw_m3 65 rfl) rfl
theorem q621 : (Jvm.Cond.sameField "EverybodyHasTheBook$Against" "EverybodyHasTheBook$Goer" "a" "I") ∈ lw_all := lw_g (lw_at lw_m3 66 rfl) rfl
theorem q634 : (Jvm.Cond.instantiable "EverybodyHasTheBook$Against" (2 : Nat)) ∈ lw_all := lw_g (lw_at lw_m3 79 rfl) rfl
theorem q636 : (Jvm.Cond.instanceMethod ({ cls := "EverybodyHasTheBook$Against", name := "<init>", desc := "(II)V" } : Jvm.MethodName)) ∈ lw_all := lw_g (lw_at lw_m3 81 rfl) rfl
theorem q637 : (Jvm.Cond.code ({ cls := "EverybodyHasTheBook$Against", name := "<init>", desc := "(II)V" } : Jvm.MethodName) prog_2_method_1_code (3 : Nat) (Option.none : Option Jvm.ClassFile.FieldType)) ∈ lw_all := lw_g (lw_at lw_m3 82 rfl) rfl
theorem q638 : (Jvm.Cond.methodLink "EverybodyHasTheBook$Against" (3 : Nat) ({ cls := "EverybodyHasTheBook$Booked", name := "<init>", desc := "(II)V" } : Jvm.MethodName)) ∈ lw_all := lw_g (lw_at lw_m3 83 rfl) rfl
theorem q639 : (Jvm.Cond.laysFinal "EverybodyHasTheBook$Against" "EverybodyHasTheBook$Goer" "number" "I") ∈ lw_all := lw_g (lw_at lw_m3 84 rfl) rfl
theorem q640 : (Jvm.Cond.laysFinal "EverybodyHasTheBook$Against" "EverybodyHasTheBook$Goer" "a" "I") ∈ lw_all := lw_g (lw_at lw_m3 85 rfl) rfl
theorem q1105 : (Jvm.Cond.selects "EverybodyHasTheBook$Against" ({ cls := "EverybodyHasTheBook$Goer", name := "kind", desc := "()I" } : Jvm.MethodName) ({ cls := "EverybodyHasTheBook$Against", name := "kind", desc := "()I" } : Jvm.MethodName)) ∈ lw_all := lw_g (lw_at lw_m5 70 rfl) rfl
theorem q1106 : (Jvm.Cond.instanceMethod ({ cls := "EverybodyHasTheBook$Against", name := "kind", desc := "()I" } : Jvm.MethodName)) ∈ lw_all := lw_g (lw_at lw_m5 71 rfl) rfl
theorem q1107 : (Jvm.Cond.code ({ cls := "EverybodyHasTheBook$Against", name := "kind", desc := "()I" } : Jvm.MethodName) prog_2_method_2_code (1 : Nat) (Option.some Jvm.ClassFile.FieldType.int)) ∈ lw_all := lw_g (lw_at lw_m5 72 rfl) rfl
theorem q1150 : (Jvm.Cond.selects "EverybodyHasTheBook$Against" ({ cls := "EverybodyHasTheBook$Goer", name := "isLate", desc := "()Z" } : Jvm.MethodName) ({ cls := "EverybodyHasTheBook$Goer", name := "isLate", desc := "()Z" } : Jvm.MethodName)) ∈ lw_all := lw_g (lw_at lw_m5 115 rfl) rfl
theorem q2036 : (Jvm.Cond.selects "EverybodyHasTheBook$Against" ({ cls := "EverybodyHasTheBook$Goer", name := "score", desc := "(LEverybodyHasTheBook$Valley;I)I" } : Jvm.MethodName) ({ cls := "EverybodyHasTheBook$Against", name := "score", desc := "(LEverybodyHasTheBook$Valley;I)I" } : Jvm.MethodName)) ∈ lw_all := lw_g (lw_at lw_m9 41 rfl) rfl
theorem q2045 : (Jvm.Cond.castable "EverybodyHasTheBook$Against" "EverybodyHasTheBook$Goer") ∈ lw_tbl := lw_at lw_m9 50 rfl
theorem q2050 : (Jvm.Cond.castable "EverybodyHasTheBook$Against" "EverybodyHasTheBook$Booked") ∈ lw_tbl := lw_at lw_m9 55 rfl
theorem in_X7 : ∀ w ∈ wsX70, w ∈ lw_all := lw_in wsX70 [639, 640] (by decide +kernel) (by decide +kernel)
/-! EverybodyHasTheBook$Own -/
set_option maxRecDepth 100000
def RX8 : String := "EverybodyHasTheBook$Own"
def TX8 : u_T := fun k => match k with
  | 0 => ("EverybodyHasTheBook$Goer", "number", "I", true)
  | _ => ("EverybodyHasTheBook$Goer", "a", "I", true)
def tyX8 : Nat → FieldType := fun k => match k with
  | 0 => .int
  | _ => .int
abbrev wsX80 : List Cond := u_ws RX8 TX8 2
theorem nmX8 : ∀ a, a < 2 → ∀ b, b < 2 → a ≠ b → (TX8 a).2.1 ≠ (TX8 b).2.1 := by decide +kernel
theorem tyX8_ok : ∀ k, k < 2 → parseFieldDescriptor (TX8 k).2.2.1 = some (tyX8 k) := by decide +kernel
abbrev cX8_score : ByteArray := prog_8_method_3_code
def yX8_score : MethodName := ⟨RX8, "score", "(LEverybodyHasTheBook$Valley;I)I"⟩
def dkwX8_score_0 : List UInt8 := [43, 180, 0, 7, 28, 46, 43, 180, 0, 13, 28, 46, 5, 108, 100, 172]
abbrev dktX8_score_0 : List UInt8 := dkwX8_score_0 ++ []
theorem dksX8_score_0 : cX8_score.data.toList.drop 0 = dktX8_score_0 := by decide +kernel
theorem dX8_score_0 : decode cX8_score 0 = .ok (.aload_n 1, 1) := dk_43 (dk_at dksX8_score_0 0 rfl rfl)
theorem dX8_score_1 : decode cX8_score 1 = .ok (.getfield 7, 3) := dk_180 0 7 (dk_at dksX8_score_0 1 rfl rfl)
theorem dX8_score_4 : decode cX8_score 4 = .ok (.iload_n 2, 1) := dk_28 (dk_at dksX8_score_0 4 rfl rfl)
theorem dX8_score_5 : decode cX8_score 5 = .ok (.iaload, 1) := dk_46 (dk_at dksX8_score_0 5 rfl rfl)
theorem dX8_score_6 : decode cX8_score 6 = .ok (.aload_n 1, 1) := dk_43 (dk_at dksX8_score_0 6 rfl rfl)
theorem dX8_score_7 : decode cX8_score 7 = .ok (.getfield 13, 3) := dk_180 0 13 (dk_at dksX8_score_0 7 rfl rfl)
theorem dX8_score_10 : decode cX8_score 10 = .ok (.iload_n 2, 1) := dk_28 (dk_at dksX8_score_0 10 rfl rfl)
theorem dX8_score_11 : decode cX8_score 11 = .ok (.iaload, 1) := dk_46 (dk_at dksX8_score_0 11 rfl rfl)
theorem dX8_score_12 : decode cX8_score 12 = .ok (.iconst 2, 1) := dk_5 (dk_at dksX8_score_0 12 rfl rfl)
theorem dX8_score_13 : decode cX8_score 13 = .ok (.idiv, 1) := dk_108 (dk_at dksX8_score_0 13 rfl rfl)
theorem dX8_score_14 : decode cX8_score 14 = .ok (.isub, 1) := dk_100 (dk_at dksX8_score_0 14 rfl rfl)
theorem dX8_score_15 : decode cX8_score 15 = .ok (.ireturn, 1) := dk_172 (dk_at dksX8_score_0 15 rfl rfl)
abbrev cX8_init : ByteArray := prog_8_method_1_code
def yX8_init : MethodName := ⟨RX8, "<init>", "(II)V"⟩
def dkwX8_init_0 : List UInt8 := [42, 27, 28, 183, 0, 1, 177]
abbrev dktX8_init_0 : List UInt8 := dkwX8_init_0 ++ []
theorem dksX8_init_0 : cX8_init.data.toList.drop 0 = dktX8_init_0 := by decide +kernel
theorem dX8_init_0 : decode cX8_init 0 = .ok (.aload_n 0, 1) := dk_42 (dk_at dksX8_init_0 0 rfl rfl)
theorem dX8_init_1 : decode cX8_init 1 = .ok (.iload_n 1, 1) := dk_27 (dk_at dksX8_init_0 1 rfl rfl)
theorem dX8_init_2 : decode cX8_init 2 = .ok (.iload_n 2, 1) := dk_28 (dk_at dksX8_init_0 2 rfl rfl)
theorem dX8_init_3 : decode cX8_init 3 = .ok (.invokespecial 1, 3) := dk_183 0 1 (dk_at dksX8_init_0 3 rfl rfl)
theorem dX8_init_6 : decode cX8_init 6 = .ok (.return_, 1) := dk_177 (dk_at dksX8_init_0 6 rfl rfl)
abbrev cX8_kind : ByteArray := prog_8_method_2_code
def yX8_kind : MethodName := ⟨RX8, "kind", "()I"⟩
theorem dX8_kind_0 : decode cX8_kind 0 = .ok (.iconst 3, 1) := by decide +kernel
theorem dX8_kind_1 : decode cX8_kind 1 = .ok (.ireturn, 1) := by decide +kernel
theorem q96 : (Jvm.Cond.initialized "EverybodyHasTheBook$Own") ∈ lw_all := lw_g (lw_at lw_m1 21 rfl) rfl
theorem q130 : (Jvm.Cond.fieldLink "EverybodyHasTheBook$Own" (7 : Nat) "EverybodyHasTheBook$Valley" "good" "[I") ∈ lw_all := lw_g (lw_at lw_m1 55 rfl) rfl
theorem q137 : (Jvm.Cond.fieldLink "EverybodyHasTheBook$Own" (13 : Nat) "EverybodyHasTheBook$Valley" "price" "[I") ∈ lw_all := lw_g (lw_at lw_m1 62 rfl) rfl
theorem q523 : (Jvm.Cond.unhidden "EverybodyHasTheBook$Own" "first" "(LEverybodyHasTheBook$Valley;I)I") ∈ lw_tbl := lw_at lw_m2 208 rfl
theorem q582 : (Jvm.Cond.castable "EverybodyHasTheBook$Own" "EverybodyHasTheBook$Scores") ∈ lw_tbl := lw_at lw_m3 27 rfl
theorem q583 : (Jvm.Cond.selects "EverybodyHasTheBook$Own" ({ cls := "EverybodyHasTheBook$Scores", name := "score", desc := "(LEverybodyHasTheBook$Valley;I)I" } : Jvm.MethodName) ({ cls := "EverybodyHasTheBook$Own", name := "score", desc := "(LEverybodyHasTheBook$Valley;I)I" } : Jvm.MethodName)) ∈ lw_all := lw_g (lw_at lw_m3 28 rfl) rfl
theorem q584 : (Jvm.Cond.unhidden "EverybodyHasTheBook$Own" "score" "(LEverybodyHasTheBook$Valley;I)I") ∈ lw_tbl := lw_at lw_m3 29 rfl
theorem q585 : (Jvm.Cond.instanceMethod ({ cls := "EverybodyHasTheBook$Own", name := "score", desc := "(LEverybodyHasTheBook$Valley;I)I" } : Jvm.MethodName)) ∈ lw_all := lw_g (lw_at lw_m3 30 rfl) rfl
theorem q586 : (Jvm.Cond.publicMethod ({ cls := "EverybodyHasTheBook$Own", name := "score", desc := "(LEverybodyHasTheBook$Valley;I)I" } : Jvm.MethodName)) ∈ lw_tbl := lw_at lw_m3 31 rfl
theorem q587 : (Jvm.Cond.code ({ cls := "EverybodyHasTheBook$Own", name := "score", desc := "(LEverybodyHasTheBook$Valley;I)I" } : Jvm.MethodName) prog_8_method_3_code (3 : Nat) (Option.some Jvm.ClassFile.FieldType.int)) ∈ lw_all := lw_g (lw_at lw_m3 32 rfl) rfl
theorem q641 : (Jvm.Cond.instantiable "EverybodyHasTheBook$Own" (2 : Nat)) ∈ lw_all := lw_g (lw_at lw_m3 86 rfl) rfl
theorem q643 : (Jvm.Cond.instanceMethod ({ cls := "EverybodyHasTheBook$Own", name := "<init>", desc := "(II)V" } : Jvm.MethodName)) ∈ lw_all := lw_g (lw_at lw_m3 88 rfl) rfl
theorem q644 : (Jvm.Cond.code ({ cls := "EverybodyHasTheBook$Own", name := "<init>", desc := "(II)V" } : Jvm.MethodName) prog_8_method_1_code (3 : Nat) (Option.none : Option Jvm.ClassFile.FieldType)) ∈ lw_all := lw_g (lw_at lw_m3 89 rfl) rfl
theorem q645 : (Jvm.Cond.methodLink "EverybodyHasTheBook$Own" (1 : Nat) ({ cls := "EverybodyHasTheBook$Goer", name := "<init>", desc := "(II)V" } : Jvm.MethodName)) ∈ lw_all := lw_g (lw_at lw_m3 90 rfl) rfl
theorem q646 : (Jvm.Cond.laysFinal "EverybodyHasTheBook$Own" "EverybodyHasTheBook$Goer" "number" "I") ∈ lw_all := lw_g (lw_at lw_m3 91 rfl) rfl
theorem q647 : (Jvm.Cond.laysFinal "EverybodyHasTheBook$Own" "EverybodyHasTheBook$Goer" "a" "I") ∈ lw_all := lw_g (lw_at lw_m3 92 rfl) rfl
theorem q648 : (Jvm.Cond.superclass "EverybodyHasTheBook$Own" "EverybodyHasTheBook$Goer") ∈ lw_all := lw_g (lw_at lw_m3 93 rfl) rfl
theorem q1117 : (Jvm.Cond.selects "EverybodyHasTheBook$Own" ({ cls := "EverybodyHasTheBook$Goer", name := "kind", desc := "()I" } : Jvm.MethodName) ({ cls := "EverybodyHasTheBook$Own", name := "kind", desc := "()I" } : Jvm.MethodName)) ∈ lw_all := lw_g (lw_at lw_m5 82 rfl) rfl
theorem q1118 : (Jvm.Cond.instanceMethod ({ cls := "EverybodyHasTheBook$Own", name := "kind", desc := "()I" } : Jvm.MethodName)) ∈ lw_all := lw_g (lw_at lw_m5 83 rfl) rfl
theorem q1119 : (Jvm.Cond.code ({ cls := "EverybodyHasTheBook$Own", name := "kind", desc := "()I" } : Jvm.MethodName) prog_8_method_2_code (1 : Nat) (Option.some Jvm.ClassFile.FieldType.int)) ∈ lw_all := lw_g (lw_at lw_m5 84 rfl) rfl
theorem q1156 : (Jvm.Cond.selects "EverybodyHasTheBook$Own" ({ cls := "EverybodyHasTheBook$Goer", name := "isLate", desc := "()Z" } : Jvm.MethodName) ({ cls := "EverybodyHasTheBook$Goer", name := "isLate", desc := "()Z" } : Jvm.MethodName)) ∈ lw_all := lw_g (lw_at lw_m5 121 rfl) rfl
theorem q2041 : (Jvm.Cond.selects "EverybodyHasTheBook$Own" ({ cls := "EverybodyHasTheBook$Goer", name := "score", desc := "(LEverybodyHasTheBook$Valley;I)I" } : Jvm.MethodName) ({ cls := "EverybodyHasTheBook$Own", name := "score", desc := "(LEverybodyHasTheBook$Valley;I)I" } : Jvm.MethodName)) ∈ lw_all := lw_g (lw_at lw_m9 46 rfl) rfl
theorem q2049 : (Jvm.Cond.castable "EverybodyHasTheBook$Own" "EverybodyHasTheBook$Goer") ∈ lw_tbl := lw_at lw_m9 54 rfl
theorem in_X8 : ∀ w ∈ wsX80, w ∈ lw_all := lw_in wsX80 [646, 647] (by decide +kernel) (by decide +kernel)
/-! EverybodyHasTheBook$Lettered -/
set_option maxRecDepth 100000
def RX9 : String := "EverybodyHasTheBook$Lettered"
def TX9 : u_T := fun k => match k with
  | 0 => ("EverybodyHasTheBook$Goer", "number", "I", true)
  | _ => ("EverybodyHasTheBook$Goer", "a", "I", true)
def tyX9 : Nat → FieldType := fun k => match k with
  | 0 => .int
  | _ => .int
abbrev wsX90 : List Cond := u_ws RX9 TX9 2
theorem nmX9 : ∀ a, a < 2 → ∀ b, b < 2 → a ≠ b → (TX9 a).2.1 ≠ (TX9 b).2.1 := by decide +kernel
theorem tyX9_ok : ∀ k, k < 2 → parseFieldDescriptor (TX9 k).2.2.1 = some (tyX9 k) := by decide +kernel
abbrev cX9_score : ByteArray := prog_7_method_3_code
def yX9_score : MethodName := ⟨RX9, "score", "(LEverybodyHasTheBook$Valley;I)I"⟩
def dkwX9_score_1 : List UInt8 := [46, 29, 108, 167, 0, 9, 42, 43, 28, 183, 0, 28, 172]
abbrev dktX9_score_1 : List UInt8 := dkwX9_score_1 ++ []
def dkwX9_score_0 : List UInt8 := [43, 180, 0, 7, 28, 46, 62, 29, 4, 42, 180, 0, 13, 184, 0, 19, 161, 0, 14, 43, 180, 0, 25, 28]
abbrev dktX9_score_0 : List UInt8 := dkwX9_score_0 ++ dktX9_score_1
theorem dksX9_score_0 : cX9_score.data.toList.drop 0 = dktX9_score_0 := by decide +kernel
theorem dksX9_score_1 : cX9_score.data.toList.drop 24 = dktX9_score_1 := dk_seg dksX9_score_0 24 rfl rfl
theorem dX9_score_0 : decode cX9_score 0 = .ok (.aload_n 1, 1) := dk_43 (dk_at dksX9_score_0 0 rfl rfl)
theorem dX9_score_1 : decode cX9_score 1 = .ok (.getfield 7, 3) := dk_180 0 7 (dk_at dksX9_score_0 1 rfl rfl)
theorem dX9_score_4 : decode cX9_score 4 = .ok (.iload_n 2, 1) := dk_28 (dk_at dksX9_score_0 4 rfl rfl)
theorem dX9_score_5 : decode cX9_score 5 = .ok (.iaload, 1) := dk_46 (dk_at dksX9_score_0 5 rfl rfl)
theorem dX9_score_6 : decode cX9_score 6 = .ok (.istore_n 3, 1) := dk_62 (dk_at dksX9_score_0 6 rfl rfl)
theorem dX9_score_7 : decode cX9_score 7 = .ok (.iload_n 3, 1) := dk_29 (dk_at dksX9_score_0 7 rfl rfl)
theorem dX9_score_8 : decode cX9_score 8 = .ok (.iconst 1, 1) := dk_4 (dk_at dksX9_score_0 8 rfl rfl)
theorem dX9_score_9 : decode cX9_score 9 = .ok (.aload_n 0, 1) := dk_42 (dk_at dksX9_score_0 9 rfl rfl)
theorem dX9_score_10 : decode cX9_score 10 = .ok (.getfield 13, 3) := dk_180 0 13 (dk_at dksX9_score_0 10 rfl rfl)
theorem dX9_score_13 : decode cX9_score 13 = .ok (.invokestatic 19, 3) := dk_184 0 19 (dk_at dksX9_score_0 13 rfl rfl)
theorem dX9_score_16 : decode cX9_score 16 = .ok (.if_icmp .lt 14, 3) := dk_161 0 14 (dk_at dksX9_score_0 16 rfl rfl)
theorem dX9_score_19 : decode cX9_score 19 = .ok (.aload_n 1, 1) := dk_43 (dk_at dksX9_score_0 19 rfl rfl)
theorem dX9_score_20 : decode cX9_score 20 = .ok (.getfield 25, 3) := dk_180 0 25 (dk_at dksX9_score_0 20 rfl rfl)
theorem dX9_score_23 : decode cX9_score 23 = .ok (.iload_n 2, 1) := dk_28 (dk_at dksX9_score_0 23 rfl rfl)
theorem dX9_score_24 : decode cX9_score 24 = .ok (.iaload, 1) := dk_46 (dk_at dksX9_score_1 0 rfl rfl)
theorem dX9_score_25 : decode cX9_score 25 = .ok (.iload_n 3, 1) := dk_29 (dk_at dksX9_score_1 1 rfl rfl)
theorem dX9_score_26 : decode cX9_score 26 = .ok (.idiv, 1) := dk_108 (dk_at dksX9_score_1 2 rfl rfl)
theorem dX9_score_27 : decode cX9_score 27 = .ok (.goto 9, 3) := dk_167 0 9 (dk_at dksX9_score_1 3 rfl rfl)
theorem dX9_score_30 : decode cX9_score 30 = .ok (.aload_n 0, 1) := dk_42 (dk_at dksX9_score_1 6 rfl rfl)
theorem dX9_score_31 : decode cX9_score 31 = .ok (.aload_n 1, 1) := dk_43 (dk_at dksX9_score_1 7 rfl rfl)
theorem dX9_score_32 : decode cX9_score 32 = .ok (.iload_n 2, 1) := dk_28 (dk_at dksX9_score_1 8 rfl rfl)
theorem dX9_score_33 : decode cX9_score 33 = .ok (.invokespecial 28, 3) := dk_183 0 28 (dk_at dksX9_score_1 9 rfl rfl)
theorem dX9_score_36 : decode cX9_score 36 = .ok (.ireturn, 1) := dk_172 (dk_at dksX9_score_1 12 rfl rfl)
abbrev cX9_init : ByteArray := prog_7_method_1_code
def yX9_init : MethodName := ⟨RX9, "<init>", "(II)V"⟩
def dkwX9_init_0 : List UInt8 := [42, 27, 28, 183, 0, 1, 177]
abbrev dktX9_init_0 : List UInt8 := dkwX9_init_0 ++ []
theorem dksX9_init_0 : cX9_init.data.toList.drop 0 = dktX9_init_0 := by decide +kernel
theorem dX9_init_0 : decode cX9_init 0 = .ok (.aload_n 0, 1) := dk_42 (dk_at dksX9_init_0 0 rfl rfl)
theorem dX9_init_1 : decode cX9_init 1 = .ok (.iload_n 1, 1) := dk_27 (dk_at dksX9_init_0 1 rfl rfl)
theorem dX9_init_2 : decode cX9_init 2 = .ok (.iload_n 2, 1) := dk_28 (dk_at dksX9_init_0 2 rfl rfl)
theorem dX9_init_3 : decode cX9_init 3 = .ok (.invokespecial 1, 3) := dk_183 0 1 (dk_at dksX9_init_0 3 rfl rfl)
theorem dX9_init_6 : decode cX9_init 6 = .ok (.return_, 1) := dk_177 (dk_at dksX9_init_0 6 rfl rfl)
abbrev cX9_kind : ByteArray := prog_7_method_2_code
def yX9_kind : MethodName := ⟨RX9, "kind", "()I"⟩
theorem dX9_kind_0 : decode cX9_kind 0 = .ok (.iconst 4, 1) := by decide +kernel
theorem dX9_kind_1 : decode cX9_kind 1 = .ok (.ireturn, 1) := by decide +kernel
theorem q97 : (Jvm.Cond.initialized "EverybodyHasTheBook$Lettered") ∈ lw_all := lw_g (lw_at lw_m1 22 rfl) rfl
theorem q147 : (Jvm.Cond.fieldLink "EverybodyHasTheBook$Lettered" (7 : Nat) "EverybodyHasTheBook$Valley" "letters" "[I") ∈ lw_all := lw_g (lw_at lw_m1 72 rfl) rfl
theorem q151 : (Jvm.Cond.fieldLink "EverybodyHasTheBook$Lettered" (25 : Nat) "EverybodyHasTheBook$Valley" "sum" "[I") ∈ lw_all := lw_g (lw_at lw_m1 76 rfl) rfl
theorem q522 : (Jvm.Cond.unhidden "EverybodyHasTheBook$Lettered" "first" "(LEverybodyHasTheBook$Valley;I)I") ∈ lw_tbl := lw_at lw_m2 207 rfl
theorem q557 : (Jvm.Cond.selects "EverybodyHasTheBook$Lettered" ({ cls := "EverybodyHasTheBook$Booked", name := "said", desc := "(LEverybodyHasTheBook$Valley;I)I" } : Jvm.MethodName) ({ cls := "EverybodyHasTheBook$Booked", name := "said", desc := "(LEverybodyHasTheBook$Valley;I)I" } : Jvm.MethodName)) ∈ lw_all := lw_g (lw_at lw_m3 2 rfl) rfl
theorem q573 : (Jvm.Cond.castable "EverybodyHasTheBook$Lettered" "EverybodyHasTheBook$Scores") ∈ lw_tbl := lw_at lw_m3 18 rfl
theorem q574 : (Jvm.Cond.selects "EverybodyHasTheBook$Lettered" ({ cls := "EverybodyHasTheBook$Scores", name := "score", desc := "(LEverybodyHasTheBook$Valley;I)I" } : Jvm.MethodName) ({ cls := "EverybodyHasTheBook$Lettered", name := "score", desc := "(LEverybodyHasTheBook$Valley;I)I" } : Jvm.MethodName)) ∈ lw_all := lw_g (lw_at lw_m3 19 rfl) rfl
theorem q575 : (Jvm.Cond.unhidden "EverybodyHasTheBook$Lettered" "score" "(LEverybodyHasTheBook$Valley;I)I") ∈ lw_tbl := lw_at lw_m3 20 rfl
theorem q576 : (Jvm.Cond.instanceMethod ({ cls := "EverybodyHasTheBook$Lettered", name := "score", desc := "(LEverybodyHasTheBook$Valley;I)I" } : Jvm.MethodName)) ∈ lw_all := lw_g (lw_at lw_m3 21 rfl) rfl
theorem q577 : (Jvm.Cond.publicMethod ({ cls := "EverybodyHasTheBook$Lettered", name := "score", desc := "(LEverybodyHasTheBook$Valley;I)I" } : Jvm.MethodName)) ∈ lw_tbl := lw_at lw_m3 22 rfl
theorem q578 : (Jvm.Cond.code ({ cls := "EverybodyHasTheBook$Lettered", name := "score", desc := "(LEverybodyHasTheBook$Valley;I)I" } : Jvm.MethodName) prog_7_method_3_code (4 : Nat) (Option.some Jvm.ClassFile.FieldType.int)) ∈ lw_all := lw_g (lw_at lw_m3 23 rfl) rfl
theorem q579 : (Jvm.Cond.methodLink "EverybodyHasTheBook$Lettered" (19 : Nat) ({ cls := "java/lang/Math", name := "max", desc := "(II)I" } : Jvm.MethodName)) ∈ lw_all := lw_g (lw_at lw_m3 24 rfl) rfl
theorem q580 : (Jvm.Cond.methodLink "EverybodyHasTheBook$Lettered" (28 : Nat) ({ cls := "EverybodyHasTheBook$Booked", name := "score", desc := "(LEverybodyHasTheBook$Valley;I)I" } : Jvm.MethodName)) ∈ lw_all := lw_g (lw_at lw_m3 25 rfl) rfl
theorem q581 : (Jvm.Cond.superclass "EverybodyHasTheBook$Lettered" "EverybodyHasTheBook$Booked") ∈ lw_all := lw_g (lw_at lw_m3 26 rfl) rfl
theorem q618 : (Jvm.Cond.fieldLink "EverybodyHasTheBook$Lettered" (13 : Nat) "EverybodyHasTheBook$Lettered" "a" "I") ∈ lw_all := lw_g (lw_at lw_m3 63 rfl) rfl
theorem q619 : (Jvm.Cond.sameField "EverybodyHasTheBook$Lettered" "EverybodyHasTheBook$Goer" "a" "I") ∈ lw_all := lw_g (lw_at lw_m3 64 rfl) rfl
theorem q649 : (Jvm.Cond.instantiable "EverybodyHasTheBook$Lettered" (2 : Nat)) ∈ lw_all := lw_g (lw_at lw_m3 94 rfl) rfl
theorem q651 : (Jvm.Cond.instanceMethod ({ cls := "EverybodyHasTheBook$Lettered", name := "<init>", desc := "(II)V" } : Jvm.MethodName)) ∈ lw_all := lw_g (lw_at lw_m3 96 rfl) rfl
theorem q652 : (Jvm.Cond.code ({ cls := "EverybodyHasTheBook$Lettered", name := "<init>", desc := "(II)V" } : Jvm.MethodName) prog_7_method_1_code (3 : Nat) (Option.none : Option Jvm.ClassFile.FieldType)) ∈ lw_all := lw_g (lw_at lw_m3 97 rfl) rfl
theorem q653 : (Jvm.Cond.methodLink "EverybodyHasTheBook$Lettered" (1 : Nat) ({ cls := "EverybodyHasTheBook$Booked", name := "<init>", desc := "(II)V" } : Jvm.MethodName)) ∈ lw_all := lw_g (lw_at lw_m3 98 rfl) rfl
theorem q654 : (Jvm.Cond.laysFinal "EverybodyHasTheBook$Lettered" "EverybodyHasTheBook$Goer" "number" "I") ∈ lw_all := lw_g (lw_at lw_m3 99 rfl) rfl
theorem q655 : (Jvm.Cond.laysFinal "EverybodyHasTheBook$Lettered" "EverybodyHasTheBook$Goer" "a" "I") ∈ lw_all := lw_g (lw_at lw_m3 100 rfl) rfl
theorem q1114 : (Jvm.Cond.selects "EverybodyHasTheBook$Lettered" ({ cls := "EverybodyHasTheBook$Goer", name := "kind", desc := "()I" } : Jvm.MethodName) ({ cls := "EverybodyHasTheBook$Lettered", name := "kind", desc := "()I" } : Jvm.MethodName)) ∈ lw_all := lw_g (lw_at lw_m5 79 rfl) rfl
theorem q1115 : (Jvm.Cond.instanceMethod ({ cls := "EverybodyHasTheBook$Lettered", name := "kind", desc := "()I" } : Jvm.MethodName)) ∈ lw_all := lw_g (lw_at lw_m5 80 rfl) rfl
theorem q1116 : (Jvm.Cond.code ({ cls := "EverybodyHasTheBook$Lettered", name := "kind", desc := "()I" } : Jvm.MethodName) prog_7_method_2_code (1 : Nat) (Option.some Jvm.ClassFile.FieldType.int)) ∈ lw_all := lw_g (lw_at lw_m5 81 rfl) rfl
theorem q1155 : (Jvm.Cond.selects "EverybodyHasTheBook$Lettered" ({ cls := "EverybodyHasTheBook$Goer", name := "isLate", desc := "()Z" } : Jvm.MethodName) ({ cls := "EverybodyHasTheBook$Goer", name := "isLate", desc := "()Z" } : Jvm.MethodName)) ∈ lw_all := lw_g (lw_at lw_m5 120 rfl) rfl
theorem q2040 : (Jvm.Cond.selects "EverybodyHasTheBook$Lettered" ({ cls := "EverybodyHasTheBook$Goer", name := "score", desc := "(LEverybodyHasTheBook$Valley;I)I" } : Jvm.MethodName) ({ cls := "EverybodyHasTheBook$Lettered", name := "score", desc := "(LEverybodyHasTheBook$Valley;I)I" } : Jvm.MethodName)) ∈ lw_all := lw_g (lw_at lw_m9 45 rfl) rfl
theorem q2048 : (Jvm.Cond.castable "EverybodyHasTheBook$Lettered" "EverybodyHasTheBook$Goer") ∈ lw_tbl := lw_at lw_m9 53 rfl
theorem q2052 : (Jvm.Cond.castable "EverybodyHasTheBook$Lettered" "EverybodyHasTheBook$Booked") ∈ lw_tbl := lw_at lw_m9 57 rfl
theorem in_X9 : ∀ w ∈ wsX90, w ∈ lw_all := lw_in wsX90 [654, 655] (by decide +kernel) (by decide +kernel)
/-! EverybodyHasTheBook$Late -/
set_option maxRecDepth 100000
def RX10 : String := "EverybodyHasTheBook$Late"
def TX10 : u_T := fun k => match k with
  | 0 => ("EverybodyHasTheBook$Goer", "number", "I", true)
  | _ => ("EverybodyHasTheBook$Goer", "a", "I", true)
def tyX10 : Nat → FieldType := fun k => match k with
  | 0 => .int
  | _ => .int
abbrev wsX100 : List Cond := u_ws RX10 TX10 2
theorem nmX10 : ∀ a, a < 2 → ∀ b, b < 2 → a ≠ b → (TX10 a).2.1 ≠ (TX10 b).2.1 := by decide +kernel
theorem tyX10_ok : ∀ k, k < 2 → parseFieldDescriptor (TX10 k).2.2.1 = some (tyX10 k) := by decide +kernel
abbrev cX10_init : ByteArray := prog_6_method_1_code
def yX10_init : MethodName := ⟨RX10, "<init>", "(II)V"⟩
def dkwX10_init_0 : List UInt8 := [42, 27, 28, 183, 0, 1, 177]
abbrev dktX10_init_0 : List UInt8 := dkwX10_init_0 ++ []
theorem dksX10_init_0 : cX10_init.data.toList.drop 0 = dktX10_init_0 := by decide +kernel
theorem dX10_init_0 : decode cX10_init 0 = .ok (.aload_n 0, 1) := dk_42 (dk_at dksX10_init_0 0 rfl rfl)
theorem dX10_init_1 : decode cX10_init 1 = .ok (.iload_n 1, 1) := dk_27 (dk_at dksX10_init_0 1 rfl rfl)
theorem dX10_init_2 : decode cX10_init 2 = .ok (.iload_n 2, 1) := dk_28 (dk_at dksX10_init_0 2 rfl rfl)
theorem dX10_init_3 : decode cX10_init 3 = .ok (.invokespecial 1, 3) := dk_183 0 1 (dk_at dksX10_init_0 3 rfl rfl)
theorem dX10_init_6 : decode cX10_init 6 = .ok (.return_, 1) := dk_177 (dk_at dksX10_init_0 6 rfl rfl)
abbrev cX10_kind : ByteArray := prog_6_method_2_code
def yX10_kind : MethodName := ⟨RX10, "kind", "()I"⟩
theorem dX10_kind_0 : decode cX10_kind 0 = .ok (.iconst 5, 1) := by decide +kernel
theorem dX10_kind_1 : decode cX10_kind 1 = .ok (.ireturn, 1) := by decide +kernel
abbrev cX10_isLate : ByteArray := prog_6_method_3_code
def yX10_isLate : MethodName := ⟨RX10, "isLate", "()Z"⟩
theorem dX10_isLate_0 : decode cX10_isLate 0 = .ok (.iconst 1, 1) := by decide +kernel
theorem dX10_isLate_1 : decode cX10_isLate 1 = .ok (.ireturn, 1) := by decide +kernel
theorem q98 : (Jvm.Cond.initialized "EverybodyHasTheBook$Late") ∈ lw_all := lw_g (lw_at lw_m1 23 rfl) rfl
theorem q521 : (Jvm.Cond.unhidden "EverybodyHasTheBook$Late" "first" "(LEverybodyHasTheBook$Valley;I)I") ∈ lw_tbl := lw_at lw_m2 206 rfl
theorem q556 : (Jvm.Cond.selects "EverybodyHasTheBook$Late" ({ cls := "EverybodyHasTheBook$Booked", name := "said", desc := "(LEverybodyHasTheBook$Valley;I)I" } : Jvm.MethodName) ({ cls := "EverybodyHasTheBook$Booked", name := "said", desc := "(LEverybodyHasTheBook$Valley;I)I" } : Jvm.MethodName)) ∈ lw_all := lw_g (lw_at lw_m3 1 rfl) rfl
theorem q570 : (Jvm.Cond.castable "EverybodyHasTheBook$Late" "EverybodyHasTheBook$Scores") ∈ lw_tbl := lw_at lw_m3 15 rfl
theorem q571 : (Jvm.Cond.selects "EverybodyHasTheBook$Late" ({ cls := "EverybodyHasTheBook$Scores", name := "score", desc := "(LEverybodyHasTheBook$Valley;I)I" } : Jvm.MethodName) ({ cls := "EverybodyHasTheBook$Booked", name := "score", desc := "(LEverybodyHasTheBook$Valley;I)I" } : Jvm.MethodName)) ∈ lw_all := lw_g (lw_at lw_m3 16 rfl) rfl
theorem q572 : (Jvm.Cond.unhidden "EverybodyHasTheBook$Late" "score" "(LEverybodyHasTheBook$Valley;I)I") ∈ lw_tbl := lw_at lw_m3 17 rfl
theorem q656 : (Jvm.Cond.instantiable "EverybodyHasTheBook$Late" (2 : Nat)) ∈ lw_all := lw_g (lw_at lw_m3 101 rfl) rfl
theorem q658 : (Jvm.Cond.instanceMethod ({ cls := "EverybodyHasTheBook$Late", name := "<init>", desc := "(II)V" } : Jvm.MethodName)) ∈ lw_all := lw_g (lw_at lw_m3 103 rfl) rfl
theorem q659 : (Jvm.Cond.code ({ cls := "EverybodyHasTheBook$Late", name := "<init>", desc := "(II)V" } : Jvm.MethodName) prog_6_method_1_code (3 : Nat) (Option.none : Option Jvm.ClassFile.FieldType)) ∈ lw_all := lw_g (lw_at lw_m3 104 rfl) rfl
theorem q660 : (Jvm.Cond.methodLink "EverybodyHasTheBook$Late" (1 : Nat) ({ cls := "EverybodyHasTheBook$Booked", name := "<init>", desc := "(II)V" } : Jvm.MethodName)) ∈ lw_all := lw_g (lw_at lw_m3 105 rfl) rfl
theorem q661 : (Jvm.Cond.laysFinal "EverybodyHasTheBook$Late" "EverybodyHasTheBook$Goer" "number" "I") ∈ lw_all := lw_g (lw_at lw_m3 106 rfl) rfl
theorem q662 : (Jvm.Cond.laysFinal "EverybodyHasTheBook$Late" "EverybodyHasTheBook$Goer" "a" "I") ∈ lw_all := lw_g (lw_at lw_m3 107 rfl) rfl
theorem q663 : (Jvm.Cond.superclass "EverybodyHasTheBook$Late" "EverybodyHasTheBook$Booked") ∈ lw_all := lw_g (lw_at lw_m3 108 rfl) rfl
theorem q1111 : (Jvm.Cond.selects "EverybodyHasTheBook$Late" ({ cls := "EverybodyHasTheBook$Goer", name := "kind", desc := "()I" } : Jvm.MethodName) ({ cls := "EverybodyHasTheBook$Late", name := "kind", desc := "()I" } : Jvm.MethodName)) ∈ lw_all := lw_g (lw_at lw_m5 76 rfl) rfl
theorem q1112 : (Jvm.Cond.instanceMethod ({ cls := "EverybodyHasTheBook$Late", name := "kind", desc := "()I" } : Jvm.MethodName)) ∈ lw_all := lw_g (lw_at lw_m5 77 rfl) rfl
theorem q1113 : (Jvm.Cond.code ({ cls := "EverybodyHasTheBook$Late", name := "kind", desc := "()I" } : Jvm.MethodName) prog_6_method_2_code (1 : Nat) (Option.some Jvm.ClassFile.FieldType.int)) ∈ lw_all := lw_g (lw_at lw_m5 78 rfl) rfl
theorem q1152 : (Jvm.Cond.selects "EverybodyHasTheBook$Late" ({ cls := "EverybodyHasTheBook$Goer", name := "isLate", desc := "()Z" } : Jvm.MethodName) ({ cls := "EverybodyHasTheBook$Late", name := "isLate", desc := "()Z" } : Jvm.MethodName)) ∈ lw_all := lw_g (lw_at lw_m5 117 rfl) rfl
theorem q1153 : (Jvm.Cond.instanceMethod ({ cls := "EverybodyHasTheBook$Late", name := "isLate", desc := "()Z" } : Jvm.MethodName)) ∈ lw_all := lw_g (lw_at lw_m5 118 rfl) rfl
theorem q1154 : (Jvm.Cond.code ({ cls := "EverybodyHasTheBook$Late", name := "isLate", desc := "()Z" } : Jvm.MethodName) prog_6_method_3_code (1 : Nat) (Option.some Jvm.ClassFile.FieldType.boolean)) ∈ lw_all := lw_g (lw_at lw_m5 119 rfl) rfl
theorem q2039 : (Jvm.Cond.selects "EverybodyHasTheBook$Late" ({ cls := "EverybodyHasTheBook$Goer", name := "score", desc := "(LEverybodyHasTheBook$Valley;I)I" } : Jvm.MethodName) ({ cls := "EverybodyHasTheBook$Booked", name := "score", desc := "(LEverybodyHasTheBook$Valley;I)I" } : Jvm.MethodName)) ∈ lw_all := lw_g (lw_at lw_m9 44 rfl) rfl
theorem q2047 : (Jvm.Cond.castable "EverybodyHasTheBook$Late" "EverybodyHasTheBook$Goer") ∈ lw_tbl := lw_at lw_m9 52 rfl
theorem q2051 : (Jvm.Cond.castable "EverybodyHasTheBook$Late" "EverybodyHasTheBook$Booked") ∈ lw_tbl := lw_at lw_m9 56 rfl
theorem in_X10 : ∀ w ∈ wsX100, w ∈ lw_all := lw_in wsX100 [661, 662] (by decide +kernel) (by decide +kernel)
/-! EverybodyHasTheBook$Reader -/
set_option maxRecDepth 100000
def RX11 : String := "EverybodyHasTheBook$Reader"
def TX11 : u_T := fun k => match k with
  | 0 => ("EverybodyHasTheBook$Reader", "tape", "[I", true)
  | 1 => ("EverybodyHasTheBook$Reader", "size", "I", true)
  | 2 => ("EverybodyHasTheBook$Reader", "valley", "LEverybodyHasTheBook$Valley;", true)
  | 3 => ("EverybodyHasTheBook$Reader", "at", "I", false)
  | 4 => ("EverybodyHasTheBook$Reader", "from", "I", false)
  | 5 => ("EverybodyHasTheBook$Reader", "word", "Ljava/lang/String;", false)
  | _ => ("EverybodyHasTheBook$Reader", "number", "I", false)
def tyX11 : Nat → FieldType := fun k => match k with
  | 0 => .array .int
  | 1 => .int
  | 2 => .object "EverybodyHasTheBook$Valley"
  | 3 => .int
  | 4 => .int
  | 5 => .object "java/lang/String"
  | _ => .int
abbrev wsX110 : List Cond := u_ws RX11 TX11 7
theorem nmX11 : ∀ a, a < 7 → ∀ b, b < 7 → a ≠ b → (TX11 a).2.1 ≠ (TX11 b).2.1 := by decide +kernel
theorem tyX11_ok : ∀ k, k < 7 → parseFieldDescriptor (TX11 k).2.2.1 = some (tyX11 k) := by decide +kernel
abbrev cX11_init : ByteArray := prog_9_method_1_code
def yX11_init : MethodName := ⟨RX11, "<init>", "([IILEverybodyHasTheBook$Valley;)V"⟩
def dkwX11_init_0 : List UInt8 := [42, 183, 0, 3, 42, 43, 181, 0, 9, 42, 28, 181, 0, 15, 42, 45, 181, 0, 19, 177]
abbrev dktX11_init_0 : List UInt8 := dkwX11_init_0 ++ []
theorem dksX11_init_0 : cX11_init.data.toList.drop 0 = dktX11_init_0 := by decide +kernel
theorem dX11_init_0 : decode cX11_init 0 = .ok (.aload_n 0, 1) := dk_42 (dk_at dksX11_init_0 0 rfl rfl)
theorem dX11_init_1 : decode cX11_init 1 = .ok (.invokespecial 3, 3) := dk_183 0 3 (dk_at dksX11_init_0 1 rfl rfl)
theorem dX11_init_4 : decode cX11_init 4 = .ok (.aload_n 0, 1) := dk_42 (dk_at dksX11_init_0 4 rfl rfl)
theorem dX11_init_5 : decode cX11_init 5 = .ok (.aload_n 1, 1) := dk_43 (dk_at dksX11_init_0 5 rfl rfl)
theorem dX11_init_6 : decode cX11_init 6 = .ok (.putfield 9, 3) := dk_181 0 9 (dk_at dksX11_init_0 6 rfl rfl)
theorem dX11_init_9 : decode cX11_init 9 = .ok (.aload_n 0, 1) := dk_42 (dk_at dksX11_init_0 9 rfl rfl)
theorem dX11_init_10 : decode cX11_init 10 = .ok (.iload_n 2, 1) := dk_28 (dk_at dksX11_init_0 10 rfl rfl)
theorem dX11_init_11 : decode cX11_init 11 = .ok (.putfield 15, 3) := dk_181 0 15 (dk_at dksX11_init_0 11 rfl rfl)
theorem dX11_init_14 : decode cX11_init 14 = .ok (.aload_n 0, 1) := dk_42 (dk_at dksX11_init_0 14 rfl rfl)
theorem dX11_init_15 : decode cX11_init 15 = .ok (.aload_n 3, 1) := dk_45 (dk_at dksX11_init_0 15 rfl rfl)
theorem dX11_init_16 : decode cX11_init 16 = .ok (.putfield 19, 3) := dk_181 0 19 (dk_at dksX11_init_0 16 rfl rfl)
theorem dX11_init_19 : decode cX11_init 19 = .ok (.return_, 1) := dk_177 (dk_at dksX11_init_0 19 rfl rfl)
abbrev cX11_read : ByteArray := prog_9_method_13_code
def yX11_read : MethodName := ⟨RX11, "read", "()I"⟩
def dkwX11_read_1 : List UInt8 := [182, 0, 94, 154, 0, 8, 42, 182, 0, 73, 191, 42, 182, 0, 150, 132, 1, 1, 167, 255, 224, 27, 172]
abbrev dktX11_read_1 : List UInt8 := dkwX11_read_1 ++ []
def dkwX11_read_0 : List UInt8 := [4, 60, 42, 182, 0, 70, 42, 182, 0, 150, 42, 180, 0, 30, 42, 180, 0, 15, 162, 0, 27, 42, 18, 57]
abbrev dktX11_read_0 : List UInt8 := dkwX11_read_0 ++ dktX11_read_1
theorem dksX11_read_0 : cX11_read.data.toList.drop 0 = dktX11_read_0 := by decide +kernel
theorem dksX11_read_1 : cX11_read.data.toList.drop 24 = dktX11_read_1 := dk_seg dksX11_read_0 24 rfl rfl
theorem dX11_read_0 : decode cX11_read 0 = .ok (.iconst 1, 1) := dk_4 (dk_at dksX11_read_0 0 rfl rfl)
theorem dX11_read_1 : decode cX11_read 1 = .ok (.istore_n 1, 1) := dk_60 (dk_at dksX11_read_0 1 rfl rfl)
theorem dX11_read_2 : decode cX11_read 2 = .ok (.aload_n 0, 1) := dk_42 (dk_at dksX11_read_0 2 rfl rfl)
theorem dX11_read_3 : decode cX11_read 3 = .ok (.invokevirtual 70, 3) := dk_182 0 70 (dk_at dksX11_read_0 3 rfl rfl)
theorem dX11_read_6 : decode cX11_read 6 = .ok (.aload_n 0, 1) := dk_42 (dk_at dksX11_read_0 6 rfl rfl)
theorem dX11_read_7 : decode cX11_read 7 = .ok (.invokevirtual 150, 3) := dk_182 0 150 (dk_at dksX11_read_0 7 rfl rfl)
theorem dX11_read_10 : decode cX11_read 10 = .ok (.aload_n 0, 1) := dk_42 (dk_at dksX11_read_0 10 rfl rfl)
theorem dX11_read_11 : decode cX11_read 11 = .ok (.getfield 30, 3) := dk_180 0 30 (dk_at dksX11_read_0 11 rfl rfl)
theorem dX11_read_14 : decode cX11_read 14 = .ok (.aload_n 0, 1) := dk_42 (dk_at dksX11_read_0 14 rfl rfl)
theorem dX11_read_15 : decode cX11_read 15 = .ok (.getfield 15, 3) := dk_180 0 15 (dk_at dksX11_read_0 15 rfl rfl)
theorem dX11_read_18 : decode cX11_read 18 = .ok (.if_icmp .ge 27, 3) := dk_162 0 27 (dk_at dksX11_read_0 18 rfl rfl)
theorem dX11_read_21 : decode cX11_read 21 = .ok (.aload_n 0, 1) := dk_42 (dk_at dksX11_read_0 21 rfl rfl)
theorem dX11_read_22 : decode cX11_read 22 = .ok (.ldc 57, 2) := dk_18 57 (dk_at dksX11_read_0 22 rfl rfl)
theorem dX11_read_24 : decode cX11_read 24 = .ok (.invokevirtual 94, 3) := dk_182 0 94 (dk_at dksX11_read_1 0 rfl rfl)
theorem dX11_read_27 : decode cX11_read 27 = .ok (.ifCond .ne 8, 3) := dk_154 0 8 (dk_at dksX11_read_1 3 rfl rfl)
theorem dX11_read_30 : decode cX11_read 30 = .ok (.aload_n 0, 1) := dk_42 (dk_at dksX11_read_1 6 rfl rfl)
theorem dX11_read_31 : decode cX11_read 31 = .ok (.invokevirtual 73, 3) := dk_182 0 73 (dk_at dksX11_read_1 7 rfl rfl)
theorem dX11_read_34 : decode cX11_read 34 = .ok (.athrow, 1) := dk_191 (dk_at dksX11_read_1 10 rfl rfl)
theorem dX11_read_35 : decode cX11_read 35 = .ok (.aload_n 0, 1) := dk_42 (dk_at dksX11_read_1 11 rfl rfl)
theorem dX11_read_36 : decode cX11_read 36 = .ok (.invokevirtual 150, 3) := dk_182 0 150 (dk_at dksX11_read_1 12 rfl rfl)
theorem dX11_read_39 : decode cX11_read 39 = .ok (.iinc 1 1, 3) := dk_132 1 1 (dk_at dksX11_read_1 15 rfl rfl)
theorem dX11_read_42 : decode cX11_read 42 = .ok (.goto (-32), 3) := dk_167 255 224 (dk_at dksX11_read_1 18 rfl rfl)
theorem dX11_read_45 : decode cX11_read 45 = .ok (.iload_n 1, 1) := dk_27 (dk_at dksX11_read_1 21 rfl rfl)
theorem dX11_read_46 : decode cX11_read 46 = .ok (.ireturn, 1) := dk_172 (dk_at dksX11_read_1 22 rfl rfl)
abbrev cX11_next : ByteArray := prog_9_method_3_code
def yX11_next : MethodName := ⟨RX11, "next", "()V"⟩
def dkwX11_next_9 : List UInt8 := [42, 18, 57, 181, 0, 33, 42, 89, 180, 0, 23, 4, 96, 181, 0, 23, 177]
abbrev dktX11_next_9 : List UInt8 := dkwX11_next_9 ++ []
def dkwX11_next_8 : List UInt8 := [17, 3, 232, 167, 0, 4, 27, 181, 0, 37, 167, 0, 30, 42, 16, 59, 16, 59, 182, 0, 26, 153, 0, 19]
abbrev dktX11_next_8 : List UInt8 := dkwX11_next_8 ++ dktX11_next_9
def dkwX11_next_7 : List UInt8 := [4, 96, 181, 0, 23, 167, 255, 211, 42, 42, 180, 0, 23, 42, 180, 0, 30, 100, 6, 164, 0, 9]
abbrev dktX11_next_7 : List UInt8 := dkwX11_next_7 ++ dktX11_next_8
def dkwX11_next_6 : List UInt8 := [27, 104, 42, 180, 0, 9, 42, 180, 0, 23, 46, 96, 16, 48, 100, 184, 0, 51, 60, 42, 89, 180, 0, 23]
abbrev dktX11_next_6 : List UInt8 := dkwX11_next_6 ++ dktX11_next_7
def dkwX11_next_5 : List UInt8 := [182, 0, 26, 153, 0, 80, 3, 60, 42, 16, 48, 16, 57, 182, 0, 26, 153, 0, 40, 17, 3, 232, 16, 10]
abbrev dktX11_next_5 : List UInt8 := dkwX11_next_5 ++ dktX11_next_6
def dkwX11_next_4 : List UInt8 := [96, 181, 0, 23, 167, 255, 220, 42, 43, 182, 0, 47, 181, 0, 33, 167, 0, 118, 42, 16, 48, 16, 57]
abbrev dktX11_next_4 : List UInt8 := dkwX11_next_4 ++ dktX11_next_5
def dkwX11_next_3 : List UInt8 := [153, 0, 31, 43, 42, 180, 0, 9, 42, 180, 0, 23, 46, 146, 182, 0, 43, 87, 42, 89, 180, 0, 23, 4]
abbrev dktX11_next_3 : List UInt8 := dkwX11_next_3 ++ dktX11_next_4
def dkwX11_next_2 : List UInt8 := [182, 0, 26, 153, 0, 61, 187, 0, 40, 89, 183, 0, 42, 76, 42, 16, 97, 16, 122, 182, 0, 26]
abbrev dktX11_next_2 : List UInt8 := dkwX11_next_2 ++ dktX11_next_3
def dkwX11_next_1 : List UInt8 := [42, 42, 180, 0, 23, 181, 0, 30, 42, 1, 181, 0, 33, 42, 2, 181, 0, 37, 42, 16, 97, 16, 122]
abbrev dktX11_next_1 : List UInt8 := dkwX11_next_1 ++ dktX11_next_2
def dkwX11_next_0 : List UInt8 := [42, 16, 32, 16, 32, 182, 0, 26, 153, 0, 16, 42, 89, 180, 0, 23, 4, 96, 181, 0, 23, 167, 255, 235]
abbrev dktX11_next_0 : List UInt8 := dkwX11_next_0 ++ dktX11_next_1
theorem dksX11_next_0 : cX11_next.data.toList.drop 0 = dktX11_next_0 := by decide +kernel
theorem dksX11_next_1 : cX11_next.data.toList.drop 24 = dktX11_next_1 := dk_seg dksX11_next_0 24 rfl rfl
theorem dksX11_next_2 : cX11_next.data.toList.drop 47 = dktX11_next_2 := dk_seg dksX11_next_1 23 rfl rfl
theorem dksX11_next_3 : cX11_next.data.toList.drop 69 = dktX11_next_3 := dk_seg dksX11_next_2 22 rfl rfl
theorem dksX11_next_4 : cX11_next.data.toList.drop 93 = dktX11_next_4 := dk_seg dksX11_next_3 24 rfl rfl
theorem dksX11_next_5 : cX11_next.data.toList.drop 116 = dktX11_next_5 := dk_seg dksX11_next_4 23 rfl rfl
theorem dksX11_next_6 : cX11_next.data.toList.drop 140 = dktX11_next_6 := dk_seg dksX11_next_5 24 rfl rfl
theorem dksX11_next_7 : cX11_next.data.toList.drop 164 = dktX11_next_7 := dk_seg dksX11_next_6 24 rfl rfl
theorem dksX11_next_8 : cX11_next.data.toList.drop 186 = dktX11_next_8 := dk_seg dksX11_next_7 22 rfl rfl
theorem dksX11_next_9 : cX11_next.data.toList.drop 210 = dktX11_next_9 := dk_seg dksX11_next_8 24 rfl rfl
theorem dX11_next_0 : decode cX11_next 0 = .ok (.aload_n 0, 1) := dk_42 (dk_at dksX11_next_0 0 rfl rfl)
theorem dX11_next_1 : decode cX11_next 1 = .ok (.bipush 32, 2) := dk_16 32 (dk_at dksX11_next_0 1 rfl rfl)
theorem dX11_next_3 : decode cX11_next 3 = .ok (.bipush 32, 2) := dk_16 32 (dk_at dksX11_next_0 3 rfl rfl)
theorem dX11_next_5 : decode cX11_next 5 = .ok (.invokevirtual 26, 3) := dk_182 0 26 (dk_at dksX11_next_0 5 rfl rfl)
theorem dX11_next_8 : decode cX11_next 8 = .ok (.ifCond .eq 16, 3) := dk_153 0 16 (dk_at dksX11_next_0 8 rfl rfl)
theorem dX11_next_11 : decode cX11_next 11 = .ok (.aload_n 0, 1) := dk_42 (dk_at dksX11_next_0 11 rfl rfl)
theorem dX11_next_12 : decode cX11_next 12 = .ok (.dup, 1) := dk_89 (dk_at dksX11_next_0 12 rfl rfl)
theorem dX11_next_13 : decode cX11_next 13 = .ok (.getfield 23, 3) := dk_180 0 23 (dk_at dksX11_next_0 13 rfl rfl)
theorem dX11_next_16 : decode cX11_next 16 = .ok (.iconst 1, 1) := dk_4 (dk_at dksX11_next_0 16 rfl rfl)
theorem dX11_next_17 : decode cX11_next 17 = .ok (.iadd, 1) := dk_96 (dk_at dksX11_next_0 17 rfl rfl)
theorem dX11_next_18 : decode cX11_next 18 = .ok (.putfield 23, 3) := dk_181 0 23 (dk_at dksX11_next_0 18 rfl rfl)
theorem dX11_next_21 : decode cX11_next 21 = .ok (.goto (-21), 3) := dk_167 255 235 (dk_at dksX11_next_0 21 rfl rfl)
theorem dX11_next_24 : decode cX11_next 24 = .ok (.aload_n 0, 1) := dk_42 (dk_at dksX11_next_1 0 rfl rfl)
theorem dX11_next_25 : decode cX11_next 25 = .ok (.aload_n 0, 1) := dk_42 (dk_at dksX11_next_1 1 rfl rfl)
theorem dX11_next_26 : decode cX11_next 26 = .ok (.getfield 23, 3) := dk_180 0 23 (dk_at dksX11_next_1 2 rfl rfl)
theorem dX11_next_29 : decode cX11_next 29 = .ok (.putfield 30, 3) := dk_181 0 30 (dk_at dksX11_next_1 5 rfl rfl)
theorem dX11_next_32 : decode cX11_next 32 = .ok (.aload_n 0, 1) := dk_42 (dk_at dksX11_next_1 8 rfl rfl)
theorem dX11_next_33 : decode cX11_next 33 = .ok (.aconst_null, 1) := dk_1 (dk_at dksX11_next_1 9 rfl rfl)
theorem dX11_next_34 : decode cX11_next 34 = .ok (.putfield 33, 3) := dk_181 0 33 (dk_at dksX11_next_1 10 rfl rfl)
theorem dX11_next_37 : decode cX11_next 37 = .ok (.aload_n 0, 1) := dk_42 (dk_at dksX11_next_1 13 rfl rfl)
theorem dX11_next_38 : decode cX11_next 38 = .ok (.iconst (-1), 1) := dk_2 (dk_at dksX11_next_1 14 rfl rfl)
theorem dX11_next_39 : decode cX11_next 39 = .ok (.putfield 37, 3) := dk_181 0 37 (dk_at dksX11_next_1 15 rfl rfl)
theorem dX11_next_42 : decode cX11_next 42 = .ok (.aload_n 0, 1) := dk_42 (dk_at dksX11_next_1 18 rfl rfl)
theorem dX11_next_43 : decode cX11_next 43 = .ok (.bipush 97, 2) := dk_16 97 (dk_at dksX11_next_1 19 rfl rfl)
theorem dX11_next_45 : decode cX11_next 45 = .ok (.bipush 122, 2) := dk_16 122 (dk_at dksX11_next_1 21 rfl rfl)
theorem dX11_next_47 : decode cX11_next 47 = .ok (.invokevirtual 26, 3) := dk_182 0 26 (dk_at dksX11_next_2 0 rfl rfl)
theorem dX11_next_50 : decode cX11_next 50 = .ok (.ifCond .eq 61, 3) := dk_153 0 61 (dk_at dksX11_next_2 3 rfl rfl)
theorem dX11_next_53 : decode cX11_next 53 = .ok (.new 40, 3) := dk_187 0 40 (dk_at dksX11_next_2 6 rfl rfl)
theorem dX11_next_56 : decode cX11_next 56 = .ok (.dup, 1) := dk_89 (dk_at dksX11_next_2 9 rfl rfl)
theorem dX11_next_57 : decode cX11_next 57 = .ok (.invokespecial 42, 3) := dk_183 0 42 (dk_at dksX11_next_2 10 rfl rfl)
theorem dX11_next_60 : decode cX11_next 60 = .ok (.astore_n 1, 1) := dk_76 (dk_at dksX11_next_2 13 rfl rfl)
theorem dX11_next_61 : decode cX11_next 61 = .ok (.aload_n 0, 1) := dk_42 (dk_at dksX11_next_2 14 rfl rfl)
theorem dX11_next_62 : decode cX11_next 62 = .ok (.bipush 97, 2) := dk_16 97 (dk_at dksX11_next_2 15 rfl rfl)
theorem dX11_next_64 : decode cX11_next 64 = .ok (.bipush 122, 2) := dk_16 122 (dk_at dksX11_next_2 17 rfl rfl)
theorem dX11_next_66 : decode cX11_next 66 = .ok (.invokevirtual 26, 3) := dk_182 0 26 (dk_at dksX11_next_2 19 rfl rfl)
theorem dX11_next_69 : decode cX11_next 69 = .ok (.ifCond .eq 31, 3) := dk_153 0 31 (dk_at dksX11_next_3 0 rfl rfl)
theorem dX11_next_72 : decode cX11_next 72 = .ok (.aload_n 1, 1) := dk_43 (dk_at dksX11_next_3 3 rfl rfl)
theorem dX11_next_73 : decode cX11_next 73 = .ok (.aload_n 0, 1) := dk_42 (dk_at dksX11_next_3 4 rfl rfl)
theorem dX11_next_74 : decode cX11_next 74 = .ok (.getfield 9, 3) := dk_180 0 9 (dk_at dksX11_next_3 5 rfl rfl)
theorem dX11_next_77 : decode cX11_next 77 = .ok (.aload_n 0, 1) := dk_42 (dk_at dksX11_next_3 8 rfl rfl)
theorem dX11_next_78 : decode cX11_next 78 = .ok (.getfield 23, 3) := dk_180 0 23 (dk_at dksX11_next_3 9 rfl rfl)
theorem dX11_next_81 : decode cX11_next 81 = .ok (.iaload, 1) := dk_46 (dk_at dksX11_next_3 12 rfl rfl)
theorem dX11_next_82 : decode cX11_next 82 = .ok (.i2c, 1) := dk_146 (dk_at dksX11_next_3 13 rfl rfl)
theorem dX11_next_83 : decode cX11_next 83 = .ok (.invokevirtual 43, 3) := dk_182 0 43 (dk_at dksX11_next_3 14 rfl rfl)
theorem dX11_next_86 : decode cX11_next 86 = .ok (.pop, 1) := dk_87 (dk_at dksX11_next_3 17 rfl rfl)
theorem dX11_next_87 : decode cX11_next 87 = .ok (.aload_n 0, 1) := dk_42 (dk_at dksX11_next_3 18 rfl rfl)
theorem dX11_next_88 : decode cX11_next 88 = .ok (.dup, 1) := dk_89 (dk_at dksX11_next_3 19 rfl rfl)
theorem dX11_next_89 : decode cX11_next 89 = .ok (.getfield 23, 3) := dk_180 0 23 (dk_at dksX11_next_3 20 rfl rfl)
theorem dX11_next_92 : decode cX11_next 92 = .ok (.iconst 1, 1) := dk_4 (dk_at dksX11_next_3 23 rfl rfl)
theorem dX11_next_93 : decode cX11_next 93 = .ok (.iadd, 1) := dk_96 (dk_at dksX11_next_4 0 rfl rfl)
theorem dX11_next_94 : decode cX11_next 94 = .ok (.putfield 23, 3) := dk_181 0 23 (dk_at dksX11_next_4 1 rfl rfl)
theorem dX11_next_97 : decode cX11_next 97 = .ok (.goto (-36), 3) := dk_167 255 220 (dk_at dksX11_next_4 4 rfl rfl)
theorem dX11_next_100 : decode cX11_next 100 = .ok (.aload_n 0, 1) := dk_42 (dk_at dksX11_next_4 7 rfl rfl)
theorem dX11_next_101 : decode cX11_next 101 = .ok (.aload_n 1, 1) := dk_43 (dk_at dksX11_next_4 8 rfl rfl)
theorem dX11_next_102 : decode cX11_next 102 = .ok (.invokevirtual 47, 3) := dk_182 0 47 (dk_at dksX11_next_4 9 rfl rfl)
theorem dX11_next_105 : decode cX11_next 105 = .ok (.putfield 33, 3) := dk_181 0 33 (dk_at dksX11_next_4 12 rfl rfl)
theorem dX11_next_108 : decode cX11_next 108 = .ok (.goto 118, 3) := dk_167 0 118 (dk_at dksX11_next_4 15 rfl rfl)
theorem dX11_next_111 : decode cX11_next 111 = .ok (.aload_n 0, 1) := dk_42 (dk_at dksX11_next_4 18 rfl rfl)
theorem dX11_next_112 : decode cX11_next 112 = .ok (.bipush 48, 2) := dk_16 48 (dk_at dksX11_next_4 19 rfl rfl)
theorem dX11_next_114 : decode cX11_next 114 = .ok (.bipush 57, 2) := dk_16 57 (dk_at dksX11_next_4 21 rfl rfl)
theorem dX11_next_116 : decode cX11_next 116 = .ok (.invokevirtual 26, 3) := dk_182 0 26 (dk_at dksX11_next_5 0 rfl rfl)
theorem dX11_next_119 : decode cX11_next 119 = .ok (.ifCond .eq 80, 3) := dk_153 0 80 (dk_at dksX11_next_5 3 rfl rfl)
theorem dX11_next_122 : decode cX11_next 122 = .ok (.iconst 0, 1) := dk_3 (dk_at dksX11_next_5 6 rfl rfl)
theorem dX11_next_123 : decode cX11_next 123 = .ok (.istore_n 1, 1) := dk_60 (dk_at dksX11_next_5 7 rfl rfl)
theorem dX11_next_124 : decode cX11_next 124 = .ok (.aload_n 0, 1) := dk_42 (dk_at dksX11_next_5 8 rfl rfl)
theorem dX11_next_125 : decode cX11_next 125 = .ok (.bipush 48, 2) := dk_16 48 (dk_at dksX11_next_5 9 rfl rfl)
theorem dX11_next_127 : decode cX11_next 127 = .ok (.bipush 57, 2) := dk_16 57 (dk_at dksX11_next_5 11 rfl rfl)
theorem dX11_next_129 : decode cX11_next 129 = .ok (.invokevirtual 26, 3) := dk_182 0 26 (dk_at dksX11_next_5 13 rfl rfl)
theorem dX11_next_132 : decode cX11_next 132 = .ok (.ifCond .eq 40, 3) := dk_153 0 40 (dk_at dksX11_next_5 16 rfl rfl)
theorem dX11_next_135 : decode cX11_next 135 = .ok (.sipush 1000, 3) := dk_17 3 232 (dk_at dksX11_next_5 19 rfl rfl)
theorem dX11_next_138 : decode cX11_next 138 = .ok (.bipush 10, 2) := dk_16 10 (dk_at dksX11_next_5 22 rfl rfl)
theorem dX11_next_140 : decode cX11_next 140 = .ok (.iload_n 1, 1) := dk_27 (dk_at dksX11_next_6 0 rfl rfl)
theorem dX11_next_141 : decode cX11_next 141 = .ok (.imul, 1) := dk_104 (dk_at dksX11_next_6 1 rfl rfl)
theorem dX11_next_142 : decode cX11_next 142 = .ok (.aload_n 0, 1) := dk_42 (dk_at dksX11_next_6 2 rfl rfl)
theorem dX11_next_143 : decode cX11_next 143 = .ok (.getfield 9, 3) := dk_180 0 9 (dk_at dksX11_next_6 3 rfl rfl)
theorem dX11_next_146 : decode cX11_next 146 = .ok (.aload_n 0, 1) := dk_42 (dk_at dksX11_next_6 6 rfl rfl)
theorem dX11_next_147 : decode cX11_next 147 = .ok (.getfield 23, 3) := dk_180 0 23 (dk_at dksX11_next_6 7 rfl rfl)
theorem dX11_next_150 : decode cX11_next 150 = .ok (.iaload, 1) := dk_46 (dk_at dksX11_next_6 10 rfl rfl)
theorem dX11_next_151 : decode cX11_next 151 = .ok (.iadd, 1) := dk_96 (dk_at dksX11_next_6 11 rfl rfl)
theorem dX11_next_152 : decode cX11_next 152 = .ok (.bipush 48, 2) := dk_16 48 (dk_at dksX11_next_6 12 rfl rfl)
theorem dX11_next_154 : decode cX11_next 154 = .ok (.isub, 1) := dk_100 (dk_at dksX11_next_6 14 rfl rfl)
theorem dX11_next_155 : decode cX11_next 155 = .ok (.invokestatic 51, 3) := dk_184 0 51 (dk_at dksX11_next_6 15 rfl rfl)
theorem dX11_next_158 : decode cX11_next 158 = .ok (.istore_n 1, 1) := dk_60 (dk_at dksX11_next_6 18 rfl rfl)
theorem dX11_next_159 : decode cX11_next 159 = .ok (.aload_n 0, 1) := dk_42 (dk_at dksX11_next_6 19 rfl rfl)
theorem dX11_next_160 : decode cX11_next 160 = .ok (.dup, 1) := dk_89 (dk_at dksX11_next_6 20 rfl rfl)
theorem dX11_next_161 : decode cX11_next 161 = .ok (.getfield 23, 3) := dk_180 0 23 (dk_at dksX11_next_6 21 rfl rfl)
theorem dX11_next_164 : decode cX11_next 164 = .ok (.iconst 1, 1) := dk_4 (dk_at dksX11_next_7 0 rfl rfl)
theorem dX11_next_165 : decode cX11_next 165 = .ok (.iadd, 1) := dk_96 (dk_at dksX11_next_7 1 rfl rfl)
theorem dX11_next_166 : decode cX11_next 166 = .ok (.putfield 23, 3) := dk_181 0 23 (dk_at dksX11_next_7 2 rfl rfl)
theorem dX11_next_169 : decode cX11_next 169 = .ok (.goto (-45), 3) := dk_167 255 211 (dk_at dksX11_next_7 5 rfl rfl)
theorem dX11_next_172 : decode cX11_next 172 = .ok (.aload_n 0, 1) := dk_42 (dk_at dksX11_next_7 8 rfl rfl)
theorem dX11_next_173 : decode cX11_next 173 = .ok (.aload_n 0, 1) := dk_42 (dk_at dksX11_next_7 9 rfl rfl)
theorem dX11_next_174 : decode cX11_next 174 = .ok (.getfield 23, 3) := dk_180 0 23 (dk_at dksX11_next_7 10 rfl rfl)
theorem dX11_next_177 : decode cX11_next 177 = .ok (.aload_n 0, 1) := dk_42 (dk_at dksX11_next_7 13 rfl rfl)
theorem dX11_next_178 : decode cX11_next 178 = .ok (.getfield 30, 3) := dk_180 0 30 (dk_at dksX11_next_7 14 rfl rfl)
theorem dX11_next_181 : decode cX11_next 181 = .ok (.isub, 1) := dk_100 (dk_at dksX11_next_7 17 rfl rfl)
theorem dX11_next_182 : decode cX11_next 182 = .ok (.iconst 3, 1) := dk_6 (dk_at dksX11_next_7 18 rfl rfl)
theorem dX11_next_183 : decode cX11_next 183 = .ok (.if_icmp .le 9, 3) := dk_164 0 9 (dk_at dksX11_next_7 19 rfl rfl)
theorem dX11_next_186 : decode cX11_next 186 = .ok (.sipush 1000, 3) := dk_17 3 232 (dk_at dksX11_next_8 0 rfl rfl)
theorem dX11_next_189 : decode cX11_next 189 = .ok (.goto 4, 3) := dk_167 0 4 (dk_at dksX11_next_8 3 rfl rfl)
theorem dX11_next_192 : decode cX11_next 192 = .ok (.iload_n 1, 1) := dk_27 (dk_at dksX11_next_8 6 rfl rfl)
theorem dX11_next_193 : decode cX11_next 193 = .ok (.putfield 37, 3) := dk_181 0 37 (dk_at dksX11_next_8 7 rfl rfl)
theorem dX11_next_196 : decode cX11_next 196 = .ok (.goto 30, 3) := dk_167 0 30 (dk_at dksX11_next_8 10 rfl rfl)
theorem dX11_next_199 : decode cX11_next 199 = .ok (.aload_n 0, 1) := dk_42 (dk_at dksX11_next_8 13 rfl rfl)
theorem dX11_next_200 : decode cX11_next 200 = .ok (.bipush 59, 2) := dk_16 59 (dk_at dksX11_next_8 14 rfl rfl)
theorem dX11_next_202 : decode cX11_next 202 = .ok (.bipush 59, 2) := dk_16 59 (dk_at dksX11_next_8 16 rfl rfl)
theorem dX11_next_204 : decode cX11_next 204 = .ok (.invokevirtual 26, 3) := dk_182 0 26 (dk_at dksX11_next_8 18 rfl rfl)
theorem dX11_next_207 : decode cX11_next 207 = .ok (.ifCond .eq 19, 3) := dk_153 0 19 (dk_at dksX11_next_8 21 rfl rfl)
theorem dX11_next_210 : decode cX11_next 210 = .ok (.aload_n 0, 1) := dk_42 (dk_at dksX11_next_9 0 rfl rfl)
theorem dX11_next_211 : decode cX11_next 211 = .ok (.ldc 57, 2) := dk_18 57 (dk_at dksX11_next_9 1 rfl rfl)
theorem dX11_next_213 : decode cX11_next 213 = .ok (.putfield 33, 3) := dk_181 0 33 (dk_at dksX11_next_9 3 rfl rfl)
theorem dX11_next_216 : decode cX11_next 216 = .ok (.aload_n 0, 1) := dk_42 (dk_at dksX11_next_9 6 rfl rfl)
theorem dX11_next_217 : decode cX11_next 217 = .ok (.dup, 1) := dk_89 (dk_at dksX11_next_9 7 rfl rfl)
theorem dX11_next_218 : decode cX11_next 218 = .ok (.getfield 23, 3) := dk_180 0 23 (dk_at dksX11_next_9 8 rfl rfl)
theorem dX11_next_221 : decode cX11_next 221 = .ok (.iconst 1, 1) := dk_4 (dk_at dksX11_next_9 11 rfl rfl)
theorem dX11_next_222 : decode cX11_next 222 = .ok (.iadd, 1) := dk_96 (dk_at dksX11_next_9 12 rfl rfl)
theorem dX11_next_223 : decode cX11_next 223 = .ok (.putfield 23, 3) := dk_181 0 23 (dk_at dksX11_next_9 13 rfl rfl)
theorem dX11_next_226 : decode cX11_next 226 = .ok (.return_, 1) := dk_177 (dk_at dksX11_next_9 16 rfl rfl)
abbrev cX11_isIn : ByteArray := prog_9_method_2_code
def yX11_isIn : MethodName := ⟨RX11, "isIn", "(II)Z"⟩
def dkwX11_isIn_1 : List UInt8 := [42, 180, 0, 9, 42, 180, 0, 23, 46, 28, 163, 0, 7, 4, 167, 0, 4, 3, 172]
abbrev dktX11_isIn_1 : List UInt8 := dkwX11_isIn_1 ++ []
def dkwX11_isIn_0 : List UInt8 := [42, 180, 0, 23, 42, 180, 0, 15, 162, 0, 33, 42, 180, 0, 9, 42, 180, 0, 23, 46, 27, 161, 0, 20]
abbrev dktX11_isIn_0 : List UInt8 := dkwX11_isIn_0 ++ dktX11_isIn_1
theorem dksX11_isIn_0 : cX11_isIn.data.toList.drop 0 = dktX11_isIn_0 := by decide +kernel
theorem dksX11_isIn_1 : cX11_isIn.data.toList.drop 24 = dktX11_isIn_1 := dk_seg dksX11_isIn_0 24 rfl rfl
theorem dX11_isIn_0 : decode cX11_isIn 0 = .ok (.aload_n 0, 1) := dk_42 (dk_at dksX11_isIn_0 0 rfl rfl)
theorem dX11_isIn_1 : decode cX11_isIn 1 = .ok (.getfield 23, 3) := dk_180 0 23 (dk_at dksX11_isIn_0 1 rfl rfl)
theorem dX11_isIn_4 : decode cX11_isIn 4 = .ok (.aload_n 0, 1) := dk_42 (dk_at dksX11_isIn_0 4 rfl rfl)
theorem dX11_isIn_5 : decode cX11_isIn 5 = .ok (.getfield 15, 3) := dk_180 0 15 (dk_at dksX11_isIn_0 5 rfl rfl)
theorem dX11_isIn_8 : decode cX11_isIn 8 = .ok (.if_icmp .ge 33, 3) := dk_162 0 33 (dk_at dksX11_isIn_0 8 rfl rfl)
theorem dX11_isIn_11 : decode cX11_isIn 11 = .ok (.aload_n 0, 1) := dk_42 (dk_at dksX11_isIn_0 11 rfl rfl)
theorem dX11_isIn_12 : decode cX11_isIn 12 = .ok (.getfield 9, 3) := dk_180 0 9 (dk_at dksX11_isIn_0 12 rfl rfl)
theorem dX11_isIn_15 : decode cX11_isIn 15 = .ok (.aload_n 0, 1) := dk_42 (dk_at dksX11_isIn_0 15 rfl rfl)
theorem dX11_isIn_16 : decode cX11_isIn 16 = .ok (.getfield 23, 3) := dk_180 0 23 (dk_at dksX11_isIn_0 16 rfl rfl)
theorem dX11_isIn_19 : decode cX11_isIn 19 = .ok (.iaload, 1) := dk_46 (dk_at dksX11_isIn_0 19 rfl rfl)
theorem dX11_isIn_20 : decode cX11_isIn 20 = .ok (.iload_n 1, 1) := dk_27 (dk_at dksX11_isIn_0 20 rfl rfl)
theorem dX11_isIn_21 : decode cX11_isIn 21 = .ok (.if_icmp .lt 20, 3) := dk_161 0 20 (dk_at dksX11_isIn_0 21 rfl rfl)
theorem dX11_isIn_24 : decode cX11_isIn 24 = .ok (.aload_n 0, 1) := dk_42 (dk_at dksX11_isIn_1 0 rfl rfl)
theorem dX11_isIn_25 : decode cX11_isIn 25 = .ok (.getfield 9, 3) := dk_180 0 9 (dk_at dksX11_isIn_1 1 rfl rfl)
theorem dX11_isIn_28 : decode cX11_isIn 28 = .ok (.aload_n 0, 1) := dk_42 (dk_at dksX11_isIn_1 4 rfl rfl)
theorem dX11_isIn_29 : decode cX11_isIn 29 = .ok (.getfield 23, 3) := dk_180 0 23 (dk_at dksX11_isIn_1 5 rfl rfl)
theorem dX11_isIn_32 : decode cX11_isIn 32 = .ok (.iaload, 1) := dk_46 (dk_at dksX11_isIn_1 8 rfl rfl)
theorem dX11_isIn_33 : decode cX11_isIn 33 = .ok (.iload_n 2, 1) := dk_28 (dk_at dksX11_isIn_1 9 rfl rfl)
theorem dX11_isIn_34 : decode cX11_isIn 34 = .ok (.if_icmp .gt 7, 3) := dk_163 0 7 (dk_at dksX11_isIn_1 10 rfl rfl)
theorem dX11_isIn_37 : decode cX11_isIn 37 = .ok (.iconst 1, 1) := dk_4 (dk_at dksX11_isIn_1 13 rfl rfl)
theorem dX11_isIn_38 : decode cX11_isIn 38 = .ok (.goto 4, 3) := dk_167 0 4 (dk_at dksX11_isIn_1 14 rfl rfl)
theorem dX11_isIn_41 : decode cX11_isIn 41 = .ok (.iconst 0, 1) := dk_3 (dk_at dksX11_isIn_1 17 rfl rfl)
theorem dX11_isIn_42 : decode cX11_isIn 42 = .ok (.ireturn, 1) := dk_172 (dk_at dksX11_isIn_1 18 rfl rfl)
abbrev cX11_item : ByteArray := prog_9_method_12_code
def yX11_item : MethodName := ⟨RX11, "item", "()V"⟩
def dkwX11_item_8 : List UInt8 := [167, 0, 8, 42, 182, 0, 73, 191, 177]
abbrev dktX11_item_8 : List UInt8 := dkwX11_item_8 ++ []
def dkwX11_item_7 : List UInt8 := [182, 0, 70, 42, 180, 0, 19, 42, 3, 16, 99, 182, 0, 86, 181, 0, 146, 167, 0, 15, 42, 182, 0, 148]
abbrev dktX11_item_7 : List UInt8 := dkwX11_item_7 ++ dktX11_item_8
def dkwX11_item_6 : List UInt8 := [42, 182, 0, 140, 167, 0, 50, 42, 182, 0, 142, 167, 0, 43, 42, 182, 0, 144, 167, 0, 36, 42]
abbrev dktX11_item_6 : List UInt8 := dkwX11_item_6 ++ dktX11_item_7
def dkwX11_item_5 : List UInt8 := [170, 0, 0, 0, 0, 0, 0, 85, 0, 0, 0, 0, 0, 0, 0, 4, 0, 0, 0, 36, 0, 0, 0, 43, 0, 0, 0, 50, 0, 0, 0, 57, 0, 0, 0, 78]
abbrev dktX11_item_5 : List UInt8 := dkwX11_item_5 ++ dktX11_item_6
def dkwX11_item_4 : List UInt8 := [153, 0, 19, 6, 61, 167, 0, 14, 43, 18, 138, 182, 0, 64, 153, 0, 5, 7, 61, 28]
abbrev dktX11_item_4 : List UInt8 := dkwX11_item_4 ++ dktX11_item_5
def dkwX11_item_3 : List UInt8 := [61, 167, 0, 42, 43, 18, 134, 182, 0, 64, 153, 0, 33, 5, 61, 167, 0, 28, 43, 18, 136, 182, 0, 64]
abbrev dktX11_item_3 : List UInt8 := dkwX11_item_3 ++ dktX11_item_4
def dkwX11_item_2 : List UInt8 := [43, 18, 130, 182, 0, 64, 153, 0, 61, 3, 61, 167, 0, 56, 43, 18, 132, 182, 0, 64, 153, 0, 47, 4]
abbrev dktX11_item_2 : List UInt8 := dkwX11_item_2 ++ dktX11_item_3
def dkwX11_item_1 : List UInt8 := [171, 0, 0, 0, 116, 0, 0, 0, 5, 190, 17, 36, 38, 0, 0, 0, 77, 0, 1, 120, 255, 0, 0, 0, 91, 0, 1, 151, 233, 0, 0, 0, 49, 0, 48, 127, 149, 0, 0, 0, 63, 6, 194, 87, 223, 0, 0, 0, 105]
abbrev dktX11_item_1 : List UInt8 := dkwX11_item_1 ++ dktX11_item_2
def dkwX11_item_0 : List UInt8 := [42, 180, 0, 33, 199, 0, 8, 42, 182, 0, 73, 191, 42, 180, 0, 33, 76, 2, 61, 43, 182, 0, 126]
abbrev dktX11_item_0 : List UInt8 := dkwX11_item_0 ++ dktX11_item_1
theorem dksX11_item_0 : cX11_item.data.toList.drop 0 = dktX11_item_0 := by decide +kernel
theorem dksX11_item_1 : cX11_item.data.toList.drop 23 = dktX11_item_1 := dk_seg dksX11_item_0 23 rfl rfl
theorem dksX11_item_2 : cX11_item.data.toList.drop 72 = dktX11_item_2 := dk_seg dksX11_item_1 49 rfl rfl
theorem dksX11_item_3 : cX11_item.data.toList.drop 96 = dktX11_item_3 := dk_seg dksX11_item_2 24 rfl rfl
theorem dksX11_item_4 : cX11_item.data.toList.drop 120 = dktX11_item_4 := dk_seg dksX11_item_3 24 rfl rfl
theorem dksX11_item_5 : cX11_item.data.toList.drop 140 = dktX11_item_5 := dk_seg dksX11_item_4 20 rfl rfl
theorem dksX11_item_6 : cX11_item.data.toList.drop 176 = dktX11_item_6 := dk_seg dksX11_item_5 36 rfl rfl
theorem dksX11_item_7 : cX11_item.data.toList.drop 198 = dktX11_item_7 := dk_seg dksX11_item_6 22 rfl rfl
theorem dksX11_item_8 : cX11_item.data.toList.drop 222 = dktX11_item_8 := dk_seg dksX11_item_7 24 rfl rfl
theorem dX11_item_0 : decode cX11_item 0 = .ok (.aload_n 0, 1) := dk_42 (dk_at dksX11_item_0 0 rfl rfl)
theorem dX11_item_1 : decode cX11_item 1 = .ok (.getfield 33, 3) := dk_180 0 33 (dk_at dksX11_item_0 1 rfl rfl)
theorem dX11_item_4 : decode cX11_item 4 = .ok (.ifnonnull 8, 3) := dk_199 0 8 (dk_at dksX11_item_0 4 rfl rfl)
theorem dX11_item_7 : decode cX11_item 7 = .ok (.aload_n 0, 1) := dk_42 (dk_at dksX11_item_0 7 rfl rfl)
theorem dX11_item_8 : decode cX11_item 8 = .ok (.invokevirtual 73, 3) := dk_182 0 73 (dk_at dksX11_item_0 8 rfl rfl)
theorem dX11_item_11 : decode cX11_item 11 = .ok (.athrow, 1) := dk_191 (dk_at dksX11_item_0 11 rfl rfl)
theorem dX11_item_12 : decode cX11_item 12 = .ok (.aload_n 0, 1) := dk_42 (dk_at dksX11_item_0 12 rfl rfl)
theorem dX11_item_13 : decode cX11_item 13 = .ok (.getfield 33, 3) := dk_180 0 33 (dk_at dksX11_item_0 13 rfl rfl)
theorem dX11_item_16 : decode cX11_item 16 = .ok (.astore_n 1, 1) := dk_76 (dk_at dksX11_item_0 16 rfl rfl)
theorem dX11_item_17 : decode cX11_item 17 = .ok (.iconst (-1), 1) := dk_2 (dk_at dksX11_item_0 17 rfl rfl)
theorem dX11_item_18 : decode cX11_item 18 = .ok (.istore_n 2, 1) := dk_61 (dk_at dksX11_item_0 18 rfl rfl)
theorem dX11_item_19 : decode cX11_item 19 = .ok (.aload_n 1, 1) := dk_43 (dk_at dksX11_item_0 19 rfl rfl)
theorem dX11_item_20 : decode cX11_item 20 = .ok (.invokevirtual 126, 3) := dk_182 0 126 (dk_at dksX11_item_0 20 rfl rfl)
theorem dX11_item_23 : decode cX11_item 23 = .ok (.lookupswitch 116 #[(-1106172890, 77), (96511, 91), (104425, 49), (3178389, 63), (113399775, 105)], 49) := by decide +kernel
theorem dX11_item_72 : decode cX11_item 72 = .ok (.aload_n 1, 1) := dk_43 (dk_at dksX11_item_2 0 rfl rfl)
theorem dX11_item_73 : decode cX11_item 73 = .ok (.ldc 130, 2) := dk_18 130 (dk_at dksX11_item_2 1 rfl rfl)
theorem dX11_item_75 : decode cX11_item 75 = .ok (.invokevirtual 64, 3) := dk_182 0 64 (dk_at dksX11_item_2 3 rfl rfl)
theorem dX11_item_78 : decode cX11_item 78 = .ok (.ifCond .eq 61, 3) := dk_153 0 61 (dk_at dksX11_item_2 6 rfl rfl)
theorem dX11_item_81 : decode cX11_item 81 = .ok (.iconst 0, 1) := dk_3 (dk_at dksX11_item_2 9 rfl rfl)
theorem dX11_item_82 : decode cX11_item 82 = .ok (.istore_n 2, 1) := dk_61 (dk_at dksX11_item_2 10 rfl rfl)
theorem dX11_item_83 : decode cX11_item 83 = .ok (.goto 56, 3) := dk_167 0 56 (dk_at dksX11_item_2 11 rfl rfl)
theorem dX11_item_86 : decode cX11_item 86 = .ok (.aload_n 1, 1) := dk_43 (dk_at dksX11_item_2 14 rfl rfl)
theorem dX11_item_87 : decode cX11_item 87 = .ok (.ldc 132, 2) := dk_18 132 (dk_at dksX11_item_2 15 rfl rfl)
theorem dX11_item_89 : decode cX11_item 89 = .ok (.invokevirtual 64, 3) := dk_182 0 64 (dk_at dksX11_item_2 17 rfl rfl)
theorem dX11_item_92 : decode cX11_item 92 = .ok (.ifCond .eq 47, 3) := dk_153 0 47 (dk_at dksX11_item_2 20 rfl rfl)
theorem dX11_item_95 : decode cX11_item 95 = .ok (.iconst 1, 1) := dk_4 (dk_at dksX11_item_2 23 rfl rfl)
theorem dX11_item_96 : decode cX11_item 96 = .ok (.istore_n 2, 1) := dk_61 (dk_at dksX11_item_3 0 rfl rfl)
theorem dX11_item_97 : decode cX11_item 97 = .ok (.goto 42, 3) := dk_167 0 42 (dk_at dksX11_item_3 1 rfl rfl)
theorem dX11_item_100 : decode cX11_item 100 = .ok (.aload_n 1, 1) := dk_43 (dk_at dksX11_item_3 4 rfl rfl)
theorem dX11_item_101 : decode cX11_item 101 = .ok (.ldc 134, 2) := dk_18 134 (dk_at dksX11_item_3 5 rfl rfl)
theorem dX11_item_103 : decode cX11_item 103 = .ok (.invokevirtual 64, 3) := dk_182 0 64 (dk_at dksX11_item_3 7 rfl rfl)
theorem dX11_item_106 : decode cX11_item 106 = .ok (.ifCond .eq 33, 3) := dk_153 0 33 (dk_at dksX11_item_3 10 rfl rfl)
theorem dX11_item_109 : decode cX11_item 109 = .ok (.iconst 2, 1) := dk_5 (dk_at dksX11_item_3 13 rfl rfl)
theorem dX11_item_110 : decode cX11_item 110 = .ok (.istore_n 2, 1) := dk_61 (dk_at dksX11_item_3 14 rfl rfl)
theorem dX11_item_111 : decode cX11_item 111 = .ok (.goto 28, 3) := dk_167 0 28 (dk_at dksX11_item_3 15 rfl rfl)
theorem dX11_item_114 : decode cX11_item 114 = .ok (.aload_n 1, 1) := dk_43 (dk_at dksX11_item_3 18 rfl rfl)
theorem dX11_item_115 : decode cX11_item 115 = .ok (.ldc 136, 2) := dk_18 136 (dk_at dksX11_item_3 19 rfl rfl)
theorem dX11_item_117 : decode cX11_item 117 = .ok (.invokevirtual 64, 3) := dk_182 0 64 (dk_at dksX11_item_3 21 rfl rfl)
theorem dX11_item_120 : decode cX11_item 120 = .ok (.ifCond .eq 19, 3) := dk_153 0 19 (dk_at dksX11_item_4 0 rfl rfl)
theorem dX11_item_123 : decode cX11_item 123 = .ok (.iconst 3, 1) := dk_6 (dk_at dksX11_item_4 3 rfl rfl)
theorem dX11_item_124 : decode cX11_item 124 = .ok (.istore_n 2, 1) := dk_61 (dk_at dksX11_item_4 4 rfl rfl)
theorem dX11_item_125 : decode cX11_item 125 = .ok (.goto 14, 3) := dk_167 0 14 (dk_at dksX11_item_4 5 rfl rfl)
theorem dX11_item_128 : decode cX11_item 128 = .ok (.aload_n 1, 1) := dk_43 (dk_at dksX11_item_4 8 rfl rfl)
theorem dX11_item_129 : decode cX11_item 129 = .ok (.ldc 138, 2) := dk_18 138 (dk_at dksX11_item_4 9 rfl rfl)
theorem dX11_item_131 : decode cX11_item 131 = .ok (.invokevirtual 64, 3) := dk_182 0 64 (dk_at dksX11_item_4 11 rfl rfl)
theorem dX11_item_134 : decode cX11_item 134 = .ok (.ifCond .eq 5, 3) := dk_153 0 5 (dk_at dksX11_item_4 14 rfl rfl)
theorem dX11_item_137 : decode cX11_item 137 = .ok (.iconst 4, 1) := dk_7 (dk_at dksX11_item_4 17 rfl rfl)
theorem dX11_item_138 : decode cX11_item 138 = .ok (.istore_n 2, 1) := dk_61 (dk_at dksX11_item_4 18 rfl rfl)
theorem dX11_item_139 : decode cX11_item 139 = .ok (.iload_n 2, 1) := dk_28 (dk_at dksX11_item_4 19 rfl rfl)
theorem dX11_item_140 : decode cX11_item 140 = .ok (.tableswitch 85 0 4 #[36, 43, 50, 57, 78], 36) := by decide +kernel
theorem dX11_item_176 : decode cX11_item 176 = .ok (.aload_n 0, 1) := dk_42 (dk_at dksX11_item_6 0 rfl rfl)
theorem dX11_item_177 : decode cX11_item 177 = .ok (.invokevirtual 140, 3) := dk_182 0 140 (dk_at dksX11_item_6 1 rfl rfl)
theorem dX11_item_180 : decode cX11_item 180 = .ok (.goto 50, 3) := dk_167 0 50 (dk_at dksX11_item_6 4 rfl rfl)
theorem dX11_item_183 : decode cX11_item 183 = .ok (.aload_n 0, 1) := dk_42 (dk_at dksX11_item_6 7 rfl rfl)
theorem dX11_item_184 : decode cX11_item 184 = .ok (.invokevirtual 142, 3) := dk_182 0 142 (dk_at dksX11_item_6 8 rfl rfl)
theorem dX11_item_187 : decode cX11_item 187 = .ok (.goto 43, 3) := dk_167 0 43 (dk_at dksX11_item_6 11 rfl rfl)
theorem dX11_item_190 : decode cX11_item 190 = .ok (.aload_n 0, 1) := dk_42 (dk_at dksX11_item_6 14 rfl rfl)
theorem dX11_item_191 : decode cX11_item 191 = .ok (.invokevirtual 144, 3) := dk_182 0 144 (dk_at dksX11_item_6 15 rfl rfl)
theorem dX11_item_194 : decode cX11_item 194 = .ok (.goto 36, 3) := dk_167 0 36 (dk_at dksX11_item_6 18 rfl rfl)
theorem dX11_item_197 : decode cX11_item 197 = .ok (.aload_n 0, 1) := dk_42 (dk_at dksX11_item_6 21 rfl rfl)
theorem dX11_item_198 : decode cX11_item 198 = .ok (.invokevirtual 70, 3) := dk_182 0 70 (dk_at dksX11_item_7 0 rfl rfl)
theorem dX11_item_201 : decode cX11_item 201 = .ok (.aload_n 0, 1) := dk_42 (dk_at dksX11_item_7 3 rfl rfl)
theorem dX11_item_202 : decode cX11_item 202 = .ok (.getfield 19, 3) := dk_180 0 19 (dk_at dksX11_item_7 4 rfl rfl)
theorem dX11_item_205 : decode cX11_item 205 = .ok (.aload_n 0, 1) := dk_42 (dk_at dksX11_item_7 7 rfl rfl)
theorem dX11_item_206 : decode cX11_item 206 = .ok (.iconst 0, 1) := dk_3 (dk_at dksX11_item_7 8 rfl rfl)
theorem dX11_item_207 : decode cX11_item 207 = .ok (.bipush 99, 2) := dk_16 99 (dk_at dksX11_item_7 9 rfl rfl)
theorem dX11_item_209 : decode cX11_item 209 = .ok (.invokevirtual 86, 3) := dk_182 0 86 (dk_at dksX11_item_7 11 rfl rfl)
theorem dX11_item_212 : decode cX11_item 212 = .ok (.putfield 146, 3) := dk_181 0 146 (dk_at dksX11_item_7 14 rfl rfl)
theorem dX11_item_215 : decode cX11_item 215 = .ok (.goto 15, 3) := dk_167 0 15 (dk_at dksX11_item_7 17 rfl rfl)
theorem dX11_item_218 : decode cX11_item 218 = .ok (.aload_n 0, 1) := dk_42 (dk_at dksX11_item_7 20 rfl rfl)
theorem dX11_item_219 : decode cX11_item 219 = .ok (.invokevirtual 148, 3) := dk_182 0 148 (dk_at dksX11_item_7 21 rfl rfl)
theorem dX11_item_222 : decode cX11_item 222 = .ok (.goto 8, 3) := dk_167 0 8 (dk_at dksX11_item_8 0 rfl rfl)
theorem dX11_item_225 : decode cX11_item 225 = .ok (.aload_n 0, 1) := dk_42 (dk_at dksX11_item_8 3 rfl rfl)
theorem dX11_item_226 : decode cX11_item 226 = .ok (.invokevirtual 73, 3) := dk_182 0 73 (dk_at dksX11_item_8 4 rfl rfl)
theorem dX11_item_229 : decode cX11_item 229 = .ok (.athrow, 1) := dk_191 (dk_at dksX11_item_8 7 rfl rfl)
theorem dX11_item_230 : decode cX11_item 230 = .ok (.return_, 1) := dk_177 (dk_at dksX11_item_8 8 rfl rfl)
abbrev cX11_wrong : ByteArray := prog_9_method_4_code
def yX11_wrong : MethodName := ⟨RX11, "wrong", "()LEverybodyHasTheBook$Fault;"⟩
def dkwX11_wrong_0 : List UInt8 := [187, 0, 59, 89, 42, 180, 0, 30, 183, 0, 61, 176]
abbrev dktX11_wrong_0 : List UInt8 := dkwX11_wrong_0 ++ []
theorem dksX11_wrong_0 : cX11_wrong.data.toList.drop 0 = dktX11_wrong_0 := by decide +kernel
theorem dX11_wrong_0 : decode cX11_wrong 0 = .ok (.new 59, 3) := dk_187 0 59 (dk_at dksX11_wrong_0 0 rfl rfl)
theorem dX11_wrong_3 : decode cX11_wrong 3 = .ok (.dup, 1) := dk_89 (dk_at dksX11_wrong_0 3 rfl rfl)
theorem dX11_wrong_4 : decode cX11_wrong 4 = .ok (.aload_n 0, 1) := dk_42 (dk_at dksX11_wrong_0 4 rfl rfl)
theorem dX11_wrong_5 : decode cX11_wrong 5 = .ok (.getfield 30, 3) := dk_180 0 30 (dk_at dksX11_wrong_0 5 rfl rfl)
theorem dX11_wrong_8 : decode cX11_wrong 8 = .ok (.invokespecial 61, 3) := dk_183 0 61 (dk_at dksX11_wrong_0 8 rfl rfl)
theorem dX11_wrong_11 : decode cX11_wrong 11 = .ok (.areturn, 1) := dk_176 (dk_at dksX11_wrong_0 11 rfl rfl)
abbrev cX11_inn : ByteArray := prog_9_method_8_code
def yX11_inn : MethodName := ⟨RX11, "inn", "()V"⟩
def dkwX11_inn_3 : List UInt8 := [42, 3, 16, 100, 182, 0, 86, 79, 177]
abbrev dktX11_inn_3 : List UInt8 := dkwX11_inn_3 ++ []
def dkwX11_inn_2 : List UInt8 := [18, 92, 182, 0, 94, 153, 0, 27, 42, 180, 0, 19, 180, 0, 98, 42, 180, 0, 19, 180, 0, 77, 4, 100]
abbrev dktX11_inn_2 : List UInt8 := dkwX11_inn_2 ++ dktX11_inn_3
def dkwX11_inn_1 : List UInt8 := [16, 20, 182, 0, 86, 61, 42, 180, 0, 19, 27, 28, 42, 3, 16, 99, 182, 0, 86, 182, 0, 88, 42]
abbrev dktX11_inn_1 : List UInt8 := dkwX11_inn_1 ++ dktX11_inn_2
def dkwX11_inn_0 : List UInt8 := [42, 42, 180, 0, 19, 180, 0, 77, 16, 6, 182, 0, 82, 42, 3, 16, 100, 182, 0, 86, 60, 42, 4]
abbrev dktX11_inn_0 : List UInt8 := dkwX11_inn_0 ++ dktX11_inn_1
theorem dksX11_inn_0 : cX11_inn.data.toList.drop 0 = dktX11_inn_0 := by decide +kernel
theorem dksX11_inn_1 : cX11_inn.data.toList.drop 23 = dktX11_inn_1 := dk_seg dksX11_inn_0 23 rfl rfl
theorem dksX11_inn_2 : cX11_inn.data.toList.drop 46 = dktX11_inn_2 := dk_seg dksX11_inn_1 23 rfl rfl
theorem dksX11_inn_3 : cX11_inn.data.toList.drop 70 = dktX11_inn_3 := dk_seg dksX11_inn_2 24 rfl rfl
theorem dX11_inn_0 : decode cX11_inn 0 = .ok (.aload_n 0, 1) := dk_42 (dk_at dksX11_inn_0 0 rfl rfl)
theorem dX11_inn_1 : decode cX11_inn 1 = .ok (.aload_n 0, 1) := dk_42 (dk_at dksX11_inn_0 1 rfl rfl)
theorem dX11_inn_2 : decode cX11_inn 2 = .ok (.getfield 19, 3) := dk_180 0 19 (dk_at dksX11_inn_0 2 rfl rfl)
theorem dX11_inn_5 : decode cX11_inn 5 = .ok (.getfield 77, 3) := dk_180 0 77 (dk_at dksX11_inn_0 5 rfl rfl)
theorem dX11_inn_8 : decode cX11_inn 8 = .ok (.bipush 6, 2) := dk_16 6 (dk_at dksX11_inn_0 8 rfl rfl)
theorem dX11_inn_10 : decode cX11_inn 10 = .ok (.invokevirtual 82, 3) := dk_182 0 82 (dk_at dksX11_inn_0 10 rfl rfl)
theorem dX11_inn_13 : decode cX11_inn 13 = .ok (.aload_n 0, 1) := dk_42 (dk_at dksX11_inn_0 13 rfl rfl)
theorem dX11_inn_14 : decode cX11_inn 14 = .ok (.iconst 0, 1) := dk_3 (dk_at dksX11_inn_0 14 rfl rfl)
theorem dX11_inn_15 : decode cX11_inn 15 = .ok (.bipush 100, 2) := dk_16 100 (dk_at dksX11_inn_0 15 rfl rfl)
theorem dX11_inn_17 : decode cX11_inn 17 = .ok (.invokevirtual 86, 3) := dk_182 0 86 (dk_at dksX11_inn_0 17 rfl rfl)
theorem dX11_inn_20 : decode cX11_inn 20 = .ok (.istore_n 1, 1) := dk_60 (dk_at dksX11_inn_0 20 rfl rfl)
theorem dX11_inn_21 : decode cX11_inn 21 = .ok (.aload_n 0, 1) := dk_42 (dk_at dksX11_inn_0 21 rfl rfl)
theorem dX11_inn_22 : decode cX11_inn 22 = .ok (.iconst 1, 1) := dk_4 (dk_at dksX11_inn_0 22 rfl rfl)
theorem dX11_inn_23 : decode cX11_inn 23 = .ok (.bipush 20, 2) := dk_16 20 (dk_at dksX11_inn_1 0 rfl rfl)
theorem dX11_inn_25 : decode cX11_inn 25 = .ok (.invokevirtual 86, 3) := dk_182 0 86 (dk_at dksX11_inn_1 2 rfl rfl)
theorem dX11_inn_28 : decode cX11_inn 28 = .ok (.istore_n 2, 1) := dk_61 (dk_at dksX11_inn_1 5 rfl rfl)
theorem dX11_inn_29 : decode cX11_inn 29 = .ok (.aload_n 0, 1) := dk_42 (dk_at dksX11_inn_1 6 rfl rfl)
theorem dX11_inn_30 : decode cX11_inn 30 = .ok (.getfield 19, 3) := dk_180 0 19 (dk_at dksX11_inn_1 7 rfl rfl)
theorem dX11_inn_33 : decode cX11_inn 33 = .ok (.iload_n 1, 1) := dk_27 (dk_at dksX11_inn_1 10 rfl rfl)
theorem dX11_inn_34 : decode cX11_inn 34 = .ok (.iload_n 2, 1) := dk_28 (dk_at dksX11_inn_1 11 rfl rfl)
theorem dX11_inn_35 : decode cX11_inn 35 = .ok (.aload_n 0, 1) := dk_42 (dk_at dksX11_inn_1 12 rfl rfl)
theorem dX11_inn_36 : decode cX11_inn 36 = .ok (.iconst 0, 1) := dk_3 (dk_at dksX11_inn_1 13 rfl rfl)
theorem dX11_inn_37 : decode cX11_inn 37 = .ok (.bipush 99, 2) := dk_16 99 (dk_at dksX11_inn_1 14 rfl rfl)
theorem dX11_inn_39 : decode cX11_inn 39 = .ok (.invokevirtual 86, 3) := dk_182 0 86 (dk_at dksX11_inn_1 16 rfl rfl)
theorem dX11_inn_42 : decode cX11_inn 42 = .ok (.invokevirtual 88, 3) := dk_182 0 88 (dk_at dksX11_inn_1 19 rfl rfl)
theorem dX11_inn_45 : decode cX11_inn 45 = .ok (.aload_n 0, 1) := dk_42 (dk_at dksX11_inn_1 22 rfl rfl)
theorem dX11_inn_46 : decode cX11_inn 46 = .ok (.ldc 92, 2) := dk_18 92 (dk_at dksX11_inn_2 0 rfl rfl)
theorem dX11_inn_48 : decode cX11_inn 48 = .ok (.invokevirtual 94, 3) := dk_182 0 94 (dk_at dksX11_inn_2 2 rfl rfl)
theorem dX11_inn_51 : decode cX11_inn 51 = .ok (.ifCond .eq 27, 3) := dk_153 0 27 (dk_at dksX11_inn_2 5 rfl rfl)
theorem dX11_inn_54 : decode cX11_inn 54 = .ok (.aload_n 0, 1) := dk_42 (dk_at dksX11_inn_2 8 rfl rfl)
theorem dX11_inn_55 : decode cX11_inn 55 = .ok (.getfield 19, 3) := dk_180 0 19 (dk_at dksX11_inn_2 9 rfl rfl)
theorem dX11_inn_58 : decode cX11_inn 58 = .ok (.getfield 98, 3) := dk_180 0 98 (dk_at dksX11_inn_2 12 rfl rfl)
theorem dX11_inn_61 : decode cX11_inn 61 = .ok (.aload_n 0, 1) := dk_42 (dk_at dksX11_inn_2 15 rfl rfl)
theorem dX11_inn_62 : decode cX11_inn 62 = .ok (.getfield 19, 3) := dk_180 0 19 (dk_at dksX11_inn_2 16 rfl rfl)
theorem dX11_inn_65 : decode cX11_inn 65 = .ok (.getfield 77, 3) := dk_180 0 77 (dk_at dksX11_inn_2 19 rfl rfl)
theorem dX11_inn_68 : decode cX11_inn 68 = .ok (.iconst 1, 1) := dk_4 (dk_at dksX11_inn_2 22 rfl rfl)
theorem dX11_inn_69 : decode cX11_inn 69 = .ok (.isub, 1) := dk_100 (dk_at dksX11_inn_2 23 rfl rfl)
theorem dX11_inn_70 : decode cX11_inn 70 = .ok (.aload_n 0, 1) := dk_42 (dk_at dksX11_inn_3 0 rfl rfl)
theorem dX11_inn_71 : decode cX11_inn 71 = .ok (.iconst 0, 1) := dk_3 (dk_at dksX11_inn_3 1 rfl rfl)
theorem dX11_inn_72 : decode cX11_inn 72 = .ok (.bipush 100, 2) := dk_16 100 (dk_at dksX11_inn_3 2 rfl rfl)
theorem dX11_inn_74 : decode cX11_inn 74 = .ok (.invokevirtual 86, 3) := dk_182 0 86 (dk_at dksX11_inn_3 4 rfl rfl)
theorem dX11_inn_77 : decode cX11_inn 77 = .ok (.iastore, 1) := dk_79 (dk_at dksX11_inn_3 7 rfl rfl)
theorem dX11_inn_78 : decode cX11_inn 78 = .ok (.return_, 1) := dk_177 (dk_at dksX11_inn_3 8 rfl rfl)
abbrev cX11_room : ByteArray := prog_9_method_7_code
def yX11_room : MethodName := ⟨RX11, "room", "(II)V"⟩
def dkwX11_room_0 : List UInt8 := [27, 28, 160, 0, 8, 42, 182, 0, 73, 191, 42, 182, 0, 70, 177]
abbrev dktX11_room_0 : List UInt8 := dkwX11_room_0 ++ []
theorem dksX11_room_0 : cX11_room.data.toList.drop 0 = dktX11_room_0 := by decide +kernel
theorem dX11_room_0 : decode cX11_room 0 = .ok (.iload_n 1, 1) := dk_27 (dk_at dksX11_room_0 0 rfl rfl)
theorem dX11_room_1 : decode cX11_room 1 = .ok (.iload_n 2, 1) := dk_28 (dk_at dksX11_room_0 1 rfl rfl)
theorem dX11_room_2 : decode cX11_room 2 = .ok (.if_icmp .ne 8, 3) := dk_160 0 8 (dk_at dksX11_room_0 2 rfl rfl)
theorem dX11_room_5 : decode cX11_room 5 = .ok (.aload_n 0, 1) := dk_42 (dk_at dksX11_room_0 5 rfl rfl)
theorem dX11_room_6 : decode cX11_room 6 = .ok (.invokevirtual 73, 3) := dk_182 0 73 (dk_at dksX11_room_0 6 rfl rfl)
theorem dX11_room_9 : decode cX11_room 9 = .ok (.athrow, 1) := dk_191 (dk_at dksX11_room_0 9 rfl rfl)
theorem dX11_room_10 : decode cX11_room 10 = .ok (.aload_n 0, 1) := dk_42 (dk_at dksX11_room_0 10 rfl rfl)
theorem dX11_room_11 : decode cX11_room 11 = .ok (.invokevirtual 70, 3) := dk_182 0 70 (dk_at dksX11_room_0 11 rfl rfl)
theorem dX11_room_14 : decode cX11_room 14 = .ok (.return_, 1) := dk_177 (dk_at dksX11_room_0 14 rfl rfl)
abbrev cX11_number : ByteArray := prog_9_method_6_code
def yX11_number : MethodName := ⟨RX11, "number", "(II)I"⟩
def dkwX11_number_1 : List UInt8 := [180, 0, 37, 62, 42, 182, 0, 70, 29, 172]
abbrev dktX11_number_1 : List UInt8 := dkwX11_number_1 ++ []
def dkwX11_number_0 : List UInt8 := [42, 180, 0, 37, 27, 161, 0, 11, 42, 180, 0, 37, 28, 164, 0, 8, 42, 182, 0, 73, 191, 42]
abbrev dktX11_number_0 : List UInt8 := dkwX11_number_0 ++ dktX11_number_1
theorem dksX11_number_0 : cX11_number.data.toList.drop 0 = dktX11_number_0 := by decide +kernel
theorem dksX11_number_1 : cX11_number.data.toList.drop 22 = dktX11_number_1 := dk_seg dksX11_number_0 22 rfl rfl
theorem dX11_number_0 : decode cX11_number 0 = .ok (.aload_n 0, 1) := dk_42 (dk_at dksX11_number_0 0 rfl rfl)
theorem dX11_number_1 : decode cX11_number 1 = .ok (.getfield 37, 3) := dk_180 0 37 (dk_at dksX11_number_0 1 rfl rfl)
theorem dX11_number_4 : decode cX11_number 4 = .ok (.iload_n 1, 1) := dk_27 (dk_at dksX11_number_0 4 rfl rfl)
theorem dX11_number_5 : decode cX11_number 5 = .ok (.if_icmp .lt 11, 3) := dk_161 0 11 (dk_at dksX11_number_0 5 rfl rfl)
theorem dX11_number_8 : decode cX11_number 8 = .ok (.aload_n 0, 1) := dk_42 (dk_at dksX11_number_0 8 rfl rfl)
theorem dX11_number_9 : decode cX11_number 9 = .ok (.getfield 37, 3) := dk_180 0 37 (dk_at dksX11_number_0 9 rfl rfl)
theorem dX11_number_12 : decode cX11_number 12 = .ok (.iload_n 2, 1) := dk_28 (dk_at dksX11_number_0 12 rfl rfl)
theorem dX11_number_13 : decode cX11_number 13 = .ok (.if_icmp .le 8, 3) := dk_164 0 8 (dk_at dksX11_number_0 13 rfl rfl)
theorem dX11_number_16 : decode cX11_number 16 = .ok (.aload_n 0, 1) := dk_42 (dk_at dksX11_number_0 16 rfl rfl)
theorem dX11_number_17 : decode cX11_number 17 = .ok (.invokevirtual 73, 3) := dk_182 0 73 (dk_at dksX11_number_0 17 rfl rfl)
theorem dX11_number_20 : decode cX11_number 20 = .ok (.athrow, 1) := dk_191 (dk_at dksX11_number_0 20 rfl rfl)
theorem dX11_number_21 : decode cX11_number 21 = .ok (.aload_n 0, 1) := dk_42 (dk_at dksX11_number_0 21 rfl rfl)
theorem dX11_number_22 : decode cX11_number 22 = .ok (.getfield 37, 3) := dk_180 0 37 (dk_at dksX11_number_1 0 rfl rfl)
theorem dX11_number_25 : decode cX11_number 25 = .ok (.istore_n 3, 1) := dk_62 (dk_at dksX11_number_1 3 rfl rfl)
theorem dX11_number_26 : decode cX11_number 26 = .ok (.aload_n 0, 1) := dk_42 (dk_at dksX11_number_1 4 rfl rfl)
theorem dX11_number_27 : decode cX11_number 27 = .ok (.invokevirtual 70, 3) := dk_182 0 70 (dk_at dksX11_number_1 5 rfl rfl)
theorem dX11_number_30 : decode cX11_number 30 = .ok (.iload_n 3, 1) := dk_29 (dk_at dksX11_number_1 8 rfl rfl)
theorem dX11_number_31 : decode cX11_number 31 = .ok (.ireturn, 1) := dk_172 (dk_at dksX11_number_1 9 rfl rfl)
abbrev cX11_takes : ByteArray := prog_9_method_5_code
def yX11_takes : MethodName := ⟨RX11, "takes", "(Ljava/lang/String;)Z"⟩
def dkwX11_takes_1 : List UInt8 := [4, 172]
abbrev dktX11_takes_1 : List UInt8 := dkwX11_takes_1 ++ []
def dkwX11_takes_0 : List UInt8 := [42, 180, 0, 33, 198, 0, 14, 42, 180, 0, 33, 43, 182, 0, 64, 154, 0, 5, 3, 172, 42, 182, 0, 70]
abbrev dktX11_takes_0 : List UInt8 := dkwX11_takes_0 ++ dktX11_takes_1
theorem dksX11_takes_0 : cX11_takes.data.toList.drop 0 = dktX11_takes_0 := by decide +kernel
theorem dksX11_takes_1 : cX11_takes.data.toList.drop 24 = dktX11_takes_1 := dk_seg dksX11_takes_0 24 rfl rfl
theorem dX11_takes_0 : decode cX11_takes 0 = .ok (.aload_n 0, 1) := dk_42 (dk_at dksX11_takes_0 0 rfl rfl)
theorem dX11_takes_1 : decode cX11_takes 1 = .ok (.getfield 33, 3) := dk_180 0 33 (dk_at dksX11_takes_0 1 rfl rfl)
theorem dX11_takes_4 : decode cX11_takes 4 = .ok (.ifnull 14, 3) := dk_198 0 14 (dk_at dksX11_takes_0 4 rfl rfl)
theorem dX11_takes_7 : decode cX11_takes 7 = .ok (.aload_n 0, 1) := dk_42 (dk_at dksX11_takes_0 7 rfl rfl)
theorem dX11_takes_8 : decode cX11_takes 8 = .ok (.getfield 33, 3) := dk_180 0 33 (dk_at dksX11_takes_0 8 rfl rfl)
theorem dX11_takes_11 : decode cX11_takes 11 = .ok (.aload_n 1, 1) := dk_43 (dk_at dksX11_takes_0 11 rfl rfl)
theorem dX11_takes_12 : decode cX11_takes 12 = .ok (.invokevirtual 64, 3) := dk_182 0 64 (dk_at dksX11_takes_0 12 rfl rfl)
theorem dX11_takes_15 : decode cX11_takes 15 = .ok (.ifCond .ne 5, 3) := dk_154 0 5 (dk_at dksX11_takes_0 15 rfl rfl)
theorem dX11_takes_18 : decode cX11_takes 18 = .ok (.iconst 0, 1) := dk_3 (dk_at dksX11_takes_0 18 rfl rfl)
theorem dX11_takes_19 : decode cX11_takes 19 = .ok (.ireturn, 1) := dk_172 (dk_at dksX11_takes_0 19 rfl rfl)
theorem dX11_takes_20 : decode cX11_takes 20 = .ok (.aload_n 0, 1) := dk_42 (dk_at dksX11_takes_0 20 rfl rfl)
theorem dX11_takes_21 : decode cX11_takes 21 = .ok (.invokevirtual 70, 3) := dk_182 0 70 (dk_at dksX11_takes_0 21 rfl rfl)
theorem dX11_takes_24 : decode cX11_takes 24 = .ok (.iconst 1, 1) := dk_4 (dk_at dksX11_takes_1 0 rfl rfl)
theorem dX11_takes_25 : decode cX11_takes 25 = .ok (.ireturn, 1) := dk_172 (dk_at dksX11_takes_1 1 rfl rfl)
abbrev cX11_goer : ByteArray := prog_9_method_9_code
def yX11_goer : MethodName := ⟨RX11, "goer", "()V"⟩
def dkwX11_goer_2 : List UInt8 := [184, 0, 103, 28, 182, 0, 107, 177]
abbrev dktX11_goer_2 : List UInt8 := dkwX11_goer_2 ++ []
def dkwX11_goer_1 : List UInt8 := [182, 0, 86, 61, 42, 180, 0, 19, 27, 42, 180, 0, 19, 180, 0, 100, 42, 3, 16, 99, 182, 0, 86]
abbrev dktX11_goer_1 : List UInt8 := dkwX11_goer_1 ++ dktX11_goer_2
def dkwX11_goer_0 : List UInt8 := [42, 42, 180, 0, 19, 180, 0, 100, 16, 6, 182, 0, 82, 42, 3, 8, 182, 0, 86, 60, 42, 4, 16, 30]
abbrev dktX11_goer_0 : List UInt8 := dkwX11_goer_0 ++ dktX11_goer_1
theorem dksX11_goer_0 : cX11_goer.data.toList.drop 0 = dktX11_goer_0 := by decide +kernel
theorem dksX11_goer_1 : cX11_goer.data.toList.drop 24 = dktX11_goer_1 := dk_seg dksX11_goer_0 24 rfl rfl
theorem dksX11_goer_2 : cX11_goer.data.toList.drop 47 = dktX11_goer_2 := dk_seg dksX11_goer_1 23 rfl rfl
theorem dX11_goer_0 : decode cX11_goer 0 = .ok (.aload_n 0, 1) := dk_42 (dk_at dksX11_goer_0 0 rfl rfl)
theorem dX11_goer_1 : decode cX11_goer 1 = .ok (.aload_n 0, 1) := dk_42 (dk_at dksX11_goer_0 1 rfl rfl)
theorem dX11_goer_2 : decode cX11_goer 2 = .ok (.getfield 19, 3) := dk_180 0 19 (dk_at dksX11_goer_0 2 rfl rfl)
theorem dX11_goer_5 : decode cX11_goer 5 = .ok (.getfield 100, 3) := dk_180 0 100 (dk_at dksX11_goer_0 5 rfl rfl)
theorem dX11_goer_8 : decode cX11_goer 8 = .ok (.bipush 6, 2) := dk_16 6 (dk_at dksX11_goer_0 8 rfl rfl)
theorem dX11_goer_10 : decode cX11_goer 10 = .ok (.invokevirtual 82, 3) := dk_182 0 82 (dk_at dksX11_goer_0 10 rfl rfl)
theorem dX11_goer_13 : decode cX11_goer 13 = .ok (.aload_n 0, 1) := dk_42 (dk_at dksX11_goer_0 13 rfl rfl)
theorem dX11_goer_14 : decode cX11_goer 14 = .ok (.iconst 0, 1) := dk_3 (dk_at dksX11_goer_0 14 rfl rfl)
theorem dX11_goer_15 : decode cX11_goer 15 = .ok (.iconst 5, 1) := dk_8 (dk_at dksX11_goer_0 15 rfl rfl)
theorem dX11_goer_16 : decode cX11_goer 16 = .ok (.invokevirtual 86, 3) := dk_182 0 86 (dk_at dksX11_goer_0 16 rfl rfl)
theorem dX11_goer_19 : decode cX11_goer 19 = .ok (.istore_n 1, 1) := dk_60 (dk_at dksX11_goer_0 19 rfl rfl)
theorem dX11_goer_20 : decode cX11_goer 20 = .ok (.aload_n 0, 1) := dk_42 (dk_at dksX11_goer_0 20 rfl rfl)
theorem dX11_goer_21 : decode cX11_goer 21 = .ok (.iconst 1, 1) := dk_4 (dk_at dksX11_goer_0 21 rfl rfl)
theorem dX11_goer_22 : decode cX11_goer 22 = .ok (.bipush 30, 2) := dk_16 30 (dk_at dksX11_goer_0 22 rfl rfl)
theorem dX11_goer_24 : decode cX11_goer 24 = .ok (.invokevirtual 86, 3) := dk_182 0 86 (dk_at dksX11_goer_1 0 rfl rfl)
theorem dX11_goer_27 : decode cX11_goer 27 = .ok (.istore_n 2, 1) := dk_61 (dk_at dksX11_goer_1 3 rfl rfl)
theorem dX11_goer_28 : decode cX11_goer 28 = .ok (.aload_n 0, 1) := dk_42 (dk_at dksX11_goer_1 4 rfl rfl)
theorem dX11_goer_29 : decode cX11_goer 29 = .ok (.getfield 19, 3) := dk_180 0 19 (dk_at dksX11_goer_1 5 rfl rfl)
theorem dX11_goer_32 : decode cX11_goer 32 = .ok (.iload_n 1, 1) := dk_27 (dk_at dksX11_goer_1 8 rfl rfl)
theorem dX11_goer_33 : decode cX11_goer 33 = .ok (.aload_n 0, 1) := dk_42 (dk_at dksX11_goer_1 9 rfl rfl)
theorem dX11_goer_34 : decode cX11_goer 34 = .ok (.getfield 19, 3) := dk_180 0 19 (dk_at dksX11_goer_1 10 rfl rfl)
theorem dX11_goer_37 : decode cX11_goer 37 = .ok (.getfield 100, 3) := dk_180 0 100 (dk_at dksX11_goer_1 13 rfl rfl)
theorem dX11_goer_40 : decode cX11_goer 40 = .ok (.aload_n 0, 1) := dk_42 (dk_at dksX11_goer_1 16 rfl rfl)
theorem dX11_goer_41 : decode cX11_goer 41 = .ok (.iconst 0, 1) := dk_3 (dk_at dksX11_goer_1 17 rfl rfl)
theorem dX11_goer_42 : decode cX11_goer 42 = .ok (.bipush 99, 2) := dk_16 99 (dk_at dksX11_goer_1 18 rfl rfl)
theorem dX11_goer_44 : decode cX11_goer 44 = .ok (.invokevirtual 86, 3) := dk_182 0 86 (dk_at dksX11_goer_1 20 rfl rfl)
theorem dX11_goer_47 : decode cX11_goer 47 = .ok (.invokestatic 103, 3) := dk_184 0 103 (dk_at dksX11_goer_2 0 rfl rfl)
theorem dX11_goer_50 : decode cX11_goer 50 = .ok (.iload_n 2, 1) := dk_28 (dk_at dksX11_goer_2 3 rfl rfl)
theorem dX11_goer_51 : decode cX11_goer 51 = .ok (.invokevirtual 107, 3) := dk_182 0 107 (dk_at dksX11_goer_2 4 rfl rfl)
theorem dX11_goer_54 : decode cX11_goer 54 = .ok (.return_, 1) := dk_177 (dk_at dksX11_goer_2 7 rfl rfl)
abbrev cX11_letter : ByteArray := prog_9_method_10_code
def yX11_letter : MethodName := ⟨RX11, "letter", "()V"⟩
def dkwX11_letter_3 : List UInt8 := [177]
abbrev dktX11_letter_3 : List UInt8 := dkwX11_letter_3 ++ []
def dkwX11_letter_2 : List UInt8 := [180, 0, 77, 4, 100, 182, 0, 86, 60, 42, 180, 0, 19, 27, 42, 3, 16, 100, 182, 0, 86, 182, 0, 117]
abbrev dktX11_letter_2 : List UInt8 := dkwX11_letter_2 ++ dktX11_letter_3
def dkwX11_letter_1 : List UInt8 := [180, 0, 114, 42, 180, 0, 37, 46, 16, 99, 160, 0, 8, 42, 182, 0, 73, 191, 42, 3, 42, 180, 0, 19]
abbrev dktX11_letter_1 : List UInt8 := dkwX11_letter_1 ++ dktX11_letter_2
def dkwX11_letter_0 : List UInt8 := [42, 182, 0, 70, 42, 180, 0, 19, 42, 180, 0, 37, 182, 0, 110, 153, 0, 25, 42, 180, 0, 19]
abbrev dktX11_letter_0 : List UInt8 := dkwX11_letter_0 ++ dktX11_letter_1
theorem dksX11_letter_0 : cX11_letter.data.toList.drop 0 = dktX11_letter_0 := by decide +kernel
theorem dksX11_letter_1 : cX11_letter.data.toList.drop 22 = dktX11_letter_1 := dk_seg dksX11_letter_0 22 rfl rfl
theorem dksX11_letter_2 : cX11_letter.data.toList.drop 46 = dktX11_letter_2 := dk_seg dksX11_letter_1 24 rfl rfl
theorem dksX11_letter_3 : cX11_letter.data.toList.drop 70 = dktX11_letter_3 := dk_seg dksX11_letter_2 24 rfl rfl
theorem dX11_letter_0 : decode cX11_letter 0 = .ok (.aload_n 0, 1) := dk_42 (dk_at dksX11_letter_0 0 rfl rfl)
theorem dX11_letter_1 : decode cX11_letter 1 = .ok (.invokevirtual 70, 3) := dk_182 0 70 (dk_at dksX11_letter_0 1 rfl rfl)
theorem dX11_letter_4 : decode cX11_letter 4 = .ok (.aload_n 0, 1) := dk_42 (dk_at dksX11_letter_0 4 rfl rfl)
theorem dX11_letter_5 : decode cX11_letter 5 = .ok (.getfield 19, 3) := dk_180 0 19 (dk_at dksX11_letter_0 5 rfl rfl)
theorem dX11_letter_8 : decode cX11_letter 8 = .ok (.aload_n 0, 1) := dk_42 (dk_at dksX11_letter_0 8 rfl rfl)
theorem dX11_letter_9 : decode cX11_letter 9 = .ok (.getfield 37, 3) := dk_180 0 37 (dk_at dksX11_letter_0 9 rfl rfl)
theorem dX11_letter_12 : decode cX11_letter 12 = .ok (.invokevirtual 110, 3) := dk_182 0 110 (dk_at dksX11_letter_0 12 rfl rfl)
theorem dX11_letter_15 : decode cX11_letter 15 = .ok (.ifCond .eq 25, 3) := dk_153 0 25 (dk_at dksX11_letter_0 15 rfl rfl)
theorem dX11_letter_18 : decode cX11_letter 18 = .ok (.aload_n 0, 1) := dk_42 (dk_at dksX11_letter_0 18 rfl rfl)
theorem dX11_letter_19 : decode cX11_letter 19 = .ok (.getfield 19, 3) := dk_180 0 19 (dk_at dksX11_letter_0 19 rfl rfl)
theorem dX11_letter_22 : decode cX11_letter 22 = .ok (.getfield 114, 3) := dk_180 0 114 (dk_at dksX11_letter_1 0 rfl rfl)
theorem dX11_letter_25 : decode cX11_letter 25 = .ok (.aload_n 0, 1) := dk_42 (dk_at dksX11_letter_1 3 rfl rfl)
theorem dX11_letter_26 : decode cX11_letter 26 = .ok (.getfield 37, 3) := dk_180 0 37 (dk_at dksX11_letter_1 4 rfl rfl)
theorem dX11_letter_29 : decode cX11_letter 29 = .ok (.iaload, 1) := dk_46 (dk_at dksX11_letter_1 7 rfl rfl)
theorem dX11_letter_30 : decode cX11_letter 30 = .ok (.bipush 99, 2) := dk_16 99 (dk_at dksX11_letter_1 8 rfl rfl)
theorem dX11_letter_32 : decode cX11_letter 32 = .ok (.if_icmp .ne 8, 3) := dk_160 0 8 (dk_at dksX11_letter_1 10 rfl rfl)
theorem dX11_letter_35 : decode cX11_letter 35 = .ok (.aload_n 0, 1) := dk_42 (dk_at dksX11_letter_1 13 rfl rfl)
theorem dX11_letter_36 : decode cX11_letter 36 = .ok (.invokevirtual 73, 3) := dk_182 0 73 (dk_at dksX11_letter_1 14 rfl rfl)
theorem dX11_letter_39 : decode cX11_letter 39 = .ok (.athrow, 1) := dk_191 (dk_at dksX11_letter_1 17 rfl rfl)
theorem dX11_letter_40 : decode cX11_letter 40 = .ok (.aload_n 0, 1) := dk_42 (dk_at dksX11_letter_1 18 rfl rfl)
theorem dX11_letter_41 : decode cX11_letter 41 = .ok (.iconst 0, 1) := dk_3 (dk_at dksX11_letter_1 19 rfl rfl)
theorem dX11_letter_42 : decode cX11_letter 42 = .ok (.aload_n 0, 1) := dk_42 (dk_at dksX11_letter_1 20 rfl rfl)
theorem dX11_letter_43 : decode cX11_letter 43 = .ok (.getfield 19, 3) := dk_180 0 19 (dk_at dksX11_letter_1 21 rfl rfl)
theorem dX11_letter_46 : decode cX11_letter 46 = .ok (.getfield 77, 3) := dk_180 0 77 (dk_at dksX11_letter_2 0 rfl rfl)
theorem dX11_letter_49 : decode cX11_letter 49 = .ok (.iconst 1, 1) := dk_4 (dk_at dksX11_letter_2 3 rfl rfl)
theorem dX11_letter_50 : decode cX11_letter 50 = .ok (.isub, 1) := dk_100 (dk_at dksX11_letter_2 4 rfl rfl)
theorem dX11_letter_51 : decode cX11_letter 51 = .ok (.invokevirtual 86, 3) := dk_182 0 86 (dk_at dksX11_letter_2 5 rfl rfl)
theorem dX11_letter_54 : decode cX11_letter 54 = .ok (.istore_n 1, 1) := dk_60 (dk_at dksX11_letter_2 8 rfl rfl)
theorem dX11_letter_55 : decode cX11_letter 55 = .ok (.aload_n 0, 1) := dk_42 (dk_at dksX11_letter_2 9 rfl rfl)
theorem dX11_letter_56 : decode cX11_letter 56 = .ok (.getfield 19, 3) := dk_180 0 19 (dk_at dksX11_letter_2 10 rfl rfl)
theorem dX11_letter_59 : decode cX11_letter 59 = .ok (.iload_n 1, 1) := dk_27 (dk_at dksX11_letter_2 13 rfl rfl)
theorem dX11_letter_60 : decode cX11_letter 60 = .ok (.aload_n 0, 1) := dk_42 (dk_at dksX11_letter_2 14 rfl rfl)
theorem dX11_letter_61 : decode cX11_letter 61 = .ok (.iconst 0, 1) := dk_3 (dk_at dksX11_letter_2 15 rfl rfl)
theorem dX11_letter_62 : decode cX11_letter 62 = .ok (.bipush 100, 2) := dk_16 100 (dk_at dksX11_letter_2 16 rfl rfl)
theorem dX11_letter_64 : decode cX11_letter 64 = .ok (.invokevirtual 86, 3) := dk_182 0 86 (dk_at dksX11_letter_2 18 rfl rfl)
theorem dX11_letter_67 : decode cX11_letter 67 = .ok (.invokevirtual 117, 3) := dk_182 0 117 (dk_at dksX11_letter_2 21 rfl rfl)
theorem dX11_letter_70 : decode cX11_letter 70 = .ok (.return_, 1) := dk_177 (dk_at dksX11_letter_3 0 rfl rfl)
abbrev cX11_write : ByteArray := prog_9_method_11_code
def yX11_write : MethodName := ⟨RX11, "write", "()V"⟩
def dkwX11_write_2 : List UInt8 := [182, 0, 70, 42, 180, 0, 37, 2, 160, 255, 208, 42, 180, 0, 19, 27, 182, 0, 123, 177]
abbrev dktX11_write_2 : List UInt8 := dkwX11_write_2 ++ []
def dkwX11_write_1 : List UInt8 := [180, 0, 37, 184, 0, 120, 153, 0, 8, 42, 182, 0, 73, 191, 27, 4, 42, 180, 0, 37, 120, 128, 60, 42]
abbrev dktX11_write_1 : List UInt8 := dkwX11_write_1 ++ dktX11_write_2
def dkwX11_write_0 : List UInt8 := [42, 182, 0, 70, 3, 60, 42, 180, 0, 19, 42, 180, 0, 37, 182, 0, 110, 153, 0, 14, 27, 42]
abbrev dktX11_write_0 : List UInt8 := dkwX11_write_0 ++ dktX11_write_1
theorem dksX11_write_0 : cX11_write.data.toList.drop 0 = dktX11_write_0 := by decide +kernel
theorem dksX11_write_1 : cX11_write.data.toList.drop 22 = dktX11_write_1 := dk_seg dksX11_write_0 22 rfl rfl
theorem dksX11_write_2 : cX11_write.data.toList.drop 46 = dktX11_write_2 := dk_seg dksX11_write_1 24 rfl rfl
theorem dX11_write_0 : decode cX11_write 0 = .ok (.aload_n 0, 1) := dk_42 (dk_at dksX11_write_0 0 rfl rfl)
theorem dX11_write_1 : decode cX11_write 1 = .ok (.invokevirtual 70, 3) := dk_182 0 70 (dk_at dksX11_write_0 1 rfl rfl)
theorem dX11_write_4 : decode cX11_write 4 = .ok (.iconst 0, 1) := dk_3 (dk_at dksX11_write_0 4 rfl rfl)
theorem dX11_write_5 : decode cX11_write 5 = .ok (.istore_n 1, 1) := dk_60 (dk_at dksX11_write_0 5 rfl rfl)
theorem dX11_write_6 : decode cX11_write 6 = .ok (.aload_n 0, 1) := dk_42 (dk_at dksX11_write_0 6 rfl rfl)
theorem dX11_write_7 : decode cX11_write 7 = .ok (.getfield 19, 3) := dk_180 0 19 (dk_at dksX11_write_0 7 rfl rfl)
theorem dX11_write_10 : decode cX11_write 10 = .ok (.aload_n 0, 1) := dk_42 (dk_at dksX11_write_0 10 rfl rfl)
theorem dX11_write_11 : decode cX11_write 11 = .ok (.getfield 37, 3) := dk_180 0 37 (dk_at dksX11_write_0 11 rfl rfl)
theorem dX11_write_14 : decode cX11_write 14 = .ok (.invokevirtual 110, 3) := dk_182 0 110 (dk_at dksX11_write_0 14 rfl rfl)
theorem dX11_write_17 : decode cX11_write 17 = .ok (.ifCond .eq 14, 3) := dk_153 0 14 (dk_at dksX11_write_0 17 rfl rfl)
theorem dX11_write_20 : decode cX11_write 20 = .ok (.iload_n 1, 1) := dk_27 (dk_at dksX11_write_0 20 rfl rfl)
theorem dX11_write_21 : decode cX11_write 21 = .ok (.aload_n 0, 1) := dk_42 (dk_at dksX11_write_0 21 rfl rfl)
theorem dX11_write_22 : decode cX11_write 22 = .ok (.getfield 37, 3) := dk_180 0 37 (dk_at dksX11_write_1 0 rfl rfl)
theorem dX11_write_25 : decode cX11_write 25 = .ok (.invokestatic 120, 3) := dk_184 0 120 (dk_at dksX11_write_1 3 rfl rfl)
theorem dX11_write_28 : decode cX11_write 28 = .ok (.ifCond .eq 8, 3) := dk_153 0 8 (dk_at dksX11_write_1 6 rfl rfl)
theorem dX11_write_31 : decode cX11_write 31 = .ok (.aload_n 0, 1) := dk_42 (dk_at dksX11_write_1 9 rfl rfl)
theorem dX11_write_32 : decode cX11_write 32 = .ok (.invokevirtual 73, 3) := dk_182 0 73 (dk_at dksX11_write_1 10 rfl rfl)
theorem dX11_write_35 : decode cX11_write 35 = .ok (.athrow, 1) := dk_191 (dk_at dksX11_write_1 13 rfl rfl)
theorem dX11_write_36 : decode cX11_write 36 = .ok (.iload_n 1, 1) := dk_27 (dk_at dksX11_write_1 14 rfl rfl)
theorem dX11_write_37 : decode cX11_write 37 = .ok (.iconst 1, 1) := dk_4 (dk_at dksX11_write_1 15 rfl rfl)
theorem dX11_write_38 : decode cX11_write 38 = .ok (.aload_n 0, 1) := dk_42 (dk_at dksX11_write_1 16 rfl rfl)
theorem dX11_write_39 : decode cX11_write 39 = .ok (.getfield 37, 3) := dk_180 0 37 (dk_at dksX11_write_1 17 rfl rfl)
theorem dX11_write_42 : decode cX11_write 42 = .ok (.ishl, 1) := dk_120 (dk_at dksX11_write_1 20 rfl rfl)
theorem dX11_write_43 : decode cX11_write 43 = .ok (.ior, 1) := dk_128 (dk_at dksX11_write_1 21 rfl rfl)
theorem dX11_write_44 : decode cX11_write 44 = .ok (.istore_n 1, 1) := dk_60 (dk_at dksX11_write_1 22 rfl rfl)
theorem dX11_write_45 : decode cX11_write 45 = .ok (.aload_n 0, 1) := dk_42 (dk_at dksX11_write_1 23 rfl rfl)
theorem dX11_write_46 : decode cX11_write 46 = .ok (.invokevirtual 70, 3) := dk_182 0 70 (dk_at dksX11_write_2 0 rfl rfl)
theorem dX11_write_49 : decode cX11_write 49 = .ok (.aload_n 0, 1) := dk_42 (dk_at dksX11_write_2 3 rfl rfl)
theorem dX11_write_50 : decode cX11_write 50 = .ok (.getfield 37, 3) := dk_180 0 37 (dk_at dksX11_write_2 4 rfl rfl)
theorem dX11_write_53 : decode cX11_write 53 = .ok (.iconst (-1), 1) := dk_2 (dk_at dksX11_write_2 7 rfl rfl)
theorem dX11_write_54 : decode cX11_write 54 = .ok (.if_icmp .ne (-48), 3) := dk_160 255 208 (dk_at dksX11_write_2 8 rfl rfl)
theorem dX11_write_57 : decode cX11_write 57 = .ok (.aload_n 0, 1) := dk_42 (dk_at dksX11_write_2 11 rfl rfl)
theorem dX11_write_58 : decode cX11_write 58 = .ok (.getfield 19, 3) := dk_180 0 19 (dk_at dksX11_write_2 12 rfl rfl)
theorem dX11_write_61 : decode cX11_write 61 = .ok (.iload_n 1, 1) := dk_27 (dk_at dksX11_write_2 15 rfl rfl)
theorem dX11_write_62 : decode cX11_write 62 = .ok (.invokevirtual 123, 3) := dk_182 0 123 (dk_at dksX11_write_2 16 rfl rfl)
theorem dX11_write_65 : decode cX11_write 65 = .ok (.return_, 1) := dk_177 (dk_at dksX11_write_2 19 rfl rfl)
theorem q100 : (Jvm.Cond.initialized "EverybodyHasTheBook$Reader") ∈ lw_all := lw_g (lw_at lw_m1 25 rfl) rfl
theorem q144 : (Jvm.Cond.fieldLink "EverybodyHasTheBook$Reader" (98 : Nat) "EverybodyHasTheBook$Valley" "said" "[I") ∈ lw_all := lw_g (lw_at lw_m1 69 rfl) rfl
theorem q148 : (Jvm.Cond.fieldLink "EverybodyHasTheBook$Reader" (114 : Nat) "EverybodyHasTheBook$Valley" "letters" "[I") ∈ lw_all := lw_g (lw_at lw_m1 73 rfl) rfl
theorem q166 : (Jvm.Cond.fieldLink "EverybodyHasTheBook$Reader" (77 : Nat) "EverybodyHasTheBook$Valley" "inns" "I") ∈ lw_all := lw_g (lw_at lw_m1 91 rfl) rfl
theorem q169 : (Jvm.Cond.fieldLink "EverybodyHasTheBook$Reader" (100 : Nat) "EverybodyHasTheBook$Valley" "goers" "I") ∈ lw_all := lw_g (lw_at lw_m1 94 rfl) rfl
theorem q173 : (Jvm.Cond.fieldLink "EverybodyHasTheBook$Reader" (146 : Nat) "EverybodyHasTheBook$Valley" "age" "I") ∈ lw_all := lw_g (lw_at lw_m1 98 rfl) rfl
theorem q726 : (Jvm.Cond.instantiable "EverybodyHasTheBook$Reader" (7 : Nat)) ∈ lw_all := lw_g (lw_at lw_m3 171 rfl) rfl
theorem q739 : (Jvm.Cond.instanceMethod ({ cls := "EverybodyHasTheBook$Reader", name := "<init>", desc := "([IILEverybodyHasTheBook$Valley;)V" } : Jvm.MethodName)) ∈ lw_all := lw_g (lw_at lw_m3 184 rfl) rfl
theorem q740 : (Jvm.Cond.code ({ cls := "EverybodyHasTheBook$Reader", name := "<init>", desc := "([IILEverybodyHasTheBook$Valley;)V" } : Jvm.MethodName) prog_9_method_1_code (4 : Nat) (Option.none : Option Jvm.ClassFile.FieldType)) ∈ lw_all := lw_g (lw_at lw_m3 185 rfl) rfl
theorem q741 : (Jvm.Cond.methodLink "EverybodyHasTheBook$Reader" (3 : Nat) ({ cls := "java/lang/Object", name := "<init>", desc := "()V" } : Jvm.MethodName)) ∈ lw_all := lw_g (lw_at lw_m3 186 rfl) rfl
theorem q742 : (Jvm.Cond.fieldLink "EverybodyHasTheBook$Reader" (9 : Nat) "EverybodyHasTheBook$Reader" "tape" "[I") ∈ lw_all := lw_g (lw_at lw_m3 187 rfl) rfl
theorem q743 : (Jvm.Cond.fieldLink "EverybodyHasTheBook$Reader" (15 : Nat) "EverybodyHasTheBook$Reader" "size" "I") ∈ lw_all := lw_g (lw_at lw_m3 188 rfl) rfl
theorem q744 : (Jvm.Cond.fieldLink "EverybodyHasTheBook$Reader" (19 : Nat) "EverybodyHasTheBook$Reader" "valley" "LEverybodyHasTheBook$Valley;") ∈ lw_all := lw_g (lw_at lw_m3 189 rfl) rfl
theorem q746 : (Jvm.Cond.fieldLink "EverybodyHasTheBook$Reader" (23 : Nat) "EverybodyHasTheBook$Reader" "at" "I") ∈ lw_all := lw_g (lw_at lw_m3 191 rfl) rfl
theorem q747 : (Jvm.Cond.fieldLink "EverybodyHasTheBook$Reader" (30 : Nat) "EverybodyHasTheBook$Reader" "from" "I") ∈ lw_all := lw_g (lw_at lw_m3 192 rfl) rfl
theorem q748 : (Jvm.Cond.fieldLink "EverybodyHasTheBook$Reader" (33 : Nat) "EverybodyHasTheBook$Reader" "word" "Ljava/lang/String;") ∈ lw_all := lw_g (lw_at lw_m3 193 rfl) rfl
theorem q749 : (Jvm.Cond.fieldLink "EverybodyHasTheBook$Reader" (37 : Nat) "EverybodyHasTheBook$Reader" "number" "I") ∈ lw_all := lw_g (lw_at lw_m3 194 rfl) rfl
theorem q750 : (Jvm.Cond.laysFinal "EverybodyHasTheBook$Reader" "EverybodyHasTheBook$Reader" "tape" "[I") ∈ lw_all := lw_g (lw_at lw_m3 195 rfl) rfl
theorem q751 : (Jvm.Cond.soleField "EverybodyHasTheBook$Reader" "tape") ∈ lw_all := lw_g (lw_at lw_m3 196 rfl) rfl
theorem q752 : (Jvm.Cond.laysFinal "EverybodyHasTheBook$Reader" "EverybodyHasTheBook$Reader" "size" "I") ∈ lw_all := lw_g (lw_at lw_m3 197 rfl) rfl
theorem q753 : (Jvm.Cond.soleField "EverybodyHasTheBook$Reader" "size") ∈ lw_all := lw_g (lw_at lw_m3 198 rfl) rfl
theorem q754 : (Jvm.Cond.laysFinal "EverybodyHasTheBook$Reader" "EverybodyHasTheBook$Reader" "valley" "LEverybodyHasTheBook$Valley;") ∈ lw_all := lw_g (lw_at lw_m3 199 rfl) rfl
theorem q755 : (Jvm.Cond.soleField "EverybodyHasTheBook$Reader" "valley") ∈ lw_all := lw_g (lw_at lw_m3 200 rfl) rfl
theorem q756 : (Jvm.Cond.lays "EverybodyHasTheBook$Reader" "EverybodyHasTheBook$Reader" "at" "I") ∈ lw_all := lw_g (lw_at lw_m3 201 rfl) rfl
theorem q757 : (Jvm.Cond.soleField "EverybodyHasTheBook$Reader" "at") ∈ lw_all := lw_g (lw_at lw_m3 202 rfl) rfl
theorem q758 : (Jvm.Cond.lays "EverybodyHasTheBook$Reader" "EverybodyHasTheBook$Reader" "from" "I") ∈ lw_all := lw_g (lw_at lw_m3 203 rfl) rfl
theorem q759 : (Jvm.Cond.soleField "EverybodyHasTheBook$Reader" "from") ∈ lw_all := lw_g (lw_at lw_m3 204 rfl) rfl
theorem q760 : (Jvm.Cond.lays "EverybodyHasTheBook$Reader" "EverybodyHasTheBook$Reader" "word" "Ljava/lang/String;") ∈ lw_all := lw_g (lw_at lw_m3 205 rfl) rfl
theorem q761 : (Jvm.Cond.soleField "EverybodyHasTheBook$Reader" "word") ∈ lw_all := lw_g (lw_at lw_m3 206 rfl) rfl
theorem q762 : (Jvm.Cond.lays "EverybodyHasTheBook$Reader" "EverybodyHasTheBook$Reader" "number" "I") ∈ lw_all := lw_g (lw_at lw_m3 207 rfl) rfl
theorem q763 : (Jvm.Cond.soleField "EverybodyHasTheBook$Reader" "number") ∈ lw_all := lw_g (lw_at lw_m3 208 rfl) rfl
theorem q764 : (Jvm.Cond.superclass "EverybodyHasTheBook$Reader" "java/lang/Object") ∈ lw_all := lw_g (lw_at lw_m3 209 rfl) rfl
theorem q766 : (Jvm.Cond.instanceMethod ({ cls := "EverybodyHasTheBook$Reader", name := "read", desc := "()I" } : Jvm.MethodName)) ∈ lw_all := lw_g (lw_at lw_m3 211 rfl) rfl
theorem q767 : (Jvm.Cond.selects "EverybodyHasTheBook$Reader" ({ cls := "EverybodyHasTheBook$Reader", name := "read", desc := "()I" } : Jvm.MethodName) ({ cls := "EverybodyHasTheBook$Reader", name := "read", desc := "()I" } : Jvm.MethodName)) ∈ lw_all := lw_g (lw_at lw_m3 212 rfl) rfl
theorem q768 : (Jvm.Cond.code ({ cls := "EverybodyHasTheBook$Reader", name := "read", desc := "()I" } : Jvm.MethodName) prog_9_method_13_code (2 : Nat) (Option.some Jvm.ClassFile.FieldType.int)) ∈ lw_all := lw_g (lw_at lw_m3 213 rfl) rfl
theorem q769 : (Jvm.Cond.methodLink "EverybodyHasTheBook$Reader" (70 : Nat) ({ cls := "EverybodyHasTheBook$Reader", name := "next", desc := "()V" } : Jvm.MethodName)) ∈ lw_all := lw_g (lw_at lw_m3 214 rfl) rfl
theorem q770 : (Jvm.Cond.privateMethod ({ cls := "EverybodyHasTheBook$Reader", name := "next", desc := "()V" } : Jvm.MethodName)) ∈ lw_tbl := lw_at lw_m3 215 rfl
theorem q771 : (Jvm.Cond.instanceMethod ({ cls := "EverybodyHasTheBook$Reader", name := "next", desc := "()V" } : Jvm.MethodName)) ∈ lw_all := lw_g (lw_at lw_m3 216 rfl) rfl
theorem q772 : (Jvm.Cond.code ({ cls := "EverybodyHasTheBook$Reader", name := "next", desc := "()V" } : Jvm.MethodName) prog_9_method_3_code (2 : Nat) (Option.none : Option Jvm.ClassFile.FieldType)) ∈ lw_all := lw_g (lw_at lw_m3 217 rfl) rfl
theorem q773 : (Jvm.Cond.methodLink "EverybodyHasTheBook$Reader" (26 : Nat) ({ cls := "EverybodyHasTheBook$Reader", name := "isIn", desc := "(II)Z" } : Jvm.MethodName)) ∈ lw_all := lw_g (lw_at lw_m3 218 rfl) rfl
theorem q774 : (Jvm.Cond.privateMethod ({ cls := "EverybodyHasTheBook$Reader", name := "isIn", desc := "(II)Z" } : Jvm.MethodName)) ∈ lw_tbl := lw_at lw_m3 219 rfl
theorem q775 : (Jvm.Cond.instanceMethod ({ cls := "EverybodyHasTheBook$Reader", name := "isIn", desc := "(II)Z" } : Jvm.MethodName)) ∈ lw_all := lw_g (lw_at lw_m3 220 rfl) rfl
theorem q776 : (Jvm.Cond.code ({ cls := "EverybodyHasTheBook$Reader", name := "isIn", desc := "(II)Z" } : Jvm.MethodName) prog_9_method_2_code (3 : Nat) (Option.some Jvm.ClassFile.FieldType.boolean)) ∈ lw_all := lw_g (lw_at lw_m3 221 rfl) rfl
theorem q777 : (Jvm.Cond.classLink "EverybodyHasTheBook$Reader" (40 : Nat) "java/lang/StringBuilder") ∈ lw_all := lw_g (lw_at lw_m3 222 rfl) rfl
theorem q779 : (Jvm.Cond.methodLink "EverybodyHasTheBook$Reader" (42 : Nat) ({ cls := "java/lang/StringBuilder", name := "<init>", desc := "()V" } : Jvm.MethodName)) ∈ lw_all := lw_g (lw_at lw_m3 224 rfl) rfl
theorem q813 : (Jvm.Cond.methodLink "EverybodyHasTheBook$Reader" (43 : Nat) ({ cls := "java/lang/StringBuilder", name := "append", desc := "(C)Ljava/lang/StringBuilder;" } : Jvm.MethodName)) ∈ lw_all := lw_g (lw_at lw_m4 18 rfl) rfl
theorem q904 : (Jvm.Cond.methodLink "EverybodyHasTheBook$Reader" (47 : Nat) ({ cls := "java/lang/StringBuilder", name := "toString", desc := "()Ljava/lang/String;" } : Jvm.MethodName)) ∈ lw_all := lw_g (lw_at lw_m4 109 rfl) rfl
theorem q962 : (Jvm.Cond.methodLink "EverybodyHasTheBook$Reader" (51 : Nat) ({ cls := "java/lang/Math", name := "min", desc := "(II)I" } : Jvm.MethodName)) ∈ lw_all := lw_g (lw_at lw_m4 167 rfl) rfl
theorem q963 : (Jvm.Cond.stringRef "EverybodyHasTheBook$Reader" (57 : Nat) ";") ∈ lw_tbl := lw_at lw_m4 168 rfl
theorem q964 : (Jvm.Cond.methodLink "EverybodyHasTheBook$Reader" (150 : Nat) ({ cls := "EverybodyHasTheBook$Reader", name := "item", desc := "()V" } : Jvm.MethodName)) ∈ lw_all := lw_g (lw_at lw_m4 169 rfl) rfl
theorem q965 : (Jvm.Cond.privateMethod ({ cls := "EverybodyHasTheBook$Reader", name := "item", desc := "()V" } : Jvm.MethodName)) ∈ lw_tbl := lw_at lw_m4 170 rfl
theorem q966 : (Jvm.Cond.instanceMethod ({ cls := "EverybodyHasTheBook$Reader", name := "item", desc := "()V" } : Jvm.MethodName)) ∈ lw_all := lw_g (lw_at lw_m4 171 rfl) rfl
theorem q967 : (Jvm.Cond.code ({ cls := "EverybodyHasTheBook$Reader", name := "item", desc := "()V" } : Jvm.MethodName) prog_9_method_12_code (3 : Nat) (Option.none : Option Jvm.ClassFile.FieldType)) ∈ lw_all := lw_g (lw_at lw_m4 172 rfl) rfl
theorem q968 : (Jvm.Cond.methodLink "EverybodyHasTheBook$Reader" (73 : Nat) ({ cls := "EverybodyHasTheBook$Reader", name := "wrong", desc := "()LEverybodyHasTheBook$Fault;" } : Jvm.MethodName)) ∈ lw_all := lw_g (lw_at lw_m4 173 rfl) rfl
theorem q969 : (Jvm.Cond.privateMethod ({ cls := "EverybodyHasTheBook$Reader", name := "wrong", desc := "()LEverybodyHasTheBook$Fault;" } : Jvm.MethodName)) ∈ lw_tbl := lw_at lw_m4 174 rfl
theorem q970 : (Jvm.Cond.instanceMethod ({ cls := "EverybodyHasTheBook$Reader", name := "wrong", desc := "()LEverybodyHasTheBook$Fault;" } : Jvm.MethodName)) ∈ lw_all := lw_g (lw_at lw_m4 175 rfl) rfl
theorem q971 : (Jvm.Cond.code ({ cls := "EverybodyHasTheBook$Reader", name := "wrong", desc := "()LEverybodyHasTheBook$Fault;" } : Jvm.MethodName) prog_9_method_4_code (1 : Nat) (Option.some (Jvm.ClassFile.FieldType.object "EverybodyHasTheBook$Fault"))) ∈ lw_all := lw_g (lw_at lw_m4 176 rfl) rfl
theorem q972 : (Jvm.Cond.classLink "EverybodyHasTheBook$Reader" (59 : Nat) "EverybodyHasTheBook$Fault") ∈ lw_all := lw_g (lw_at lw_m4 177 rfl) rfl
theorem q981 : (Jvm.Cond.methodLink "EverybodyHasTheBook$Reader" (61 : Nat) ({ cls := "EverybodyHasTheBook$Fault", name := "<init>", desc := "(I)V" } : Jvm.MethodName)) ∈ lw_all := lw_g (lw_at lw_m4 186 rfl) rfl
theorem q991 : (Jvm.Cond.methodLink "EverybodyHasTheBook$Reader" (126 : Nat) ({ cls := "java/lang/String", name := "hashCode", desc := "()I" } : Jvm.MethodName)) ∈ lw_all := lw_g (lw_at lw_m4 196 rfl) rfl
theorem q1044 : (Jvm.Cond.stringRef "EverybodyHasTheBook$Reader" (130 : Nat) "inn") ∈ lw_tbl := lw_at lw_m5 9 rfl
theorem q1045 : (Jvm.Cond.methodLink "EverybodyHasTheBook$Reader" (64 : Nat) ({ cls := "java/lang/String", name := "equals", desc := "(Ljava/lang/Object;)Z" } : Jvm.MethodName)) ∈ lw_all := lw_g (lw_at lw_m5 10 rfl) rfl
theorem q1053 : (Jvm.Cond.stringRef "EverybodyHasTheBook$Reader" (132 : Nat) "goer") ∈ lw_tbl := lw_at lw_m5 18 rfl
theorem q1054 : (Jvm.Cond.stringRef "EverybodyHasTheBook$Reader" (134 : Nat) "letter") ∈ lw_tbl := lw_at lw_m5 19 rfl
theorem q1055 : (Jvm.Cond.stringRef "EverybodyHasTheBook$Reader" (136 : Nat) "age") ∈ lw_tbl := lw_at lw_m5 20 rfl
theorem q1056 : (Jvm.Cond.stringRef "EverybodyHasTheBook$Reader" (138 : Nat) "write") ∈ lw_tbl := lw_at lw_m5 21 rfl
theorem q1057 : (Jvm.Cond.methodLink "EverybodyHasTheBook$Reader" (140 : Nat) ({ cls := "EverybodyHasTheBook$Reader", name := "inn", desc := "()V" } : Jvm.MethodName)) ∈ lw_all := lw_g (lw_at lw_m5 22 rfl) rfl
theorem q1058 : (Jvm.Cond.privateMethod ({ cls := "EverybodyHasTheBook$Reader", name := "inn", desc := "()V" } : Jvm.MethodName)) ∈ lw_tbl := lw_at lw_m5 23 rfl
theorem q1059 : (Jvm.Cond.instanceMethod ({ cls := "EverybodyHasTheBook$Reader", name := "inn", desc := "()V" } : Jvm.MethodName)) ∈ lw_all := lw_g (lw_at lw_m5 24 rfl) rfl
theorem q1060 : (Jvm.Cond.code ({ cls := "EverybodyHasTheBook$Reader", name := "inn", desc := "()V" } : Jvm.MethodName) prog_9_method_8_code (3 : Nat) (Option.none : Option Jvm.ClassFile.FieldType)) ∈ lw_all := lw_g (lw_at lw_m5 25 rfl) rfl
theorem q1061 : (Jvm.Cond.methodLink "EverybodyHasTheBook$Reader" (82 : Nat) ({ cls := "EverybodyHasTheBook$Reader", name := "room", desc := "(II)V" } : Jvm.MethodName)) ∈ lw_all := lw_g (lw_at lw_m5 26 rfl) rfl
theorem q1062 : (Jvm.Cond.privateMethod ({ cls := "EverybodyHasTheBook$Reader", name := "room", desc := "(II)V" } : Jvm.MethodName)) ∈ lw_tbl := lw_at lw_m5 27 rfl
theorem q1063 : (Jvm.Cond.instanceMethod ({ cls := "EverybodyHasTheBook$Reader", name := "room", desc := "(II)V" } : Jvm.MethodName)) ∈ lw_all := lw_g (lw_at lw_m5 28 rfl) rfl
theorem q1064 : (Jvm.Cond.code ({ cls := "EverybodyHasTheBook$Reader", name := "room", desc := "(II)V" } : Jvm.MethodName) prog_9_method_7_code (3 : Nat) (Option.none : Option Jvm.ClassFile.FieldType)) ∈ lw_all := lw_g (lw_at lw_m5 29 rfl) rfl
theorem q1065 : (Jvm.Cond.methodLink "EverybodyHasTheBook$Reader" (86 : Nat) ({ cls := "EverybodyHasTheBook$Reader", name := "number", desc := "(II)I" } : Jvm.MethodName)) ∈ lw_all := lw_g (lw_at lw_m5 30 rfl) rfl
theorem q1066 : (Jvm.Cond.privateMethod ({ cls := "EverybodyHasTheBook$Reader", name := "number", desc := "(II)I" } : Jvm.MethodName)) ∈ lw_tbl := lw_at lw_m5 31 rfl
theorem q1067 : (Jvm.Cond.instanceMethod ({ cls := "EverybodyHasTheBook$Reader", name := "number", desc := "(II)I" } : Jvm.MethodName)) ∈ lw_all := lw_g (lw_at lw_m5 32 rfl) rfl
theorem q1068 : (Jvm.Cond.code ({ cls := "EverybodyHasTheBook$Reader", name := "number", desc := "(II)I" } : Jvm.MethodName) prog_9_method_6_code (4 : Nat) (Option.some Jvm.ClassFile.FieldType.int)) ∈ lw_all := lw_g (lw_at lw_m5 33 rfl) rfl
theorem q1069 : (Jvm.Cond.methodLink "EverybodyHasTheBook$Reader" (88 : Nat) ({ cls := "EverybodyHasTheBook$Valley", name := "adds", desc := "(III)V" } : Jvm.MethodName)) ∈ lw_all := lw_g (lw_at lw_m5 34 rfl) rfl
theorem q1070 : (Jvm.Cond.stringRef "EverybodyHasTheBook$Reader" (92 : Nat) "said") ∈ lw_tbl := lw_at lw_m5 35 rfl
theorem q1071 : (Jvm.Cond.methodLink "EverybodyHasTheBook$Reader" (94 : Nat) ({ cls := "EverybodyHasTheBook$Reader", name := "takes", desc := "(Ljava/lang/String;)Z" } : Jvm.MethodName)) ∈ lw_all := lw_g (lw_at lw_m5 36 rfl) rfl
theorem q1072 : (Jvm.Cond.privateMethod ({ cls := "EverybodyHasTheBook$Reader", name := "takes", desc := "(Ljava/lang/String;)Z" } : Jvm.MethodName)) ∈ lw_tbl := lw_at lw_m5 37 rfl
theorem q1073 : (Jvm.Cond.instanceMethod ({ cls := "EverybodyHasTheBook$Reader", name := "takes", desc := "(Ljava/lang/String;)Z" } : Jvm.MethodName)) ∈ lw_all := lw_g (lw_at lw_m5 38 rfl) rfl
theorem q1074 : (Jvm.Cond.code ({ cls := "EverybodyHasTheBook$Reader", name := "takes", desc := "(Ljava/lang/String;)Z" } : Jvm.MethodName) prog_9_method_5_code (2 : Nat) (Option.some Jvm.ClassFile.FieldType.boolean)) ∈ lw_all := lw_g (lw_at lw_m5 39 rfl) rfl
theorem q1075 : (Jvm.Cond.methodLink "EverybodyHasTheBook$Reader" (142 : Nat) ({ cls := "EverybodyHasTheBook$Reader", name := "goer", desc := "()V" } : Jvm.MethodName)) ∈ lw_all := lw_g (lw_at lw_m5 40 rfl) rfl
theorem q1076 : (Jvm.Cond.privateMethod ({ cls := "EverybodyHasTheBook$Reader", name := "goer", desc := "()V" } : Jvm.MethodName)) ∈ lw_tbl := lw_at lw_m5 41 rfl
theorem q1077 : (Jvm.Cond.instanceMethod ({ cls := "EverybodyHasTheBook$Reader", name := "goer", desc := "()V" } : Jvm.MethodName)) ∈ lw_all := lw_g (lw_at lw_m5 42 rfl) rfl
theorem q1078 : (Jvm.Cond.code ({ cls := "EverybodyHasTheBook$Reader", name := "goer", desc := "()V" } : Jvm.MethodName) prog_9_method_9_code (3 : Nat) (Option.none : Option Jvm.ClassFile.FieldType)) ∈ lw_all := lw_g (lw_at lw_m5 43 rfl) rfl
theorem q1079 : (Jvm.Cond.methodLinkNest "EverybodyHasTheBook$Reader" (103 : Nat) ({ cls := "EverybodyHasTheBook", name := "made", desc := "(III)LEverybodyHasTheBook$Goer;" } : Jvm.MethodName) "EverybodyHasTheBook") ∈ lw_tbl := lw_at lw_m5 44 rfl
theorem q1080 : (Jvm.Cond.methodLink "EverybodyHasTheBook$Reader" (107 : Nat) ({ cls := "EverybodyHasTheBook$Valley", name := "adds", desc := "(LEverybodyHasTheBook$Goer;I)V" } : Jvm.MethodName)) ∈ lw_all := lw_g (lw_at lw_m5 45 rfl) rfl
theorem q1081 : (Jvm.Cond.methodLink "EverybodyHasTheBook$Reader" (144 : Nat) ({ cls := "EverybodyHasTheBook$Reader", name := "letter", desc := "()V" } : Jvm.MethodName)) ∈ lw_all := lw_g (lw_at lw_m5 46 rfl) rfl
theorem q1082 : (Jvm.Cond.privateMethod ({ cls := "EverybodyHasTheBook$Reader", name := "letter", desc := "()V" } : Jvm.MethodName)) ∈ lw_tbl := lw_at lw_m5 47 rfl
theorem q1083 : (Jvm.Cond.instanceMethod ({ cls := "EverybodyHasTheBook$Reader", name := "letter", desc := "()V" } : Jvm.MethodName)) ∈ lw_all := lw_g (lw_at lw_m5 48 rfl) rfl
theorem q1084 : (Jvm.Cond.code ({ cls := "EverybodyHasTheBook$Reader", name := "letter", desc := "()V" } : Jvm.MethodName) prog_9_method_10_code (2 : Nat) (Option.none : Option Jvm.ClassFile.FieldType)) ∈ lw_all := lw_g (lw_at lw_m5 49 rfl) rfl
theorem q1085 : (Jvm.Cond.methodLink "EverybodyHasTheBook$Reader" (110 : Nat) ({ cls := "EverybodyHasTheBook$Valley", name := "isInn", desc := "(I)Z" } : Jvm.MethodName)) ∈ lw_all := lw_g (lw_at lw_m5 50 rfl) rfl
theorem q1086 : (Jvm.Cond.methodLink "EverybodyHasTheBook$Reader" (117 : Nat) ({ cls := "EverybodyHasTheBook$Valley", name := "gets", desc := "(II)V" } : Jvm.MethodName)) ∈ lw_all := lw_g (lw_at lw_m5 51 rfl) rfl
theorem q1087 : (Jvm.Cond.methodLink "EverybodyHasTheBook$Reader" (148 : Nat) ({ cls := "EverybodyHasTheBook$Reader", name := "write", desc := "()V" } : Jvm.MethodName)) ∈ lw_all := lw_g (lw_at lw_m5 52 rfl) rfl
theorem q1088 : (Jvm.Cond.privateMethod ({ cls := "EverybodyHasTheBook$Reader", name := "write", desc := "()V" } : Jvm.MethodName)) ∈ lw_tbl := lw_at lw_m5 53 rfl
theorem q1089 : (Jvm.Cond.instanceMethod ({ cls := "EverybodyHasTheBook$Reader", name := "write", desc := "()V" } : Jvm.MethodName)) ∈ lw_all := lw_g (lw_at lw_m5 54 rfl) rfl
theorem q1090 : (Jvm.Cond.code ({ cls := "EverybodyHasTheBook$Reader", name := "write", desc := "()V" } : Jvm.MethodName) prog_9_method_11_code (2 : Nat) (Option.none : Option Jvm.ClassFile.FieldType)) ∈ lw_all := lw_g (lw_at lw_m5 55 rfl) rfl
theorem q1091 : (Jvm.Cond.methodLinkNest "EverybodyHasTheBook$Reader" (120 : Nat) ({ cls := "EverybodyHasTheBook", name := "has", desc := "(II)Z" } : Jvm.MethodName) "EverybodyHasTheBook") ∈ lw_tbl := lw_at lw_m5 56 rfl
theorem q1092 : (Jvm.Cond.methodLink "EverybodyHasTheBook$Reader" (123 : Nat) ({ cls := "EverybodyHasTheBook$Valley", name := "writes", desc := "(I)V" } : Jvm.MethodName)) ∈ lw_all := lw_g (lw_at lw_m5 57 rfl) rfl
theorem in_X11 : ∀ w ∈ wsX110, w ∈ lw_all := lw_in wsX110 [750, 752, 754, 756, 758, 760, 762] (by decide +kernel) (by decide +kernel)
/-! EverybodyHasTheBook$Fault -/
set_option maxRecDepth 100000
def RX12 : String := "EverybodyHasTheBook$Fault"
def TX12 : u_T := fun k => match k with
  | 0 => ("java/lang/Throwable", "cause", "Ljava/lang/Throwable;", false)
  | 1 => ("java/lang/Throwable", "stackTrace", "[Ljava/lang/StackTraceElement;", false)
  | 2 => ("java/lang/Throwable", "suppressedExceptions", "Ljava/util/List;", false)
  | 3 => ("java/lang/Throwable", "detailMessage", "Ljava/lang/String;", false)
  | 4 => ("java/lang/Throwable", "backtrace", "Ljava/lang/Object;", false)
  | 5 => ("java/lang/Throwable", "depth", "I", false)
  | _ => ("EverybodyHasTheBook$Fault", "place", "I", true)
def tyX12 : Nat → FieldType := fun k => match k with
  | 0 => .object "java/lang/Throwable"
  | 1 => .array (.object "java/lang/StackTraceElement")
  | 2 => .object "java/util/List"
  | 3 => .object "java/lang/String"
  | 4 => .object "java/lang/Object"
  | 5 => .int
  | _ => .int
abbrev wsX120 : List Cond := u_ws RX12 TX12 7
theorem nmX12 : ∀ a, a < 7 → ∀ b, b < 7 → a ≠ b → (TX12 a).2.1 ≠ (TX12 b).2.1 := by decide +kernel
theorem tyX12_ok : ∀ k, k < 7 → parseFieldDescriptor (TX12 k).2.2.1 = some (tyX12 k) := by decide +kernel
abbrev cX12_init : ByteArray := prog_4_method_1_code
def yX12_init : MethodName := ⟨RX12, "<init>", "(I)V"⟩
def dkwX12_init_0 : List UInt8 := [42, 1, 1, 3, 3, 183, 0, 1, 42, 27, 181, 0, 7, 177]
abbrev dktX12_init_0 : List UInt8 := dkwX12_init_0 ++ []
theorem dksX12_init_0 : cX12_init.data.toList.drop 0 = dktX12_init_0 := by decide +kernel
theorem dX12_init_0 : decode cX12_init 0 = .ok (.aload_n 0, 1) := dk_42 (dk_at dksX12_init_0 0 rfl rfl)
theorem dX12_init_1 : decode cX12_init 1 = .ok (.aconst_null, 1) := dk_1 (dk_at dksX12_init_0 1 rfl rfl)
theorem dX12_init_2 : decode cX12_init 2 = .ok (.aconst_null, 1) := dk_1 (dk_at dksX12_init_0 2 rfl rfl)
theorem dX12_init_3 : decode cX12_init 3 = .ok (.iconst 0, 1) := dk_3 (dk_at dksX12_init_0 3 rfl rfl)
theorem dX12_init_4 : decode cX12_init 4 = .ok (.iconst 0, 1) := dk_3 (dk_at dksX12_init_0 4 rfl rfl)
theorem dX12_init_5 : decode cX12_init 5 = .ok (.invokespecial 1, 3) := dk_183 0 1 (dk_at dksX12_init_0 5 rfl rfl)
theorem dX12_init_8 : decode cX12_init 8 = .ok (.aload_n 0, 1) := dk_42 (dk_at dksX12_init_0 8 rfl rfl)
theorem dX12_init_9 : decode cX12_init 9 = .ok (.iload_n 1, 1) := dk_27 (dk_at dksX12_init_0 9 rfl rfl)
theorem dX12_init_10 : decode cX12_init 10 = .ok (.putfield 7, 3) := dk_181 0 7 (dk_at dksX12_init_0 10 rfl rfl)
theorem dX12_init_13 : decode cX12_init 13 = .ok (.return_, 1) := dk_177 (dk_at dksX12_init_0 13 rfl rfl)
theorem q108 : (Jvm.Cond.initialized "EverybodyHasTheBook$Fault") ∈ lw_all := lw_g (lw_at lw_m1 33 rfl) rfl
theorem q274 : (Jvm.Cond.selects "EverybodyHasTheBook$Fault" ({ cls := "java/lang/Throwable", name := "fillInStackTrace", desc := "()Ljava/lang/Throwable;" } : Jvm.MethodName) ({ cls := "java/lang/Throwable", name := "fillInStackTrace", desc := "()Ljava/lang/Throwable;" } : Jvm.MethodName)) ∈ lw_all := lw_g (lw_at lw_m1 199 rfl) rfl
theorem q973 : (Jvm.Cond.instantiable "EverybodyHasTheBook$Fault" (7 : Nat)) ∈ lw_all := lw_g (lw_at lw_m4 178 rfl) rfl
theorem q974 : (Jvm.Cond.castable "EverybodyHasTheBook$Fault" "EverybodyHasTheBook$Fault") ∈ lw_tbl := lw_at lw_m4 179 rfl
theorem q975 : (Jvm.Cond.selects "EverybodyHasTheBook$Fault" ({ cls := "java/lang/Throwable", name := "fillInStackTrace", desc := "(I)Ljava/lang/Throwable;" } : Jvm.MethodName) ({ cls := "java/lang/Throwable", name := "fillInStackTrace", desc := "(I)Ljava/lang/Throwable;" } : Jvm.MethodName)) ∈ lw_all := lw_g (lw_at lw_m4 180 rfl) rfl
theorem q976 : (Jvm.Cond.lays "EverybodyHasTheBook$Fault" "java/lang/Throwable" "cause" "Ljava/lang/Throwable;") ∈ lw_all := lw_g (lw_at lw_m4 181 rfl) rfl
theorem q977 : (Jvm.Cond.lays "EverybodyHasTheBook$Fault" "java/lang/Throwable" "stackTrace" "[Ljava/lang/StackTraceElement;") ∈ lw_all := lw_g (lw_at lw_m4 182 rfl) rfl
theorem q978 : (Jvm.Cond.lays "EverybodyHasTheBook$Fault" "java/lang/Throwable" "suppressedExceptions" "Ljava/util/List;") ∈ lw_all := lw_g (lw_at lw_m4 183 rfl) rfl
theorem q979 : (Jvm.Cond.lays "EverybodyHasTheBook$Fault" "java/lang/Throwable" "detailMessage" "Ljava/lang/String;") ∈ lw_all := lw_g (lw_at lw_m4 184 rfl) rfl
theorem q980 : (Jvm.Cond.lays "EverybodyHasTheBook$Fault" "java/lang/Throwable" "backtrace" "Ljava/lang/Object;") ∈ lw_all := lw_g (lw_at lw_m4 185 rfl) rfl
theorem q982 : (Jvm.Cond.instanceMethod ({ cls := "EverybodyHasTheBook$Fault", name := "<init>", desc := "(I)V" } : Jvm.MethodName)) ∈ lw_all := lw_g (lw_at lw_m4 187 rfl) rfl
theorem q983 : (Jvm.Cond.code ({ cls := "EverybodyHasTheBook$Fault", name := "<init>", desc := "(I)V" } : Jvm.MethodName) prog_4_method_1_code (2 : Nat) (Option.none : Option Jvm.ClassFile.FieldType)) ∈ lw_all := lw_g (lw_at lw_m4 188 rfl) rfl
theorem q984 : (Jvm.Cond.methodLink "EverybodyHasTheBook$Fault" (1 : Nat) ({ cls := "java/lang/Exception", name := "<init>", desc := "(Ljava/lang/String;Ljava/lang/Throwable;ZZ)V" } : Jvm.MethodName)) ∈ lw_all := lw_g (lw_at lw_m4 189 rfl) rfl
theorem q985 : (Jvm.Cond.fieldLink "EverybodyHasTheBook$Fault" (7 : Nat) "EverybodyHasTheBook$Fault" "place" "I") ∈ lw_all := lw_g (lw_at lw_m4 190 rfl) rfl
theorem q987 : (Jvm.Cond.laysFinal "EverybodyHasTheBook$Fault" "EverybodyHasTheBook$Fault" "place" "I") ∈ lw_all := lw_g (lw_at lw_m4 192 rfl) rfl
theorem q988 : (Jvm.Cond.soleField "EverybodyHasTheBook$Fault" "place") ∈ lw_all := lw_g (lw_at lw_m4 193 rfl) rfl
theorem q989 : (Jvm.Cond.lays "EverybodyHasTheBook$Fault" "java/lang/Throwable" "depth" "I") ∈ lw_all := lw_g (lw_at lw_m4 194 rfl) rfl
theorem q990 : (Jvm.Cond.superclass "EverybodyHasTheBook$Fault" "java/lang/Exception") ∈ lw_all := lw_g (lw_at lw_m4 195 rfl) rfl
theorem in_X12 : ∀ w ∈ wsX120, w ∈ lw_all := lw_in wsX120 [976, 977, 978, 979, 980, 989, 987] (by decide +kernel) (by decide +kernel)
/-! EverybodyHasTheBook$Rounds -/
set_option maxRecDepth 100000
def RX13 : String := "EverybodyHasTheBook$Rounds"
def TX13 : u_T := fun k => match k with
  | 0 => ("EverybodyHasTheBook$Rounds", "years", "I", true)
  | 1 => ("EverybodyHasTheBook$Rounds", "row", "[I", true)
  | 2 => ("EverybodyHasTheBook$Rounds", "best", "[I", true)
  | 3 => ("EverybodyHasTheBook$Rounds", "isTold", "Z", false)
  | 4 => ("EverybodyHasTheBook$Rounds", "joy", "I", false)
  | _ => ("EverybodyHasTheBook$Rounds", "this$0", "LEverybodyHasTheBook;", true)
def tyX13 : Nat → FieldType := fun k => match k with
  | 0 => .int
  | 1 => .array .int
  | 2 => .array .int
  | 3 => .boolean
  | 4 => .int
  | _ => .object "EverybodyHasTheBook"
abbrev wsX130 : List Cond := u_ws RX13 TX13 6
theorem nmX13 : ∀ a, a < 6 → ∀ b, b < 6 → a ≠ b → (TX13 a).2.1 ≠ (TX13 b).2.1 := by decide +kernel
theorem tyX13_ok : ∀ k, k < 6 → parseFieldDescriptor (TX13 k).2.2.1 = some (tyX13 k) := by decide +kernel
abbrev cX13_init : ByteArray := prog_11_method_1_code
def yX13_init : MethodName := ⟨RX13, "<init>", "(LEverybodyHasTheBook;I)V"⟩
def dkwX13_init_1 : List UInt8 := [28, 181, 0, 22, 42, 3, 182, 0, 26, 177]
abbrev dktX13_init_1 : List UInt8 := dkwX13_init_1 ++ []
def dkwX13_init_0 : List UInt8 := [42, 43, 181, 0, 3, 42, 183, 0, 9, 42, 6, 188, 10, 181, 0, 15, 42, 6, 188, 10, 181, 0, 19, 42]
abbrev dktX13_init_0 : List UInt8 := dkwX13_init_0 ++ dktX13_init_1
theorem dksX13_init_0 : cX13_init.data.toList.drop 0 = dktX13_init_0 := by decide +kernel
theorem dksX13_init_1 : cX13_init.data.toList.drop 24 = dktX13_init_1 := dk_seg dksX13_init_0 24 rfl rfl
theorem dX13_init_0 : decode cX13_init 0 = .ok (.aload_n 0, 1) := dk_42 (dk_at dksX13_init_0 0 rfl rfl)
theorem dX13_init_1 : decode cX13_init 1 = .ok (.aload_n 1, 1) := dk_43 (dk_at dksX13_init_0 1 rfl rfl)
theorem dX13_init_2 : decode cX13_init 2 = .ok (.putfield 3, 3) := dk_181 0 3 (dk_at dksX13_init_0 2 rfl rfl)
theorem dX13_init_5 : decode cX13_init 5 = .ok (.aload_n 0, 1) := dk_42 (dk_at dksX13_init_0 5 rfl rfl)
theorem dX13_init_6 : decode cX13_init 6 = .ok (.invokespecial 9, 3) := dk_183 0 9 (dk_at dksX13_init_0 6 rfl rfl)
theorem dX13_init_9 : decode cX13_init 9 = .ok (.aload_n 0, 1) := dk_42 (dk_at dksX13_init_0 9 rfl rfl)
theorem dX13_init_10 : decode cX13_init 10 = .ok (.iconst 3, 1) := dk_6 (dk_at dksX13_init_0 10 rfl rfl)
theorem dX13_init_11 : decode cX13_init 11 = .ok (.newarray .int, 2) := dk_188_10 (dk_at dksX13_init_0 11 rfl rfl)
theorem dX13_init_13 : decode cX13_init 13 = .ok (.putfield 15, 3) := dk_181 0 15 (dk_at dksX13_init_0 13 rfl rfl)
theorem dX13_init_16 : decode cX13_init 16 = .ok (.aload_n 0, 1) := dk_42 (dk_at dksX13_init_0 16 rfl rfl)
theorem dX13_init_17 : decode cX13_init 17 = .ok (.iconst 3, 1) := dk_6 (dk_at dksX13_init_0 17 rfl rfl)
theorem dX13_init_18 : decode cX13_init 18 = .ok (.newarray .int, 2) := dk_188_10 (dk_at dksX13_init_0 18 rfl rfl)
theorem dX13_init_20 : decode cX13_init 20 = .ok (.putfield 19, 3) := dk_181 0 19 (dk_at dksX13_init_0 20 rfl rfl)
theorem dX13_init_23 : decode cX13_init 23 = .ok (.aload_n 0, 1) := dk_42 (dk_at dksX13_init_0 23 rfl rfl)
theorem dX13_init_24 : decode cX13_init 24 = .ok (.iload_n 2, 1) := dk_28 (dk_at dksX13_init_1 0 rfl rfl)
theorem dX13_init_25 : decode cX13_init 25 = .ok (.putfield 22, 3) := dk_181 0 22 (dk_at dksX13_init_1 1 rfl rfl)
theorem dX13_init_28 : decode cX13_init 28 = .ok (.aload_n 0, 1) := dk_42 (dk_at dksX13_init_1 4 rfl rfl)
theorem dX13_init_29 : decode cX13_init 29 = .ok (.iconst 0, 1) := dk_3 (dk_at dksX13_init_1 5 rfl rfl)
theorem dX13_init_30 : decode cX13_init 30 = .ok (.invokevirtual 26, 3) := dk_182 0 26 (dk_at dksX13_init_1 6 rfl rfl)
theorem dX13_init_33 : decode cX13_init 33 = .ok (.return_, 1) := dk_177 (dk_at dksX13_init_1 9 rfl rfl)
abbrev cX13_goes : ByteArray := prog_11_method_3_code
def yX13_goes : MethodName := ⟨RX13, "goes", "(I)V"⟩
def dkwX13_goes_3 : List UInt8 := [42, 28, 181, 0, 60, 42, 180, 0, 15, 3, 42, 180, 0, 19, 3, 6, 184, 0, 63, 177]
abbrev dktX13_goes_3 : List UInt8 := dkwX13_goes_3 ++ []
def dkwX13_goes_2 : List UInt8 := [182, 0, 52, 61, 42, 180, 0, 56, 153, 0, 11, 28, 42, 180, 0, 60, 164, 0, 27, 42, 4, 181, 0, 56]
abbrev dktX13_goes_2 : List UInt8 := dkwX13_goes_2 ++ dktX13_goes_3
def dkwX13_goes_1 : List UInt8 := [42, 180, 0, 15, 27, 28, 79, 42, 27, 4, 96, 182, 0, 26, 132, 2, 1, 167, 255, 225, 177, 42]
abbrev dktX13_goes_1 : List UInt8 := dkwX13_goes_1 ++ dktX13_goes_2
def dkwX13_goes_0 : List UInt8 := [27, 42, 180, 0, 22, 162, 0, 40, 2, 61, 28, 42, 180, 0, 3, 180, 0, 45, 180, 0, 49, 162, 0, 23]
abbrev dktX13_goes_0 : List UInt8 := dkwX13_goes_0 ++ dktX13_goes_1
theorem dksX13_goes_0 : cX13_goes.data.toList.drop 0 = dktX13_goes_0 := by decide +kernel
theorem dksX13_goes_1 : cX13_goes.data.toList.drop 24 = dktX13_goes_1 := dk_seg dksX13_goes_0 24 rfl rfl
theorem dksX13_goes_2 : cX13_goes.data.toList.drop 46 = dktX13_goes_2 := dk_seg dksX13_goes_1 22 rfl rfl
theorem dksX13_goes_3 : cX13_goes.data.toList.drop 70 = dktX13_goes_3 := dk_seg dksX13_goes_2 24 rfl rfl
theorem dX13_goes_0 : decode cX13_goes 0 = .ok (.iload_n 1, 1) := dk_27 (dk_at dksX13_goes_0 0 rfl rfl)
theorem dX13_goes_1 : decode cX13_goes 1 = .ok (.aload_n 0, 1) := dk_42 (dk_at dksX13_goes_0 1 rfl rfl)
theorem dX13_goes_2 : decode cX13_goes 2 = .ok (.getfield 22, 3) := dk_180 0 22 (dk_at dksX13_goes_0 2 rfl rfl)
theorem dX13_goes_5 : decode cX13_goes 5 = .ok (.if_icmp .ge 40, 3) := dk_162 0 40 (dk_at dksX13_goes_0 5 rfl rfl)
theorem dX13_goes_8 : decode cX13_goes 8 = .ok (.iconst (-1), 1) := dk_2 (dk_at dksX13_goes_0 8 rfl rfl)
theorem dX13_goes_9 : decode cX13_goes 9 = .ok (.istore_n 2, 1) := dk_61 (dk_at dksX13_goes_0 9 rfl rfl)
theorem dX13_goes_10 : decode cX13_goes 10 = .ok (.iload_n 2, 1) := dk_28 (dk_at dksX13_goes_0 10 rfl rfl)
theorem dX13_goes_11 : decode cX13_goes 11 = .ok (.aload_n 0, 1) := dk_42 (dk_at dksX13_goes_0 11 rfl rfl)
theorem dX13_goes_12 : decode cX13_goes 12 = .ok (.getfield 3, 3) := dk_180 0 3 (dk_at dksX13_goes_0 12 rfl rfl)
theorem dX13_goes_15 : decode cX13_goes 15 = .ok (.getfield 45, 3) := dk_180 0 45 (dk_at dksX13_goes_0 15 rfl rfl)
theorem dX13_goes_18 : decode cX13_goes 18 = .ok (.getfield 49, 3) := dk_180 0 49 (dk_at dksX13_goes_0 18 rfl rfl)
theorem dX13_goes_21 : decode cX13_goes 21 = .ok (.if_icmp .ge 23, 3) := dk_162 0 23 (dk_at dksX13_goes_0 21 rfl rfl)
theorem dX13_goes_24 : decode cX13_goes 24 = .ok (.aload_n 0, 1) := dk_42 (dk_at dksX13_goes_1 0 rfl rfl)
theorem dX13_goes_25 : decode cX13_goes 25 = .ok (.getfield 15, 3) := dk_180 0 15 (dk_at dksX13_goes_1 1 rfl rfl)
theorem dX13_goes_28 : decode cX13_goes 28 = .ok (.iload_n 1, 1) := dk_27 (dk_at dksX13_goes_1 4 rfl rfl)
theorem dX13_goes_29 : decode cX13_goes 29 = .ok (.iload_n 2, 1) := dk_28 (dk_at dksX13_goes_1 5 rfl rfl)
theorem dX13_goes_30 : decode cX13_goes 30 = .ok (.iastore, 1) := dk_79 (dk_at dksX13_goes_1 6 rfl rfl)
theorem dX13_goes_31 : decode cX13_goes 31 = .ok (.aload_n 0, 1) := dk_42 (dk_at dksX13_goes_1 7 rfl rfl)
theorem dX13_goes_32 : decode cX13_goes 32 = .ok (.iload_n 1, 1) := dk_27 (dk_at dksX13_goes_1 8 rfl rfl)
theorem dX13_goes_33 : decode cX13_goes 33 = .ok (.iconst 1, 1) := dk_4 (dk_at dksX13_goes_1 9 rfl rfl)
theorem dX13_goes_34 : decode cX13_goes 34 = .ok (.iadd, 1) := dk_96 (dk_at dksX13_goes_1 10 rfl rfl)
theorem dX13_goes_35 : decode cX13_goes 35 = .ok (.invokevirtual 26, 3) := dk_182 0 26 (dk_at dksX13_goes_1 11 rfl rfl)
theorem dX13_goes_38 : decode cX13_goes 38 = .ok (.iinc 2 1, 3) := dk_132 2 1 (dk_at dksX13_goes_1 14 rfl rfl)
theorem dX13_goes_41 : decode cX13_goes 41 = .ok (.goto (-31), 3) := dk_167 255 225 (dk_at dksX13_goes_1 17 rfl rfl)
theorem dX13_goes_44 : decode cX13_goes 44 = .ok (.return_, 1) := dk_177 (dk_at dksX13_goes_1 20 rfl rfl)
theorem dX13_goes_45 : decode cX13_goes 45 = .ok (.aload_n 0, 1) := dk_42 (dk_at dksX13_goes_1 21 rfl rfl)
theorem dX13_goes_46 : decode cX13_goes 46 = .ok (.invokevirtual 52, 3) := dk_182 0 52 (dk_at dksX13_goes_2 0 rfl rfl)
theorem dX13_goes_49 : decode cX13_goes 49 = .ok (.istore_n 2, 1) := dk_61 (dk_at dksX13_goes_2 3 rfl rfl)
theorem dX13_goes_50 : decode cX13_goes 50 = .ok (.aload_n 0, 1) := dk_42 (dk_at dksX13_goes_2 4 rfl rfl)
theorem dX13_goes_51 : decode cX13_goes 51 = .ok (.getfield 56, 3) := dk_180 0 56 (dk_at dksX13_goes_2 5 rfl rfl)
theorem dX13_goes_54 : decode cX13_goes 54 = .ok (.ifCond .eq 11, 3) := dk_153 0 11 (dk_at dksX13_goes_2 8 rfl rfl)
theorem dX13_goes_57 : decode cX13_goes 57 = .ok (.iload_n 2, 1) := dk_28 (dk_at dksX13_goes_2 11 rfl rfl)
theorem dX13_goes_58 : decode cX13_goes 58 = .ok (.aload_n 0, 1) := dk_42 (dk_at dksX13_goes_2 12 rfl rfl)
theorem dX13_goes_59 : decode cX13_goes 59 = .ok (.getfield 60, 3) := dk_180 0 60 (dk_at dksX13_goes_2 13 rfl rfl)
theorem dX13_goes_62 : decode cX13_goes 62 = .ok (.if_icmp .le 27, 3) := dk_164 0 27 (dk_at dksX13_goes_2 16 rfl rfl)
theorem dX13_goes_65 : decode cX13_goes 65 = .ok (.aload_n 0, 1) := dk_42 (dk_at dksX13_goes_2 19 rfl rfl)
theorem dX13_goes_66 : decode cX13_goes 66 = .ok (.iconst 1, 1) := dk_4 (dk_at dksX13_goes_2 20 rfl rfl)
theorem dX13_goes_67 : decode cX13_goes 67 = .ok (.putfield 56, 3) := dk_181 0 56 (dk_at dksX13_goes_2 21 rfl rfl)
theorem dX13_goes_70 : decode cX13_goes 70 = .ok (.aload_n 0, 1) := dk_42 (dk_at dksX13_goes_3 0 rfl rfl)
theorem dX13_goes_71 : decode cX13_goes 71 = .ok (.iload_n 2, 1) := dk_28 (dk_at dksX13_goes_3 1 rfl rfl)
theorem dX13_goes_72 : decode cX13_goes 72 = .ok (.putfield 60, 3) := dk_181 0 60 (dk_at dksX13_goes_3 2 rfl rfl)
theorem dX13_goes_75 : decode cX13_goes 75 = .ok (.aload_n 0, 1) := dk_42 (dk_at dksX13_goes_3 5 rfl rfl)
theorem dX13_goes_76 : decode cX13_goes 76 = .ok (.getfield 15, 3) := dk_180 0 15 (dk_at dksX13_goes_3 6 rfl rfl)
theorem dX13_goes_79 : decode cX13_goes 79 = .ok (.iconst 0, 1) := dk_3 (dk_at dksX13_goes_3 9 rfl rfl)
theorem dX13_goes_80 : decode cX13_goes 80 = .ok (.aload_n 0, 1) := dk_42 (dk_at dksX13_goes_3 10 rfl rfl)
theorem dX13_goes_81 : decode cX13_goes 81 = .ok (.getfield 19, 3) := dk_180 0 19 (dk_at dksX13_goes_3 11 rfl rfl)
theorem dX13_goes_84 : decode cX13_goes 84 = .ok (.iconst 0, 1) := dk_3 (dk_at dksX13_goes_3 14 rfl rfl)
theorem dX13_goes_85 : decode cX13_goes 85 = .ok (.iconst 3, 1) := dk_6 (dk_at dksX13_goes_3 15 rfl rfl)
theorem dX13_goes_86 : decode cX13_goes 86 = .ok (.invokestatic 63, 3) := dk_184 0 63 (dk_at dksX13_goes_3 16 rfl rfl)
theorem dX13_goes_89 : decode cX13_goes 89 = .ok (.return_, 1) := dk_177 (dk_at dksX13_goes_3 19 rfl rfl)
abbrev cX13_brings : ByteArray := prog_11_method_2_code
def yX13_brings : MethodName := ⟨RX13, "brings", "()I"⟩
def dkwX13_brings_2 : List UInt8 := [29, 46, 46, 79, 28, 43, 4, 2, 182, 0, 42, 96, 61, 132, 3, 1, 167, 255, 204, 28, 172]
abbrev dktX13_brings_2 : List UInt8 := dkwX13_brings_2 ++ []
def dkwX13_brings_1 : List UInt8 := [29, 46, 2, 159, 0, 25, 43, 180, 0, 34, 42, 180, 0, 15, 29, 46, 43, 180, 0, 39, 42, 180, 0, 15]
abbrev dktX13_brings_1 : List UInt8 := dkwX13_brings_1 ++ dktX13_brings_2
def dkwX13_brings_0 : List UInt8 := [42, 180, 0, 3, 182, 0, 30, 76, 3, 61, 3, 62, 29, 42, 180, 0, 22, 162, 0, 50, 42, 180, 0, 15]
abbrev dktX13_brings_0 : List UInt8 := dkwX13_brings_0 ++ dktX13_brings_1
theorem dksX13_brings_0 : cX13_brings.data.toList.drop 0 = dktX13_brings_0 := by decide +kernel
theorem dksX13_brings_1 : cX13_brings.data.toList.drop 24 = dktX13_brings_1 := dk_seg dksX13_brings_0 24 rfl rfl
theorem dksX13_brings_2 : cX13_brings.data.toList.drop 48 = dktX13_brings_2 := dk_seg dksX13_brings_1 24 rfl rfl
theorem dX13_brings_0 : decode cX13_brings 0 = .ok (.aload_n 0, 1) := dk_42 (dk_at dksX13_brings_0 0 rfl rfl)
theorem dX13_brings_1 : decode cX13_brings 1 = .ok (.getfield 3, 3) := dk_180 0 3 (dk_at dksX13_brings_0 1 rfl rfl)
theorem dX13_brings_4 : decode cX13_brings 4 = .ok (.invokevirtual 30, 3) := dk_182 0 30 (dk_at dksX13_brings_0 4 rfl rfl)
theorem dX13_brings_7 : decode cX13_brings 7 = .ok (.astore_n 1, 1) := dk_76 (dk_at dksX13_brings_0 7 rfl rfl)
theorem dX13_brings_8 : decode cX13_brings 8 = .ok (.iconst 0, 1) := dk_3 (dk_at dksX13_brings_0 8 rfl rfl)
theorem dX13_brings_9 : decode cX13_brings 9 = .ok (.istore_n 2, 1) := dk_61 (dk_at dksX13_brings_0 9 rfl rfl)
theorem dX13_brings_10 : decode cX13_brings 10 = .ok (.iconst 0, 1) := dk_3 (dk_at dksX13_brings_0 10 rfl rfl)
theorem dX13_brings_11 : decode cX13_brings 11 = .ok (.istore_n 3, 1) := dk_62 (dk_at dksX13_brings_0 11 rfl rfl)
theorem dX13_brings_12 : decode cX13_brings 12 = .ok (.iload_n 3, 1) := dk_29 (dk_at dksX13_brings_0 12 rfl rfl)
theorem dX13_brings_13 : decode cX13_brings 13 = .ok (.aload_n 0, 1) := dk_42 (dk_at dksX13_brings_0 13 rfl rfl)
theorem dX13_brings_14 : decode cX13_brings 14 = .ok (.getfield 22, 3) := dk_180 0 22 (dk_at dksX13_brings_0 14 rfl rfl)
theorem dX13_brings_17 : decode cX13_brings 17 = .ok (.if_icmp .ge 50, 3) := dk_162 0 50 (dk_at dksX13_brings_0 17 rfl rfl)
theorem dX13_brings_20 : decode cX13_brings 20 = .ok (.aload_n 0, 1) := dk_42 (dk_at dksX13_brings_0 20 rfl rfl)
theorem dX13_brings_21 : decode cX13_brings 21 = .ok (.getfield 15, 3) := dk_180 0 15 (dk_at dksX13_brings_0 21 rfl rfl)
theorem dX13_brings_24 : decode cX13_brings 24 = .ok (.iload_n 3, 1) := dk_29 (dk_at dksX13_brings_1 0 rfl rfl)
theorem dX13_brings_25 : decode cX13_brings 25 = .ok (.iaload, 1) := dk_46 (dk_at dksX13_brings_1 1 rfl rfl)
theorem dX13_brings_26 : decode cX13_brings 26 = .ok (.iconst (-1), 1) := dk_2 (dk_at dksX13_brings_1 2 rfl rfl)
theorem dX13_brings_27 : decode cX13_brings 27 = .ok (.if_icmp .eq 25, 3) := dk_159 0 25 (dk_at dksX13_brings_1 3 rfl rfl)
theorem dX13_brings_30 : decode cX13_brings 30 = .ok (.aload_n 1, 1) := dk_43 (dk_at dksX13_brings_1 6 rfl rfl)
theorem dX13_brings_31 : decode cX13_brings 31 = .ok (.getfield 34, 3) := dk_180 0 34 (dk_at dksX13_brings_1 7 rfl rfl)
theorem dX13_brings_34 : decode cX13_brings 34 = .ok (.aload_n 0, 1) := dk_42 (dk_at dksX13_brings_1 10 rfl rfl)
theorem dX13_brings_35 : decode cX13_brings 35 = .ok (.getfield 15, 3) := dk_180 0 15 (dk_at dksX13_brings_1 11 rfl rfl)
theorem dX13_brings_38 : decode cX13_brings 38 = .ok (.iload_n 3, 1) := dk_29 (dk_at dksX13_brings_1 14 rfl rfl)
theorem dX13_brings_39 : decode cX13_brings 39 = .ok (.iaload, 1) := dk_46 (dk_at dksX13_brings_1 15 rfl rfl)
theorem dX13_brings_40 : decode cX13_brings 40 = .ok (.aload_n 1, 1) := dk_43 (dk_at dksX13_brings_1 16 rfl rfl)
theorem dX13_brings_41 : decode cX13_brings 41 = .ok (.getfield 39, 3) := dk_180 0 39 (dk_at dksX13_brings_1 17 rfl rfl)
theorem dX13_brings_44 : decode cX13_brings 44 = .ok (.aload_n 0, 1) := dk_42 (dk_at dksX13_brings_1 20 rfl rfl)
theorem dX13_brings_45 : decode cX13_brings 45 = .ok (.getfield 15, 3) := dk_180 0 15 (dk_at dksX13_brings_1 21 rfl rfl)
theorem dX13_brings_48 : decode cX13_brings 48 = .ok (.iload_n 3, 1) := dk_29 (dk_at dksX13_brings_2 0 rfl rfl)
theorem dX13_brings_49 : decode cX13_brings 49 = .ok (.iaload, 1) := dk_46 (dk_at dksX13_brings_2 1 rfl rfl)
theorem dX13_brings_50 : decode cX13_brings 50 = .ok (.iaload, 1) := dk_46 (dk_at dksX13_brings_2 2 rfl rfl)
theorem dX13_brings_51 : decode cX13_brings 51 = .ok (.iastore, 1) := dk_79 (dk_at dksX13_brings_2 3 rfl rfl)
theorem dX13_brings_52 : decode cX13_brings 52 = .ok (.iload_n 2, 1) := dk_28 (dk_at dksX13_brings_2 4 rfl rfl)
theorem dX13_brings_53 : decode cX13_brings 53 = .ok (.aload_n 1, 1) := dk_43 (dk_at dksX13_brings_2 5 rfl rfl)
theorem dX13_brings_54 : decode cX13_brings 54 = .ok (.iconst 1, 1) := dk_4 (dk_at dksX13_brings_2 6 rfl rfl)
theorem dX13_brings_55 : decode cX13_brings 55 = .ok (.iconst (-1), 1) := dk_2 (dk_at dksX13_brings_2 7 rfl rfl)
theorem dX13_brings_56 : decode cX13_brings 56 = .ok (.invokevirtual 42, 3) := dk_182 0 42 (dk_at dksX13_brings_2 8 rfl rfl)
theorem dX13_brings_59 : decode cX13_brings 59 = .ok (.iadd, 1) := dk_96 (dk_at dksX13_brings_2 11 rfl rfl)
theorem dX13_brings_60 : decode cX13_brings 60 = .ok (.istore_n 2, 1) := dk_61 (dk_at dksX13_brings_2 12 rfl rfl)
theorem dX13_brings_61 : decode cX13_brings 61 = .ok (.iinc 3 1, 3) := dk_132 3 1 (dk_at dksX13_brings_2 13 rfl rfl)
theorem dX13_brings_64 : decode cX13_brings 64 = .ok (.goto (-52), 3) := dk_167 255 204 (dk_at dksX13_brings_2 16 rfl rfl)
theorem dX13_brings_67 : decode cX13_brings 67 = .ok (.iload_n 2, 1) := dk_28 (dk_at dksX13_brings_2 19 rfl rfl)
theorem dX13_brings_68 : decode cX13_brings 68 = .ok (.ireturn, 1) := dk_172 (dk_at dksX13_brings_2 20 rfl rfl)
theorem q109 : (Jvm.Cond.initialized "EverybodyHasTheBook$Rounds") ∈ lw_all := lw_g (lw_at lw_m1 34 rfl) rfl
theorem q129 : (Jvm.Cond.fieldLink "EverybodyHasTheBook$Rounds" (39 : Nat) "EverybodyHasTheBook$Valley" "good" "[I") ∈ lw_all := lw_g (lw_at lw_m1 54 rfl) rfl
theorem q141 : (Jvm.Cond.fieldLink "EverybodyHasTheBook$Rounds" (34 : Nat) "EverybodyHasTheBook$Valley" "said" "[I") ∈ lw_all := lw_g (lw_at lw_m1 66 rfl) rfl
theorem q164 : (Jvm.Cond.fieldLink "EverybodyHasTheBook$Rounds" (49 : Nat) "EverybodyHasTheBook$Valley" "inns" "I") ∈ lw_all := lw_g (lw_at lw_m1 89 rfl) rfl
theorem q226 : (Jvm.Cond.fieldLinkNest "EverybodyHasTheBook$Rounds" (45 : Nat) "EverybodyHasTheBook" "now" "LEverybodyHasTheBook$Valley;" "EverybodyHasTheBook") ∈ lw_tbl := lw_at lw_m1 151 rfl
theorem q1323 : (Jvm.Cond.instantiable "EverybodyHasTheBook$Rounds" (6 : Nat)) ∈ lw_all := lw_g (lw_at lw_m6 48 rfl) rfl
theorem q1325 : (Jvm.Cond.instanceMethod ({ cls := "EverybodyHasTheBook$Rounds", name := "<init>", desc := "(LEverybodyHasTheBook;I)V" } : Jvm.MethodName)) ∈ lw_all := lw_g (lw_at lw_m6 50 rfl) rfl
theorem q1326 : (Jvm.Cond.code ({ cls := "EverybodyHasTheBook$Rounds", name := "<init>", desc := "(LEverybodyHasTheBook;I)V" } : Jvm.MethodName) prog_11_method_1_code (3 : Nat) (Option.none : Option Jvm.ClassFile.FieldType)) ∈ lw_all := lw_g (lw_at lw_m6 51 rfl) rfl
theorem q1327 : (Jvm.Cond.methodLink "EverybodyHasTheBook$Rounds" (9 : Nat) ({ cls := "java/lang/Object", name := "<init>", desc := "()V" } : Jvm.MethodName)) ∈ lw_all := lw_g (lw_at lw_m6 52 rfl) rfl
theorem q1328 : (Jvm.Cond.methodLink "EverybodyHasTheBook$Rounds" (26 : Nat) ({ cls := "EverybodyHasTheBook$Rounds", name := "goes", desc := "(I)V" } : Jvm.MethodName)) ∈ lw_all := lw_g (lw_at lw_m6 53 rfl) rfl
theorem q1329 : (Jvm.Cond.privateMethod ({ cls := "EverybodyHasTheBook$Rounds", name := "goes", desc := "(I)V" } : Jvm.MethodName)) ∈ lw_tbl := lw_at lw_m6 54 rfl
theorem q1330 : (Jvm.Cond.instanceMethod ({ cls := "EverybodyHasTheBook$Rounds", name := "goes", desc := "(I)V" } : Jvm.MethodName)) ∈ lw_all := lw_g (lw_at lw_m6 55 rfl) rfl
theorem q1331 : (Jvm.Cond.code ({ cls := "EverybodyHasTheBook$Rounds", name := "goes", desc := "(I)V" } : Jvm.MethodName) prog_11_method_3_code (3 : Nat) (Option.none : Option Jvm.ClassFile.FieldType)) ∈ lw_all := lw_g (lw_at lw_m6 56 rfl) rfl
theorem q1332 : (Jvm.Cond.methodLink "EverybodyHasTheBook$Rounds" (52 : Nat) ({ cls := "EverybodyHasTheBook$Rounds", name := "brings", desc := "()I" } : Jvm.MethodName)) ∈ lw_all := lw_g (lw_at lw_m6 57 rfl) rfl
theorem q1333 : (Jvm.Cond.privateMethod ({ cls := "EverybodyHasTheBook$Rounds", name := "brings", desc := "()I" } : Jvm.MethodName)) ∈ lw_tbl := lw_at lw_m6 58 rfl
theorem q1334 : (Jvm.Cond.instanceMethod ({ cls := "EverybodyHasTheBook$Rounds", name := "brings", desc := "()I" } : Jvm.MethodName)) ∈ lw_all := lw_g (lw_at lw_m6 59 rfl) rfl
theorem q1335 : (Jvm.Cond.code ({ cls := "EverybodyHasTheBook$Rounds", name := "brings", desc := "()I" } : Jvm.MethodName) prog_11_method_2_code (4 : Nat) (Option.some Jvm.ClassFile.FieldType.int)) ∈ lw_all := lw_g (lw_at lw_m6 60 rfl) rfl
theorem q1336 : (Jvm.Cond.methodLinkNest "EverybodyHasTheBook$Rounds" (30 : Nat) ({ cls := "EverybodyHasTheBook", name := "tried", desc := "()LEverybodyHasTheBook$Valley;" } : Jvm.MethodName) "EverybodyHasTheBook") ∈ lw_tbl := lw_at lw_m6 61 rfl
theorem q1337 : (Jvm.Cond.methodLink "EverybodyHasTheBook$Rounds" (42 : Nat) ({ cls := "EverybodyHasTheBook$Valley", name := "years", desc := "(II)I" } : Jvm.MethodName)) ∈ lw_all := lw_g (lw_at lw_m6 62 rfl) rfl
theorem q1338 : (Jvm.Cond.methodLink "EverybodyHasTheBook$Rounds" (63 : Nat) ({ cls := "java/lang/System", name := "arraycopy", desc := "(Ljava/lang/Object;ILjava/lang/Object;II)V" } : Jvm.MethodName)) ∈ lw_all := lw_g (lw_at lw_m6 63 rfl) rfl
theorem q1339 : (Jvm.Cond.fieldLink "EverybodyHasTheBook$Rounds" (22 : Nat) "EverybodyHasTheBook$Rounds" "years" "I") ∈ lw_all := lw_g (lw_at lw_m6 64 rfl) rfl
theorem q1340 : (Jvm.Cond.fieldLink "EverybodyHasTheBook$Rounds" (15 : Nat) "EverybodyHasTheBook$Rounds" "row" "[I") ∈ lw_all := lw_g (lw_at lw_m6 65 rfl) rfl
theorem q1341 : (Jvm.Cond.fieldLink "EverybodyHasTheBook$Rounds" (19 : Nat) "EverybodyHasTheBook$Rounds" "best" "[I") ∈ lw_all := lw_g (lw_at lw_m6 66 rfl) rfl
theorem q1343 : (Jvm.Cond.fieldLink "EverybodyHasTheBook$Rounds" (56 : Nat) "EverybodyHasTheBook$Rounds" "isTold" "Z") ∈ lw_all := lw_g (lw_at lw_m6 68 rfl) rfl
theorem q1344 : (Jvm.Cond.fieldLink "EverybodyHasTheBook$Rounds" (60 : Nat) "EverybodyHasTheBook$Rounds" "joy" "I") ∈ lw_all := lw_g (lw_at lw_m6 69 rfl) rfl
theorem q1346 : (Jvm.Cond.fieldLink "EverybodyHasTheBook$Rounds" (3 : Nat) "EverybodyHasTheBook$Rounds" "this$0" "LEverybodyHasTheBook;") ∈ lw_all := lw_g (lw_at lw_m6 71 rfl) rfl
theorem q1347 : (Jvm.Cond.laysFinal "EverybodyHasTheBook$Rounds" "EverybodyHasTheBook$Rounds" "years" "I") ∈ lw_all := lw_g (lw_at lw_m6 72 rfl) rfl
theorem q1348 : (Jvm.Cond.soleField "EverybodyHasTheBook$Rounds" "years") ∈ lw_all := lw_g (lw_at lw_m6 73 rfl) rfl
theorem q1349 : (Jvm.Cond.laysFinal "EverybodyHasTheBook$Rounds" "EverybodyHasTheBook$Rounds" "row" "[I") ∈ lw_all := lw_g (lw_at lw_m6 74 rfl) rfl
theorem q1350 : (Jvm.Cond.soleField "EverybodyHasTheBook$Rounds" "row") ∈ lw_all := lw_g (lw_at lw_m6 75 rfl) rfl
theorem q1351 : (Jvm.Cond.laysFinal "EverybodyHasTheBook$Rounds" "EverybodyHasTheBook$Rounds" "best" "[I") ∈ lw_all := lw_g (lw_at lw_m6 76 rfl) rfl
theorem q1352 : (Jvm.Cond.soleField "EverybodyHasTheBook$Rounds" "best") ∈ lw_all := lw_g (lw_at lw_m6 77 rfl) rfl
theorem q1353 : (Jvm.Cond.lays "EverybodyHasTheBook$Rounds" "EverybodyHasTheBook$Rounds" "isTold" "Z") ∈ lw_all := lw_g (lw_at lw_m6 78 rfl) rfl
theorem q1354 : (Jvm.Cond.soleField "EverybodyHasTheBook$Rounds" "isTold") ∈ lw_all := lw_g (lw_at lw_m6 79 rfl) rfl
theorem q1355 : (Jvm.Cond.lays "EverybodyHasTheBook$Rounds" "EverybodyHasTheBook$Rounds" "joy" "I") ∈ lw_all := lw_g (lw_at lw_m6 80 rfl) rfl
theorem q1356 : (Jvm.Cond.soleField "EverybodyHasTheBook$Rounds" "joy") ∈ lw_all := lw_g (lw_at lw_m6 81 rfl) rfl
theorem q1357 : (Jvm.Cond.laysFinal "EverybodyHasTheBook$Rounds" "EverybodyHasTheBook$Rounds" "this$0" "LEverybodyHasTheBook;") ∈ lw_all := lw_g (lw_at lw_m6 82 rfl) rfl
theorem q1358 : (Jvm.Cond.soleField "EverybodyHasTheBook$Rounds" "this$0") ∈ lw_all := lw_g (lw_at lw_m6 83 rfl) rfl
theorem q1359 : (Jvm.Cond.superclass "EverybodyHasTheBook$Rounds" "java/lang/Object") ∈ lw_all := lw_g (lw_at lw_m6 84 rfl) rfl
theorem in_X13 : ∀ w ∈ wsX130, w ∈ lw_all := lw_in wsX130 [1347, 1349, 1351, 1353, 1355, 1357] (by decide +kernel) (by decide +kernel)
/-! EverybodyHasTheBook$Scores -/
set_option maxRecDepth 100000
def RX14 : String := "EverybodyHasTheBook$Scores"
abbrev cX14_first : ByteArray := prog_12_method_2_code
def yX14_first : MethodName := ⟨RX14, "first", "(LEverybodyHasTheBook$Valley;I)I"⟩
def dkwX14_first_2 : List UInt8 := [21, 4, 164, 0, 10, 21, 5, 62, 21, 6, 54, 4, 132, 5, 1, 167, 255, 205, 29, 172]
abbrev dktX14_first_2 : List UInt8 := dkwX14_first_2 ++ []
def dkwX14_first_1 : List UInt8 := [185, 0, 9, 3, 0, 54, 6, 28, 21, 5, 184, 0, 15, 153, 0, 22, 29, 2, 159, 0, 10, 21, 6]
abbrev dktX14_first_1 : List UInt8 := dkwX14_first_1 ++ dktX14_first_2
def dkwX14_first_0 : List UInt8 := [2, 62, 3, 54, 4, 3, 54, 5, 21, 5, 43, 180, 0, 3, 162, 0, 48, 42, 43, 21, 5]
abbrev dktX14_first_0 : List UInt8 := dkwX14_first_0 ++ dktX14_first_1
theorem dksX14_first_0 : cX14_first.data.toList.drop 0 = dktX14_first_0 := by decide +kernel
theorem dksX14_first_1 : cX14_first.data.toList.drop 21 = dktX14_first_1 := dk_seg dksX14_first_0 21 rfl rfl
theorem dksX14_first_2 : cX14_first.data.toList.drop 44 = dktX14_first_2 := dk_seg dksX14_first_1 23 rfl rfl
theorem dX14_first_0 : decode cX14_first 0 = .ok (.iconst (-1), 1) := dk_2 (dk_at dksX14_first_0 0 rfl rfl)
theorem dX14_first_1 : decode cX14_first 1 = .ok (.istore_n 3, 1) := dk_62 (dk_at dksX14_first_0 1 rfl rfl)
theorem dX14_first_2 : decode cX14_first 2 = .ok (.iconst 0, 1) := dk_3 (dk_at dksX14_first_0 2 rfl rfl)
theorem dX14_first_3 : decode cX14_first 3 = .ok (.istore 4, 2) := dk_54 4 (dk_at dksX14_first_0 3 rfl rfl)
theorem dX14_first_5 : decode cX14_first 5 = .ok (.iconst 0, 1) := dk_3 (dk_at dksX14_first_0 5 rfl rfl)
theorem dX14_first_6 : decode cX14_first 6 = .ok (.istore 5, 2) := dk_54 5 (dk_at dksX14_first_0 6 rfl rfl)
theorem dX14_first_8 : decode cX14_first 8 = .ok (.iload 5, 2) := dk_21 5 (dk_at dksX14_first_0 8 rfl rfl)
theorem dX14_first_10 : decode cX14_first 10 = .ok (.aload_n 1, 1) := dk_43 (dk_at dksX14_first_0 10 rfl rfl)
theorem dX14_first_11 : decode cX14_first 11 = .ok (.getfield 3, 3) := dk_180 0 3 (dk_at dksX14_first_0 11 rfl rfl)
theorem dX14_first_14 : decode cX14_first 14 = .ok (.if_icmp .ge 48, 3) := dk_162 0 48 (dk_at dksX14_first_0 14 rfl rfl)
theorem dX14_first_17 : decode cX14_first 17 = .ok (.aload_n 0, 1) := dk_42 (dk_at dksX14_first_0 17 rfl rfl)
theorem dX14_first_18 : decode cX14_first 18 = .ok (.aload_n 1, 1) := dk_43 (dk_at dksX14_first_0 18 rfl rfl)
theorem dX14_first_19 : decode cX14_first 19 = .ok (.iload 5, 2) := dk_21 5 (dk_at dksX14_first_0 19 rfl rfl)
theorem dX14_first_21 : decode cX14_first 21 = .ok (.invokeinterface 9 3, 5) := by decide +kernel
theorem dX14_first_26 : decode cX14_first 26 = .ok (.istore 6, 2) := dk_54 6 (dk_at dksX14_first_1 5 rfl rfl)
theorem dX14_first_28 : decode cX14_first 28 = .ok (.iload_n 2, 1) := dk_28 (dk_at dksX14_first_1 7 rfl rfl)
theorem dX14_first_29 : decode cX14_first 29 = .ok (.iload 5, 2) := dk_21 5 (dk_at dksX14_first_1 8 rfl rfl)
theorem dX14_first_31 : decode cX14_first 31 = .ok (.invokestatic 15, 3) := dk_184 0 15 (dk_at dksX14_first_1 10 rfl rfl)
theorem dX14_first_34 : decode cX14_first 34 = .ok (.ifCond .eq 22, 3) := dk_153 0 22 (dk_at dksX14_first_1 13 rfl rfl)
theorem dX14_first_37 : decode cX14_first 37 = .ok (.iload_n 3, 1) := dk_29 (dk_at dksX14_first_1 16 rfl rfl)
theorem dX14_first_38 : decode cX14_first 38 = .ok (.iconst (-1), 1) := dk_2 (dk_at dksX14_first_1 17 rfl rfl)
theorem dX14_first_39 : decode cX14_first 39 = .ok (.if_icmp .eq 10, 3) := dk_159 0 10 (dk_at dksX14_first_1 18 rfl rfl)
theorem dX14_first_42 : decode cX14_first 42 = .ok (.iload 6, 2) := dk_21 6 (dk_at dksX14_first_1 21 rfl rfl)
theorem dX14_first_44 : decode cX14_first 44 = .ok (.iload 4, 2) := dk_21 4 (dk_at dksX14_first_2 0 rfl rfl)
theorem dX14_first_46 : decode cX14_first 46 = .ok (.if_icmp .le 10, 3) := dk_164 0 10 (dk_at dksX14_first_2 2 rfl rfl)
theorem dX14_first_49 : decode cX14_first 49 = .ok (.iload 5, 2) := dk_21 5 (dk_at dksX14_first_2 5 rfl rfl)
theorem dX14_first_51 : decode cX14_first 51 = .ok (.istore_n 3, 1) := dk_62 (dk_at dksX14_first_2 7 rfl rfl)
theorem dX14_first_52 : decode cX14_first 52 = .ok (.iload 6, 2) := dk_21 6 (dk_at dksX14_first_2 8 rfl rfl)
theorem dX14_first_54 : decode cX14_first 54 = .ok (.istore 4, 2) := dk_54 4 (dk_at dksX14_first_2 10 rfl rfl)
theorem dX14_first_56 : decode cX14_first 56 = .ok (.iinc 5 1, 3) := dk_132 5 1 (dk_at dksX14_first_2 12 rfl rfl)
theorem dX14_first_59 : decode cX14_first 59 = .ok (.goto (-51), 3) := dk_167 255 205 (dk_at dksX14_first_2 15 rfl rfl)
theorem dX14_first_62 : decode cX14_first 62 = .ok (.iload_n 3, 1) := dk_29 (dk_at dksX14_first_2 18 rfl rfl)
theorem dX14_first_63 : decode cX14_first 63 = .ok (.ireturn, 1) := dk_172 (dk_at dksX14_first_2 19 rfl rfl)
theorem q163 : (Jvm.Cond.fieldLink "EverybodyHasTheBook$Scores" (3 : Nat) "EverybodyHasTheBook$Valley" "inns" "I") ∈ lw_all := lw_g (lw_at lw_m1 88 rfl) rfl
theorem q517 : (Jvm.Cond.declares ({ cls := "EverybodyHasTheBook$Scores", name := "first", desc := "(LEverybodyHasTheBook$Valley;I)I" } : Jvm.MethodName)) ∈ lw_tbl := lw_at lw_m2 202 rfl
theorem q524 : (Jvm.Cond.instanceMethod ({ cls := "EverybodyHasTheBook$Scores", name := "first", desc := "(LEverybodyHasTheBook$Valley;I)I" } : Jvm.MethodName)) ∈ lw_all := lw_g (lw_at lw_m2 209 rfl) rfl
theorem q525 : (Jvm.Cond.publicMethod ({ cls := "EverybodyHasTheBook$Scores", name := "first", desc := "(LEverybodyHasTheBook$Valley;I)I" } : Jvm.MethodName)) ∈ lw_tbl := lw_at lw_m2 210 rfl
theorem q526 : (Jvm.Cond.code ({ cls := "EverybodyHasTheBook$Scores", name := "first", desc := "(LEverybodyHasTheBook$Valley;I)I" } : Jvm.MethodName) prog_12_method_2_code (7 : Nat) (Option.some Jvm.ClassFile.FieldType.int)) ∈ lw_all := lw_g (lw_at lw_m2 211 rfl) rfl
theorem q527 : (Jvm.Cond.interfaceEntry "EverybodyHasTheBook$Scores" (9 : Nat)) ∈ lw_tbl := lw_at lw_m2 212 rfl
theorem q528 : (Jvm.Cond.methodLink "EverybodyHasTheBook$Scores" (9 : Nat) ({ cls := "EverybodyHasTheBook$Scores", name := "score", desc := "(LEverybodyHasTheBook$Valley;I)I" } : Jvm.MethodName)) ∈ lw_all := lw_g (lw_at lw_m2 213 rfl) rfl
theorem q529 : (Jvm.Cond.interfaceMethod "EverybodyHasTheBook$Scores" "EverybodyHasTheBook$Scores" "score" "(LEverybodyHasTheBook$Valley;I)I") ∈ lw_tbl := lw_at lw_m2 214 rfl
theorem q530 : (Jvm.Cond.declares ({ cls := "EverybodyHasTheBook$Scores", name := "score", desc := "(LEverybodyHasTheBook$Valley;I)I" } : Jvm.MethodName)) ∈ lw_tbl := lw_at lw_m2 215 rfl
theorem q588 : (Jvm.Cond.methodLinkNest "EverybodyHasTheBook$Scores" (15 : Nat) ({ cls := "EverybodyHasTheBook", name := "has", desc := "(II)Z" } : Jvm.MethodName) "EverybodyHasTheBook") ∈ lw_tbl := lw_at lw_m3 33 rfl
theorem q2043 : (Jvm.Cond.initialized "EverybodyHasTheBook$Scores") ∈ lw_all := lw_g (lw_at lw_m9 48 rfl) rfl
theorem q75 : (Jvm.Cond.initialized "EverybodyHasTheBookLaw") ∈ lw_all := lw_g (lw_at lw_m1 0 rfl) rfl
set_option maxRecDepth 100000
theorem q110 : (Jvm.Cond.classLink "EverybodyHasTheBookLaw" (7 : Nat) "EverybodyHasTheBook") ∈ lw_all := lw_g (lw_at lw_m1 35 rfl) rfl
theorem q112 : (Jvm.Cond.methodLink "EverybodyHasTheBookLaw" (9 : Nat) ({ cls := "EverybodyHasTheBook", name := "<init>", desc := "()V" } : Jvm.MethodName)) ∈ lw_all := lw_g (lw_at lw_m1 37 rfl) rfl
theorem q249 : (Jvm.Cond.methodLink "EverybodyHasTheBookLaw" (13 : Nat) ({ cls := "EverybodyHasTheBook", name := "row", desc := "(III)I" } : Jvm.MethodName)) ∈ lw_all := lw_g (lw_at lw_m1 174 rfl) rfl
theorem q357 : (Jvm.Cond.methodLink "EverybodyHasTheBookLaw" (20 : Nat) ({ cls := "EverybodyHasTheBook", name := "set", desc := "(IIJ)I" } : Jvm.MethodName)) ∈ lw_all := lw_g (lw_at lw_m2 42 rfl) rfl
theorem q423 : (Jvm.Cond.methodLink "EverybodyHasTheBookLaw" (25 : Nat) ({ cls := "EverybodyHasTheBook", name := "copy", desc := "(IIIII)I" } : Jvm.MethodName)) ∈ lw_all := lw_g (lw_at lw_m2 108 rfl) rfl
theorem q470 : (Jvm.Cond.methodLink "EverybodyHasTheBookLaw" (30 : Nat) ({ cls := "EverybodyHasTheBook", name := "element", desc := "(II)J" } : Jvm.MethodName)) ∈ lw_all := lw_g (lw_at lw_m2 155 rfl) rfl
theorem q477 : (Jvm.Cond.methodLink "EverybodyHasTheBookLaw" (35 : Nat) ({ cls := "EverybodyHasTheBook", name := "holds", desc := "(I)I" } : Jvm.MethodName)) ∈ lw_all := lw_g (lw_at lw_m2 162 rfl) rfl
theorem q481 : (Jvm.Cond.methodLink "EverybodyHasTheBookLaw" (40 : Nat) ({ cls := "EverybodyHasTheBook", name := "show", desc := "(II)I" } : Jvm.MethodName)) ∈ lw_all := lw_g (lw_at lw_m2 166 rfl) rfl
theorem q489 : (Jvm.Cond.methodLink "EverybodyHasTheBookLaw" (45 : Nat) ({ cls := "EverybodyHasTheBook", name := "says", desc := "(II)I" } : Jvm.MethodName)) ∈ lw_all := lw_g (lw_at lw_m2 174 rfl) rfl
theorem q595 : (Jvm.Cond.methodLink "EverybodyHasTheBookLaw" (49 : Nat) ({ cls := "EverybodyHasTheBook", name := "inn", desc := "(III)I" } : Jvm.MethodName)) ∈ lw_all := lw_g (lw_at lw_m3 40 rfl) rfl
theorem q603 : (Jvm.Cond.methodLink "EverybodyHasTheBookLaw" (53 : Nat) ({ cls := "EverybodyHasTheBook", name := "goer", desc := "(III)I" } : Jvm.MethodName)) ∈ lw_all := lw_g (lw_at lw_m3 48 rfl) rfl
theorem q668 : (Jvm.Cond.methodLink "EverybodyHasTheBookLaw" (57 : Nat) ({ cls := "EverybodyHasTheBook", name := "change", desc := "(III)I" } : Jvm.MethodName)) ∈ lw_all := lw_g (lw_at lw_m3 113 rfl) rfl
theorem q677 : (Jvm.Cond.methodLink "EverybodyHasTheBookLaw" (61 : Nat) ({ cls := "EverybodyHasTheBook", name := "say", desc := "(II)I" } : Jvm.MethodName)) ∈ lw_all := lw_g (lw_at lw_m3 122 rfl) rfl
theorem q681 : (Jvm.Cond.methodLink "EverybodyHasTheBookLaw" (65 : Nat) ({ cls := "EverybodyHasTheBook", name := "write", desc := "(I)I" } : Jvm.MethodName)) ∈ lw_all := lw_g (lw_at lw_m3 126 rfl) rfl
theorem q696 : (Jvm.Cond.methodLink "EverybodyHasTheBookLaw" (69 : Nat) ({ cls := "EverybodyHasTheBook", name := "letter", desc := "(II)I" } : Jvm.MethodName)) ∈ lw_all := lw_g (lw_at lw_m3 141 rfl) rfl
theorem q704 : (Jvm.Cond.methodLink "EverybodyHasTheBookLaw" (73 : Nat) ({ cls := "EverybodyHasTheBook", name := "age", desc := "(I)I" } : Jvm.MethodName)) ∈ lw_all := lw_g (lw_at lw_m3 149 rfl) rfl
theorem q708 : (Jvm.Cond.methodLink "EverybodyHasTheBookLaw" (77 : Nat) ({ cls := "EverybodyHasTheBook", name := "heads", desc := "(II)I" } : Jvm.MethodName)) ∈ lw_all := lw_g (lw_at lw_m3 153 rfl) rfl
theorem q712 : (Jvm.Cond.methodLink "EverybodyHasTheBookLaw" (81 : Nat) ({ cls := "EverybodyHasTheBook", name := "feed", desc := "(I)I" } : Jvm.MethodName)) ∈ lw_all := lw_g (lw_at lw_m3 157 rfl) rfl
theorem q716 : (Jvm.Cond.methodLink "EverybodyHasTheBookLaw" (85 : Nat) ({ cls := "EverybodyHasTheBook", name := "wipe", desc := "()I" } : Jvm.MethodName)) ∈ lw_all := lw_g (lw_at lw_m3 161 rfl) rfl
theorem q720 : (Jvm.Cond.methodLink "EverybodyHasTheBookLaw" (90 : Nat) ({ cls := "EverybodyHasTheBook", name := "valley", desc := "()I" } : Jvm.MethodName)) ∈ lw_all := lw_g (lw_at lw_m3 165 rfl) rfl
theorem q1093 : (Jvm.Cond.methodLink "EverybodyHasTheBookLaw" (94 : Nat) ({ cls := "EverybodyHasTheBook", name := "innOf", desc := "(II)I" } : Jvm.MethodName)) ∈ lw_all := lw_g (lw_at lw_m5 58 rfl) rfl
theorem q1097 : (Jvm.Cond.methodLink "EverybodyHasTheBookLaw" (98 : Nat) ({ cls := "EverybodyHasTheBook", name := "goerOf", desc := "(II)I" } : Jvm.MethodName)) ∈ lw_all := lw_g (lw_at lw_m5 62 rfl) rfl
theorem q1121 : (Jvm.Cond.methodLink "EverybodyHasTheBookLaw" (102 : Nat) ({ cls := "EverybodyHasTheBook", name := "score", desc := "(II)I" } : Jvm.MethodName)) ∈ lw_all := lw_g (lw_at lw_m5 86 rfl) rfl
theorem q1131 : (Jvm.Cond.methodLink "EverybodyHasTheBookLaw" (106 : Nat) ({ cls := "EverybodyHasTheBook", name := "sleeps", desc := "(II)I" } : Jvm.MethodName)) ∈ lw_all := lw_g (lw_at lw_m5 96 rfl) rfl
theorem q1171 : (Jvm.Cond.methodLink "EverybodyHasTheBookLaw" (110 : Nat) ({ cls := "EverybodyHasTheBook", name := "guests", desc := "(I)I" } : Jvm.MethodName)) ∈ lw_all := lw_g (lw_at lw_m5 136 rfl) rfl
theorem q1175 : (Jvm.Cond.methodLink "EverybodyHasTheBookLaw" (114 : Nat) ({ cls := "EverybodyHasTheBook", name := "out", desc := "(I)I" } : Jvm.MethodName)) ∈ lw_all := lw_g (lw_at lw_m5 140 rfl) rfl
theorem q1179 : (Jvm.Cond.methodLink "EverybodyHasTheBookLaw" (118 : Nat) ({ cls := "EverybodyHasTheBook", name := "full", desc := "()I" } : Jvm.MethodName)) ∈ lw_all := lw_g (lw_at lw_m5 144 rfl) rfl
theorem q1184 : (Jvm.Cond.methodLink "EverybodyHasTheBookLaw" (122 : Nat) ({ cls := "EverybodyHasTheBook", name := "joy", desc := "(I)I" } : Jvm.MethodName)) ∈ lw_all := lw_g (lw_at lw_m5 149 rfl) rfl
theorem q1196 : (Jvm.Cond.methodLink "EverybodyHasTheBookLaw" (126 : Nat) ({ cls := "EverybodyHasTheBook", name := "taken", desc := "(I)I" } : Jvm.MethodName)) ∈ lw_all := lw_g (lw_at lw_m5 161 rfl) rfl
theorem q1200 : (Jvm.Cond.methodLink "EverybodyHasTheBookLaw" (130 : Nat) ({ cls := "EverybodyHasTheBook", name := "crowd", desc := "(I)I" } : Jvm.MethodName)) ∈ lw_all := lw_g (lw_at lw_m5 165 rfl) rfl
theorem q1204 : (Jvm.Cond.methodLink "EverybodyHasTheBookLaw" (134 : Nat) ({ cls := "EverybodyHasTheBook", name := "lean", desc := "(I)I" } : Jvm.MethodName)) ∈ lw_all := lw_g (lw_at lw_m5 169 rfl) rfl
theorem q1208 : (Jvm.Cond.methodLink "EverybodyHasTheBookLaw" (138 : Nat) ({ cls := "EverybodyHasTheBook", name := "truest", desc := "()I" } : Jvm.MethodName)) ∈ lw_all := lw_g (lw_at lw_m5 173 rfl) rfl
theorem q1212 : (Jvm.Cond.methodLink "EverybodyHasTheBookLaw" (142 : Nat) ({ cls := "EverybodyHasTheBook", name := "oldest", desc := "()I" } : Jvm.MethodName)) ∈ lw_all := lw_g (lw_at lw_m5 177 rfl) rfl
theorem q1219 : (Jvm.Cond.methodLink "EverybodyHasTheBookLaw" (146 : Nat) ({ cls := "EverybodyHasTheBook", name := "enough", desc := "(I)I" } : Jvm.MethodName)) ∈ lw_all := lw_g (lw_at lw_m5 184 rfl) rfl
theorem q1228 : (Jvm.Cond.methodLink "EverybodyHasTheBookLaw" (150 : Nat) ({ cls := "EverybodyHasTheBook", name := "better", desc := "(I)I" } : Jvm.MethodName)) ∈ lw_all := lw_g (lw_at lw_m5 193 rfl) rfl
theorem q1232 : (Jvm.Cond.methodLink "EverybodyHasTheBookLaw" (154 : Nat) ({ cls := "EverybodyHasTheBook", name := "trust", desc := "(I)I" } : Jvm.MethodName)) ∈ lw_all := lw_g (lw_at lw_m5 197 rfl) rfl
theorem q1240 : (Jvm.Cond.methodLink "EverybodyHasTheBookLaw" (158 : Nat) ({ cls := "EverybodyHasTheBook", name := "share", desc := "(I)I" } : Jvm.MethodName)) ∈ lw_all := lw_g (lw_at lw_m5 205 rfl) rfl
theorem q1245 : (Jvm.Cond.methodLink "EverybodyHasTheBookLaw" (162 : Nat) ({ cls := "EverybodyHasTheBook", name := "nine", desc := "(III)I" } : Jvm.MethodName)) ∈ lw_all := lw_g (lw_at lw_m5 210 rfl) rfl
theorem q1249 : (Jvm.Cond.methodLink "EverybodyHasTheBookLaw" (166 : Nat) ({ cls := "EverybodyHasTheBook", name := "two", desc := "(II)I" } : Jvm.MethodName)) ∈ lw_all := lw_g (lw_at lw_m5 214 rfl) rfl
theorem q1259 : (Jvm.Cond.methodLink "EverybodyHasTheBookLaw" (170 : Nat) ({ cls := "EverybodyHasTheBook", name := "judge", desc := "(I)I" } : Jvm.MethodName)) ∈ lw_all := lw_g (lw_at lw_m5 224 rfl) rfl
theorem q1267 : (Jvm.Cond.methodLink "EverybodyHasTheBookLaw" (174 : Nat) ({ cls := "EverybodyHasTheBook", name := "years", desc := "(II)I" } : Jvm.MethodName)) ∈ lw_all := lw_g (lw_at lw_m5 232 rfl) rfl
theorem q1290 : (Jvm.Cond.methodLink "EverybodyHasTheBookLaw" (178 : Nat) ({ cls := "EverybodyHasTheBook", name := "then", desc := "(III)I" } : Jvm.MethodName)) ∈ lw_all := lw_g (lw_at lw_m6 15 rfl) rfl
theorem q1298 : (Jvm.Cond.methodLink "EverybodyHasTheBookLaw" (186 : Nat) ({ cls := "EverybodyHasTheBook", name := "written", desc := "(II)I" } : Jvm.MethodName)) ∈ lw_all := lw_g (lw_at lw_m6 23 rfl) rfl
theorem q1306 : (Jvm.Cond.methodLink "EverybodyHasTheBookLaw" (182 : Nat) ({ cls := "EverybodyHasTheBook", name := "book", desc := "(II)I" } : Jvm.MethodName)) ∈ lw_all := lw_g (lw_at lw_m6 31 rfl) rfl
theorem q1314 : (Jvm.Cond.methodLink "EverybodyHasTheBookLaw" (190 : Nat) ({ cls := "EverybodyHasTheBook", name := "many", desc := "(I)I" } : Jvm.MethodName)) ∈ lw_all := lw_g (lw_at lw_m6 39 rfl) rfl
theorem q1318 : (Jvm.Cond.methodLink "EverybodyHasTheBookLaw" (194 : Nat) ({ cls := "EverybodyHasTheBook", name := "round", desc := "(II)I" } : Jvm.MethodName)) ∈ lw_all := lw_g (lw_at lw_m6 43 rfl) rfl
theorem q1360 : (Jvm.Cond.methodLink "EverybodyHasTheBookLaw" (198 : Nat) ({ cls := "EverybodyHasTheBook", name := "kept", desc := "(II)I" } : Jvm.MethodName)) ∈ lw_all := lw_g (lw_at lw_m6 85 rfl) rfl
theorem q1373 : (Jvm.Cond.methodLink "EverybodyHasTheBookLaw" (202 : Nat) ({ cls := "EverybodyHasTheBook", name := "called", desc := "(III)I" } : Jvm.MethodName)) ∈ lw_all := lw_g (lw_at lw_m6 98 rfl) rfl
theorem q1377 : (Jvm.Cond.methodLink "EverybodyHasTheBookLaw" (206 : Nat) ({ cls := "EverybodyHasTheBook", name := "spoilt", desc := "(II)I" } : Jvm.MethodName)) ∈ lw_all := lw_g (lw_at lw_m6 102 rfl) rfl
theorem q1381 : (Jvm.Cond.methodLink "EverybodyHasTheBookLaw" (210 : Nat) ({ cls := "EverybodyHasTheBook", name := "bears", desc := "(IIII)I" } : Jvm.MethodName)) ∈ lw_all := lw_g (lw_at lw_m6 106 rfl) rfl
theorem q1388 : (Jvm.Cond.methodLink "EverybodyHasTheBookLaw" (215 : Nat) ({ cls := "EverybodyHasTheBook", name := "recovers", desc := "(I)I" } : Jvm.MethodName)) ∈ lw_all := lw_g (lw_at lw_m6 113 rfl) rfl
theorem q1393 : (Jvm.Cond.methodLink "EverybodyHasTheBookLaw" (219 : Nat) ({ cls := "EverybodyHasTheBook", name := "dearest", desc := "(II)I" } : Jvm.MethodName)) ∈ lw_all := lw_g (lw_at lw_m6 118 rfl) rfl
theorem q1397 : (Jvm.Cond.methodLink "EverybodyHasTheBookLaw" (223 : Nat) ({ cls := "EverybodyHasTheBook", name := "year", desc := "()I" } : Jvm.MethodName)) ∈ lw_all := lw_g (lw_at lw_m6 122 rfl) rfl
theorem q1405 : (Jvm.Cond.methodLink "EverybodyHasTheBookLaw" (227 : Nat) ({ cls := "EverybodyHasTheBook", name := "goes", desc := "(I)I" } : Jvm.MethodName)) ∈ lw_all := lw_g (lw_at lw_m6 130 rfl) rfl
theorem q1409 : (Jvm.Cond.methodLink "EverybodyHasTheBookLaw" (231 : Nat) ({ cls := "EverybodyHasTheBook", name := "post", desc := "(I)I" } : Jvm.MethodName)) ∈ lw_all := lw_g (lw_at lw_m6 134 rfl) rfl
theorem q1423 : (Jvm.Cond.methodLink "EverybodyHasTheBookLaw" (235 : Nat) ({ cls := "EverybodyHasTheBook", name := "seed", desc := "(I)I" } : Jvm.MethodName)) ∈ lw_all := lw_g (lw_at lw_m6 148 rfl) rfl
theorem q1427 : (Jvm.Cond.methodLink "EverybodyHasTheBookLaw" (239 : Nat) ({ cls := "EverybodyHasTheBook", name := "image", desc := "()I" } : Jvm.MethodName)) ∈ lw_all := lw_g (lw_at lw_m6 152 rfl) rfl
theorem q1431 : (Jvm.Cond.methodLink "EverybodyHasTheBookLaw" (243 : Nat) ({ cls := "EverybodyHasTheBook", name := "back", desc := "()I" } : Jvm.MethodName)) ∈ lw_all := lw_g (lw_at lw_m6 156 rfl) rfl
theorem q1435 : (Jvm.Cond.methodLink "EverybodyHasTheBookLaw" (247 : Nat) ({ cls := "EverybodyHasTheBook", name := "status", desc := "(I)I" } : Jvm.MethodName)) ∈ lw_all := lw_g (lw_at lw_m6 160 rfl) rfl
theorem q1450 : (Jvm.Cond.classLink "EverybodyHasTheBookLaw" (10 : Nat) "EverybodyHasTheBookModel") ∈ lw_all := lw_g (lw_at lw_m6 175 rfl) rfl
theorem q1452 : (Jvm.Cond.methodLink "EverybodyHasTheBookLaw" (12 : Nat) ({ cls := "EverybodyHasTheBookModel", name := "<init>", desc := "()V" } : Jvm.MethodName)) ∈ lw_all := lw_g (lw_at lw_m6 177 rfl) rfl
theorem q1562 : (Jvm.Cond.methodLink "EverybodyHasTheBookLaw" (17 : Nat) ({ cls := "EverybodyHasTheBookModel", name := "row", desc := "(III)I" } : Jvm.MethodName)) ∈ lw_all := lw_g (lw_at lw_m7 47 rfl) rfl
theorem q1576 : (Jvm.Cond.methodLink "EverybodyHasTheBookLaw" (24 : Nat) ({ cls := "EverybodyHasTheBookModel", name := "set", desc := "(IIJ)I" } : Jvm.MethodName)) ∈ lw_all := lw_g (lw_at lw_m7 61 rfl) rfl
theorem q1587 : (Jvm.Cond.methodLink "EverybodyHasTheBookLaw" (29 : Nat) ({ cls := "EverybodyHasTheBookModel", name := "copy", desc := "(IIIII)I" } : Jvm.MethodName)) ∈ lw_all := lw_g (lw_at lw_m7 72 rfl) rfl
theorem q1591 : (Jvm.Cond.methodLink "EverybodyHasTheBookLaw" (34 : Nat) ({ cls := "EverybodyHasTheBookModel", name := "element", desc := "(II)J" } : Jvm.MethodName)) ∈ lw_all := lw_g (lw_at lw_m7 76 rfl) rfl
theorem q1595 : (Jvm.Cond.methodLink "EverybodyHasTheBookLaw" (39 : Nat) ({ cls := "EverybodyHasTheBookModel", name := "holds", desc := "(I)I" } : Jvm.MethodName)) ∈ lw_all := lw_g (lw_at lw_m7 80 rfl) rfl
theorem q1599 : (Jvm.Cond.methodLink "EverybodyHasTheBookLaw" (44 : Nat) ({ cls := "EverybodyHasTheBookModel", name := "show", desc := "(II)I" } : Jvm.MethodName)) ∈ lw_all := lw_g (lw_at lw_m7 84 rfl) rfl
theorem q1607 : (Jvm.Cond.methodLink "EverybodyHasTheBookLaw" (48 : Nat) ({ cls := "EverybodyHasTheBookModel", name := "says", desc := "(II)I" } : Jvm.MethodName)) ∈ lw_all := lw_g (lw_at lw_m7 92 rfl) rfl
theorem q1631 : (Jvm.Cond.methodLink "EverybodyHasTheBookLaw" (52 : Nat) ({ cls := "EverybodyHasTheBookModel", name := "inn", desc := "(III)I" } : Jvm.MethodName)) ∈ lw_all := lw_g (lw_at lw_m7 116 rfl) rfl
theorem q1642 : (Jvm.Cond.methodLink "EverybodyHasTheBookLaw" (56 : Nat) ({ cls := "EverybodyHasTheBookModel", name := "goer", desc := "(III)I" } : Jvm.MethodName)) ∈ lw_all := lw_g (lw_at lw_m7 127 rfl) rfl
theorem q1647 : (Jvm.Cond.methodLink "EverybodyHasTheBookLaw" (60 : Nat) ({ cls := "EverybodyHasTheBookModel", name := "change", desc := "(III)I" } : Jvm.MethodName)) ∈ lw_all := lw_g (lw_at lw_m7 132 rfl) rfl
theorem q1655 : (Jvm.Cond.methodLink "EverybodyHasTheBookLaw" (64 : Nat) ({ cls := "EverybodyHasTheBookModel", name := "say", desc := "(II)I" } : Jvm.MethodName)) ∈ lw_all := lw_g (lw_at lw_m7 140 rfl) rfl
theorem q1660 : (Jvm.Cond.methodLink "EverybodyHasTheBookLaw" (68 : Nat) ({ cls := "EverybodyHasTheBookModel", name := "write", desc := "(I)I" } : Jvm.MethodName)) ∈ lw_all := lw_g (lw_at lw_m7 145 rfl) rfl
theorem q1672 : (Jvm.Cond.methodLink "EverybodyHasTheBookLaw" (72 : Nat) ({ cls := "EverybodyHasTheBookModel", name := "letter", desc := "(II)I" } : Jvm.MethodName)) ∈ lw_all := lw_g (lw_at lw_m7 157 rfl) rfl
theorem q1680 : (Jvm.Cond.methodLink "EverybodyHasTheBookLaw" (76 : Nat) ({ cls := "EverybodyHasTheBookModel", name := "age", desc := "(I)I" } : Jvm.MethodName)) ∈ lw_all := lw_g (lw_at lw_m7 165 rfl) rfl
theorem q1684 : (Jvm.Cond.methodLink "EverybodyHasTheBookLaw" (80 : Nat) ({ cls := "EverybodyHasTheBookModel", name := "heads", desc := "(II)I" } : Jvm.MethodName)) ∈ lw_all := lw_g (lw_at lw_m7 169 rfl) rfl
theorem q1688 : (Jvm.Cond.methodLink "EverybodyHasTheBookLaw" (84 : Nat) ({ cls := "EverybodyHasTheBookModel", name := "feed", desc := "(I)I" } : Jvm.MethodName)) ∈ lw_all := lw_g (lw_at lw_m7 173 rfl) rfl
theorem q1693 : (Jvm.Cond.methodLink "EverybodyHasTheBookLaw" (89 : Nat) ({ cls := "EverybodyHasTheBookModel", name := "wipe", desc := "()I" } : Jvm.MethodName)) ∈ lw_all := lw_g (lw_at lw_m7 178 rfl) rfl
theorem q1697 : (Jvm.Cond.methodLink "EverybodyHasTheBookLaw" (93 : Nat) ({ cls := "EverybodyHasTheBookModel", name := "valley", desc := "()I" } : Jvm.MethodName)) ∈ lw_all := lw_g (lw_at lw_m7 182 rfl) rfl
theorem q1787 : (Jvm.Cond.methodLink "EverybodyHasTheBookLaw" (97 : Nat) ({ cls := "EverybodyHasTheBookModel", name := "innOf", desc := "(II)I" } : Jvm.MethodName)) ∈ lw_all := lw_g (lw_at lw_m8 32 rfl) rfl
theorem q1792 : (Jvm.Cond.methodLink "EverybodyHasTheBookLaw" (101 : Nat) ({ cls := "EverybodyHasTheBookModel", name := "goerOf", desc := "(II)I" } : Jvm.MethodName)) ∈ lw_all := lw_g (lw_at lw_m8 37 rfl) rfl
theorem q1797 : (Jvm.Cond.methodLink "EverybodyHasTheBookLaw" (105 : Nat) ({ cls := "EverybodyHasTheBookModel", name := "score", desc := "(II)I" } : Jvm.MethodName)) ∈ lw_all := lw_g (lw_at lw_m8 42 rfl) rfl
theorem q1802 : (Jvm.Cond.methodLink "EverybodyHasTheBookLaw" (109 : Nat) ({ cls := "EverybodyHasTheBookModel", name := "sleeps", desc := "(II)I" } : Jvm.MethodName)) ∈ lw_all := lw_g (lw_at lw_m8 47 rfl) rfl
theorem q1818 : (Jvm.Cond.methodLink "EverybodyHasTheBookLaw" (113 : Nat) ({ cls := "EverybodyHasTheBookModel", name := "guests", desc := "(I)I" } : Jvm.MethodName)) ∈ lw_all := lw_g (lw_at lw_m8 63 rfl) rfl
theorem q1826 : (Jvm.Cond.methodLink "EverybodyHasTheBookLaw" (117 : Nat) ({ cls := "EverybodyHasTheBookModel", name := "out", desc := "(I)I" } : Jvm.MethodName)) ∈ lw_all := lw_g (lw_at lw_m8 71 rfl) rfl
theorem q1830 : (Jvm.Cond.methodLink "EverybodyHasTheBookLaw" (121 : Nat) ({ cls := "EverybodyHasTheBookModel", name := "full", desc := "()I" } : Jvm.MethodName)) ∈ lw_all := lw_g (lw_at lw_m8 75 rfl) rfl
theorem q1834 : (Jvm.Cond.methodLink "EverybodyHasTheBookLaw" (125 : Nat) ({ cls := "EverybodyHasTheBookModel", name := "joy", desc := "(I)I" } : Jvm.MethodName)) ∈ lw_all := lw_g (lw_at lw_m8 79 rfl) rfl
theorem q1846 : (Jvm.Cond.methodLink "EverybodyHasTheBookLaw" (129 : Nat) ({ cls := "EverybodyHasTheBookModel", name := "taken", desc := "(I)I" } : Jvm.MethodName)) ∈ lw_all := lw_g (lw_at lw_m8 91 rfl) rfl
theorem q1850 : (Jvm.Cond.methodLink "EverybodyHasTheBookLaw" (133 : Nat) ({ cls := "EverybodyHasTheBookModel", name := "crowd", desc := "(I)I" } : Jvm.MethodName)) ∈ lw_all := lw_g (lw_at lw_m8 95 rfl) rfl
theorem q1858 : (Jvm.Cond.methodLink "EverybodyHasTheBookLaw" (137 : Nat) ({ cls := "EverybodyHasTheBookModel", name := "lean", desc := "(I)I" } : Jvm.MethodName)) ∈ lw_all := lw_g (lw_at lw_m8 103 rfl) rfl
theorem q1862 : (Jvm.Cond.methodLink "EverybodyHasTheBookLaw" (141 : Nat) ({ cls := "EverybodyHasTheBookModel", name := "truest", desc := "()I" } : Jvm.MethodName)) ∈ lw_all := lw_g (lw_at lw_m8 107 rfl) rfl
theorem q1870 : (Jvm.Cond.methodLink "EverybodyHasTheBookLaw" (145 : Nat) ({ cls := "EverybodyHasTheBookModel", name := "oldest", desc := "()I" } : Jvm.MethodName)) ∈ lw_all := lw_g (lw_at lw_m8 115 rfl) rfl
theorem q1878 : (Jvm.Cond.methodLink "EverybodyHasTheBookLaw" (149 : Nat) ({ cls := "EverybodyHasTheBookModel", name := "enough", desc := "(I)I" } : Jvm.MethodName)) ∈ lw_all := lw_g (lw_at lw_m8 123 rfl) rfl
theorem q1882 : (Jvm.Cond.methodLink "EverybodyHasTheBookLaw" (153 : Nat) ({ cls := "EverybodyHasTheBookModel", name := "better", desc := "(I)I" } : Jvm.MethodName)) ∈ lw_all := lw_g (lw_at lw_m8 127 rfl) rfl
theorem q1886 : (Jvm.Cond.methodLink "EverybodyHasTheBookLaw" (157 : Nat) ({ cls := "EverybodyHasTheBookModel", name := "trust", desc := "(I)I" } : Jvm.MethodName)) ∈ lw_all := lw_g (lw_at lw_m8 131 rfl) rfl
theorem q1894 : (Jvm.Cond.methodLink "EverybodyHasTheBookLaw" (161 : Nat) ({ cls := "EverybodyHasTheBookModel", name := "share", desc := "(I)I" } : Jvm.MethodName)) ∈ lw_all := lw_g (lw_at lw_m8 139 rfl) rfl
theorem q1898 : (Jvm.Cond.methodLink "EverybodyHasTheBookLaw" (165 : Nat) ({ cls := "EverybodyHasTheBookModel", name := "nine", desc := "(III)I" } : Jvm.MethodName)) ∈ lw_all := lw_g (lw_at lw_m8 143 rfl) rfl
theorem q1902 : (Jvm.Cond.methodLink "EverybodyHasTheBookLaw" (169 : Nat) ({ cls := "EverybodyHasTheBookModel", name := "two", desc := "(II)I" } : Jvm.MethodName)) ∈ lw_all := lw_g (lw_at lw_m8 147 rfl) rfl
theorem q1910 : (Jvm.Cond.methodLink "EverybodyHasTheBookLaw" (173 : Nat) ({ cls := "EverybodyHasTheBookModel", name := "judge", desc := "(I)I" } : Jvm.MethodName)) ∈ lw_all := lw_g (lw_at lw_m8 155 rfl) rfl
theorem q1914 : (Jvm.Cond.methodLink "EverybodyHasTheBookLaw" (177 : Nat) ({ cls := "EverybodyHasTheBookModel", name := "years", desc := "(II)I" } : Jvm.MethodName)) ∈ lw_all := lw_g (lw_at lw_m8 159 rfl) rfl
theorem q1933 : (Jvm.Cond.methodLink "EverybodyHasTheBookLaw" (181 : Nat) ({ cls := "EverybodyHasTheBookModel", name := "then", desc := "(III)I" } : Jvm.MethodName)) ∈ lw_all := lw_g (lw_at lw_m8 178 rfl) rfl
theorem q1937 : (Jvm.Cond.methodLink "EverybodyHasTheBookLaw" (185 : Nat) ({ cls := "EverybodyHasTheBookModel", name := "book", desc := "(II)I" } : Jvm.MethodName)) ∈ lw_all := lw_g (lw_at lw_m8 182 rfl) rfl
theorem q1949 : (Jvm.Cond.methodLink "EverybodyHasTheBookLaw" (189 : Nat) ({ cls := "EverybodyHasTheBookModel", name := "written", desc := "(II)I" } : Jvm.MethodName)) ∈ lw_all := lw_g (lw_at lw_m8 194 rfl) rfl
theorem q1953 : (Jvm.Cond.methodLink "EverybodyHasTheBookLaw" (193 : Nat) ({ cls := "EverybodyHasTheBookModel", name := "many", desc := "(I)I" } : Jvm.MethodName)) ∈ lw_all := lw_g (lw_at lw_m8 198 rfl) rfl
theorem q1957 : (Jvm.Cond.methodLink "EverybodyHasTheBookLaw" (197 : Nat) ({ cls := "EverybodyHasTheBookModel", name := "round", desc := "(II)I" } : Jvm.MethodName)) ∈ lw_all := lw_g (lw_at lw_m8 202 rfl) rfl
theorem q1966 : (Jvm.Cond.methodLink "EverybodyHasTheBookLaw" (201 : Nat) ({ cls := "EverybodyHasTheBookModel", name := "kept", desc := "(II)I" } : Jvm.MethodName)) ∈ lw_all := lw_g (lw_at lw_m8 211 rfl) rfl
theorem q1974 : (Jvm.Cond.methodLink "EverybodyHasTheBookLaw" (205 : Nat) ({ cls := "EverybodyHasTheBookModel", name := "called", desc := "(III)I" } : Jvm.MethodName)) ∈ lw_all := lw_g (lw_at lw_m8 219 rfl) rfl
theorem q1978 : (Jvm.Cond.methodLink "EverybodyHasTheBookLaw" (209 : Nat) ({ cls := "EverybodyHasTheBookModel", name := "spoilt", desc := "(II)I" } : Jvm.MethodName)) ∈ lw_all := lw_g (lw_at lw_m8 223 rfl) rfl
theorem q1982 : (Jvm.Cond.methodLink "EverybodyHasTheBookLaw" (214 : Nat) ({ cls := "EverybodyHasTheBookModel", name := "bears", desc := "(IIII)I" } : Jvm.MethodName)) ∈ lw_all := lw_g (lw_at lw_m8 227 rfl) rfl
theorem q1986 : (Jvm.Cond.methodLink "EverybodyHasTheBookLaw" (218 : Nat) ({ cls := "EverybodyHasTheBookModel", name := "recovers", desc := "(I)I" } : Jvm.MethodName)) ∈ lw_all := lw_g (lw_at lw_m8 231 rfl) rfl
theorem q1990 : (Jvm.Cond.methodLink "EverybodyHasTheBookLaw" (222 : Nat) ({ cls := "EverybodyHasTheBookModel", name := "dearest", desc := "(II)I" } : Jvm.MethodName)) ∈ lw_all := lw_g (lw_at lw_m8 235 rfl) rfl
theorem q1994 : (Jvm.Cond.methodLink "EverybodyHasTheBookLaw" (226 : Nat) ({ cls := "EverybodyHasTheBookModel", name := "year", desc := "()I" } : Jvm.MethodName)) ∈ lw_all := lw_g (lw_at lw_m8 239 rfl) rfl
theorem q1998 : (Jvm.Cond.methodLink "EverybodyHasTheBookLaw" (230 : Nat) ({ cls := "EverybodyHasTheBookModel", name := "goes", desc := "(I)I" } : Jvm.MethodName)) ∈ lw_all := lw_g (lw_at lw_m9 3 rfl) rfl
theorem q2002 : (Jvm.Cond.methodLink "EverybodyHasTheBookLaw" (234 : Nat) ({ cls := "EverybodyHasTheBookModel", name := "post", desc := "(I)I" } : Jvm.MethodName)) ∈ lw_all := lw_g (lw_at lw_m9 7 rfl) rfl
theorem q2011 : (Jvm.Cond.methodLink "EverybodyHasTheBookLaw" (238 : Nat) ({ cls := "EverybodyHasTheBookModel", name := "seed", desc := "(I)I" } : Jvm.MethodName)) ∈ lw_all := lw_g (lw_at lw_m9 16 rfl) rfl
theorem q2015 : (Jvm.Cond.methodLink "EverybodyHasTheBookLaw" (242 : Nat) ({ cls := "EverybodyHasTheBookModel", name := "image", desc := "()I" } : Jvm.MethodName)) ∈ lw_all := lw_g (lw_at lw_m9 20 rfl) rfl
theorem q2019 : (Jvm.Cond.methodLink "EverybodyHasTheBookLaw" (246 : Nat) ({ cls := "EverybodyHasTheBookModel", name := "back", desc := "()I" } : Jvm.MethodName)) ∈ lw_all := lw_g (lw_at lw_m9 24 rfl) rfl
theorem q2023 : (Jvm.Cond.methodLink "EverybodyHasTheBookLaw" (250 : Nat) ({ cls := "EverybodyHasTheBookModel", name := "status", desc := "(I)I" } : Jvm.MethodName)) ∈ lw_all := lw_g (lw_at lw_m9 28 rfl) rfl
theorem q2028 : (Jvm.Cond.constantLong "EverybodyHasTheBookLaw" (18 : Nat) (4294967295 : Int64)) ∈ lw_all := lw_g (lw_at lw_m9 33 rfl) rfl
theorem q841 : (Jvm.Cond.sameMethod "[B" "java/lang/Object" "clone" "()Ljava/lang/Object;") ∈ lw_all := lw_g (lw_at lw_m4 46 rfl) rfl
set_option maxRecDepth 100000
theorem q844 : (Jvm.Cond.selects "[B" ({ cls := "[B", name := "clone", desc := "()Ljava/lang/Object;" } : Jvm.MethodName) ({ cls := "java/lang/Object", name := "clone", desc := "()Ljava/lang/Object;" } : Jvm.MethodName)) ∈ lw_all := lw_g (lw_at lw_m4 49 rfl) rfl
theorem q845 : (Jvm.Cond.castable "[B" "java/lang/Cloneable") ∈ lw_tbl := lw_at lw_m4 50 rfl
theorem q90 : (Jvm.Cond.initialized "java/lang/System") ∈ lw_all := lw_g (lw_at lw_m1 15 rfl) rfl
set_option maxRecDepth 100000
theorem q468 : (Jvm.Cond.static ({ cls := "java/lang/System", name := "arraycopy", desc := "(Ljava/lang/Object;ILjava/lang/Object;II)V" } : Jvm.MethodName)) ∈ lw_all := lw_g (lw_at lw_m2 153 rfl) rfl
theorem q469 : (Jvm.Cond.native ({ cls := "java/lang/System", name := "arraycopy", desc := "(Ljava/lang/Object;ILjava/lang/Object;II)V" } : Jvm.MethodName)) ∈ lw_all := lw_g (lw_at lw_m2 154 rfl) rfl
theorem q1016 : (Jvm.Cond.interfaceMethod "jdk/internal/access/JavaLangAccess" "jdk/internal/access/JavaLangAccess" "getUTF16Char" "([BI)C") ∈ lw_tbl := lw_at lw_m4 221 rfl
set_option maxRecDepth 100000
theorem q1017 : (Jvm.Cond.declares ({ cls := "jdk/internal/access/JavaLangAccess", name := "getUTF16Char", desc := "([BI)C" } : Jvm.MethodName)) ∈ lw_tbl := lw_at lw_m4 222 rfl
theorem q125 : (Jvm.Cond.arrayOver (Jvm.ClassFile.FieldType.object "EverybodyHasTheBook$Goer")) ∈ lw_tbl := lw_at lw_m1 50 rfl
set_option maxRecDepth 100000
theorem q127 : (Jvm.Cond.arrayOver (Jvm.ClassFile.FieldType.array Jvm.ClassFile.FieldType.int)) ∈ lw_tbl := lw_at lw_m1 52 rfl
theorem q214 : (Jvm.Cond.arrayClass Jvm.ClassFile.FieldType.int) ∈ lw_all := lw_g (lw_at lw_m1 139 rfl) rfl
theorem q216 : (Jvm.Cond.arrayOver (Jvm.ClassFile.FieldType.object "EverybodyHasTheBook$Sheet")) ∈ lw_tbl := lw_at lw_m1 141 rfl
theorem q336 : (Jvm.Cond.arrayClass Jvm.ClassFile.FieldType.byte) ∈ lw_all := lw_g (lw_at lw_m2 21 rfl) rfl
theorem q354 : (Jvm.Cond.arrayClass Jvm.ClassFile.FieldType.short) ∈ lw_all := lw_g (lw_at lw_m2 39 rfl) rfl
theorem q355 : (Jvm.Cond.arrayClass Jvm.ClassFile.FieldType.long) ∈ lw_all := lw_g (lw_at lw_m2 40 rfl) rfl
theorem q356 : (Jvm.Cond.arrayClass Jvm.ClassFile.FieldType.boolean) ∈ lw_all := lw_g (lw_at lw_m2 41 rfl) rfl
theorem q1457 : (Jvm.Cond.arrayOver (Jvm.ClassFile.FieldType.array Jvm.ClassFile.FieldType.long)) ∈ lw_tbl := lw_at lw_m6 182 rfl
theorem q2053 : (Jvm.Cond.arrayClass Jvm.ClassFile.FieldType.char) ∈ lw_all := lw_g (lw_at lw_m9 58 rfl) rfl
