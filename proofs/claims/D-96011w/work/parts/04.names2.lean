/-! EverybodyHasTheBook -/
set_option maxRecDepth 100000
def RX0 : String := "EverybodyHasTheBook"
def TX0 : u_T := fun k => match k with
  | 0 => ("EverybodyHasTheBook", "now", "LEverybodyHasTheBook$Valley;", false)
  | 1 => ("EverybodyHasTheBook", "image", "LEverybodyHasTheBook$Valley;", false)
  | 2 => ("EverybodyHasTheBook", "tried", "LEverybodyHasTheBook$Valley;", true)
  | 3 => ("EverybodyHasTheBook", "shelves", "[LEverybodyHasTheBook$Sheet;", true)
  | 4 => ("EverybodyHasTheBook", "tape", "[I", true)
  | 5 => ("EverybodyHasTheBook", "size", "I", false)
  | _ => ("EverybodyHasTheBook", "refused", "[I", true)
def tyX0 : Nat → FieldType := fun k => match k with
  | 0 => .object "EverybodyHasTheBook$Valley"
  | 1 => .object "EverybodyHasTheBook$Valley"
  | 2 => .object "EverybodyHasTheBook$Valley"
  | 3 => .array (.object "EverybodyHasTheBook$Sheet")
  | 4 => .array .int
  | 5 => .int
  | _ => .array .int
abbrev wsX00 : List Cond := u_ws RX0 TX0 7
theorem nmX0 : ∀ a, a < 7 → ∀ b, b < 7 → a ≠ b → (TX0 a).2.1 ≠ (TX0 b).2.1 := by decide +kernel
theorem tyX0_ok : ∀ k, k < 7 → parseFieldDescriptor (TX0 k).2.2.1 = some (tyX0 k) := by decide +kernel
abbrev cX0_init : ByteArray := prog_1_method_5_code
def yX0_init : MethodName := ⟨RX0, "<init>", "()V"⟩
def dkwX0_init_3 : List UInt8 := [183, 0, 61, 83, 132, 1, 1, 167, 255, 234, 177]
abbrev dktX0_init_3 : List UInt8 := dkwX0_init_3 ++ []
def dkwX0_init_2 : List UInt8 := [188, 10, 181, 0, 58, 3, 60, 27, 16, 8, 162, 0, 22, 42, 180, 0, 50, 27, 187, 0, 48, 89]
abbrev dktX0_init_2 : List UInt8 := dkwX0_init_2 ++ dktX0_init_3
def dkwX0_init_1 : List UInt8 := [181, 0, 45, 42, 16, 8, 189, 0, 48, 181, 0, 50, 42, 17, 0, 250, 188, 10, 181, 0, 54, 42, 16, 7]
abbrev dktX0_init_1 : List UInt8 := dkwX0_init_1 ++ dktX0_init_2
def dkwX0_init_0 : List UInt8 := [42, 183, 0, 31, 42, 187, 0, 36, 89, 183, 0, 38, 181, 0, 39, 42, 187, 0, 36, 89, 183, 0, 38]
abbrev dktX0_init_0 : List UInt8 := dkwX0_init_0 ++ dktX0_init_1
theorem dksX0_init_0 : cX0_init.data.toList.drop 0 = dktX0_init_0 := by decide +kernel
theorem dksX0_init_1 : cX0_init.data.toList.drop 23 = dktX0_init_1 := dk_seg dksX0_init_0 23 rfl rfl
theorem dksX0_init_2 : cX0_init.data.toList.drop 47 = dktX0_init_2 := dk_seg dksX0_init_1 24 rfl rfl
theorem dksX0_init_3 : cX0_init.data.toList.drop 69 = dktX0_init_3 := dk_seg dksX0_init_2 22 rfl rfl
theorem dX0_init_0 : decode cX0_init 0 = .ok (.aload_n 0, 1) := dk_42 (dk_at dksX0_init_0 0 rfl rfl)
theorem dX0_init_1 : decode cX0_init 1 = .ok (.invokespecial 31, 3) := dk_183 0 31 (dk_at dksX0_init_0 1 rfl rfl)
theorem dX0_init_4 : decode cX0_init 4 = .ok (.aload_n 0, 1) := dk_42 (dk_at dksX0_init_0 4 rfl rfl)
theorem dX0_init_5 : decode cX0_init 5 = .ok (.new 36, 3) := dk_187 0 36 (dk_at dksX0_init_0 5 rfl rfl)
theorem dX0_init_8 : decode cX0_init 8 = .ok (.dup, 1) := dk_89 (dk_at dksX0_init_0 8 rfl rfl)
theorem dX0_init_9 : decode cX0_init 9 = .ok (.invokespecial 38, 3) := dk_183 0 38 (dk_at dksX0_init_0 9 rfl rfl)
theorem dX0_init_12 : decode cX0_init 12 = .ok (.putfield 39, 3) := dk_181 0 39 (dk_at dksX0_init_0 12 rfl rfl)
theorem dX0_init_15 : decode cX0_init 15 = .ok (.aload_n 0, 1) := dk_42 (dk_at dksX0_init_0 15 rfl rfl)
theorem dX0_init_16 : decode cX0_init 16 = .ok (.new 36, 3) := dk_187 0 36 (dk_at dksX0_init_0 16 rfl rfl)
theorem dX0_init_19 : decode cX0_init 19 = .ok (.dup, 1) := dk_89 (dk_at dksX0_init_0 19 rfl rfl)
theorem dX0_init_20 : decode cX0_init 20 = .ok (.invokespecial 38, 3) := dk_183 0 38 (dk_at dksX0_init_0 20 rfl rfl)
theorem dX0_init_23 : decode cX0_init 23 = .ok (.putfield 45, 3) := dk_181 0 45 (dk_at dksX0_init_1 0 rfl rfl)
theorem dX0_init_26 : decode cX0_init 26 = .ok (.aload_n 0, 1) := dk_42 (dk_at dksX0_init_1 3 rfl rfl)
theorem dX0_init_27 : decode cX0_init 27 = .ok (.bipush 8, 2) := dk_16 8 (dk_at dksX0_init_1 4 rfl rfl)
theorem dX0_init_29 : decode cX0_init 29 = .ok (.anewarray 48, 3) := dk_189 0 48 (dk_at dksX0_init_1 6 rfl rfl)
theorem dX0_init_32 : decode cX0_init 32 = .ok (.putfield 50, 3) := dk_181 0 50 (dk_at dksX0_init_1 9 rfl rfl)
theorem dX0_init_35 : decode cX0_init 35 = .ok (.aload_n 0, 1) := dk_42 (dk_at dksX0_init_1 12 rfl rfl)
theorem dX0_init_36 : decode cX0_init 36 = .ok (.sipush 250, 3) := dk_17 0 250 (dk_at dksX0_init_1 13 rfl rfl)
theorem dX0_init_39 : decode cX0_init 39 = .ok (.newarray .int, 2) := dk_188_10 (dk_at dksX0_init_1 16 rfl rfl)
theorem dX0_init_41 : decode cX0_init 41 = .ok (.putfield 54, 3) := dk_181 0 54 (dk_at dksX0_init_1 18 rfl rfl)
theorem dX0_init_44 : decode cX0_init 44 = .ok (.aload_n 0, 1) := dk_42 (dk_at dksX0_init_1 21 rfl rfl)
theorem dX0_init_45 : decode cX0_init 45 = .ok (.bipush 7, 2) := dk_16 7 (dk_at dksX0_init_1 22 rfl rfl)
theorem dX0_init_47 : decode cX0_init 47 = .ok (.newarray .int, 2) := dk_188_10 (dk_at dksX0_init_2 0 rfl rfl)
theorem dX0_init_49 : decode cX0_init 49 = .ok (.putfield 58, 3) := dk_181 0 58 (dk_at dksX0_init_2 2 rfl rfl)
theorem dX0_init_52 : decode cX0_init 52 = .ok (.iconst 0, 1) := dk_3 (dk_at dksX0_init_2 5 rfl rfl)
theorem dX0_init_53 : decode cX0_init 53 = .ok (.istore_n 1, 1) := dk_60 (dk_at dksX0_init_2 6 rfl rfl)
theorem dX0_init_54 : decode cX0_init 54 = .ok (.iload_n 1, 1) := dk_27 (dk_at dksX0_init_2 7 rfl rfl)
theorem dX0_init_55 : decode cX0_init 55 = .ok (.bipush 8, 2) := dk_16 8 (dk_at dksX0_init_2 8 rfl rfl)
theorem dX0_init_57 : decode cX0_init 57 = .ok (.if_icmp .ge 22, 3) := dk_162 0 22 (dk_at dksX0_init_2 10 rfl rfl)
theorem dX0_init_60 : decode cX0_init 60 = .ok (.aload_n 0, 1) := dk_42 (dk_at dksX0_init_2 13 rfl rfl)
theorem dX0_init_61 : decode cX0_init 61 = .ok (.getfield 50, 3) := dk_180 0 50 (dk_at dksX0_init_2 14 rfl rfl)
theorem dX0_init_64 : decode cX0_init 64 = .ok (.iload_n 1, 1) := dk_27 (dk_at dksX0_init_2 17 rfl rfl)
theorem dX0_init_65 : decode cX0_init 65 = .ok (.new 48, 3) := dk_187 0 48 (dk_at dksX0_init_2 18 rfl rfl)
theorem dX0_init_68 : decode cX0_init 68 = .ok (.dup, 1) := dk_89 (dk_at dksX0_init_2 21 rfl rfl)
theorem dX0_init_69 : decode cX0_init 69 = .ok (.invokespecial 61, 3) := dk_183 0 61 (dk_at dksX0_init_3 0 rfl rfl)
theorem dX0_init_72 : decode cX0_init 72 = .ok (.aastore, 1) := dk_83 (dk_at dksX0_init_3 3 rfl rfl)
theorem dX0_init_73 : decode cX0_init 73 = .ok (.iinc 1 1, 3) := dk_132 1 1 (dk_at dksX0_init_3 4 rfl rfl)
theorem dX0_init_76 : decode cX0_init 76 = .ok (.goto (-22), 3) := dk_167 255 234 (dk_at dksX0_init_3 7 rfl rfl)
theorem dX0_init_79 : decode cX0_init 79 = .ok (.return_, 1) := dk_177 (dk_at dksX0_init_3 10 rfl rfl)
abbrev cX0_row : ByteArray := prog_1_method_16_code
def yX0_row : MethodName := ⟨RX0, "row", "(III)I"⟩
def dkwX0_row_2 : List UInt8 := [58, 4, 42, 16, 254, 182, 0, 63, 172, 4, 172]
abbrev dktX0_row_2 : List UInt8 := dkwX0_row_2 ++ []
def dkwX0_row_1 : List UInt8 := [16, 254, 182, 0, 63, 172, 42, 180, 0, 50, 27, 50, 28, 29, 184, 0, 96, 181, 0, 100, 167, 0, 12]
abbrev dktX0_row_1 : List UInt8 := dkwX0_row_1 ++ dktX0_row_2
def dkwX0_row_0 : List UInt8 := [27, 184, 0, 92, 153, 0, 18, 28, 155, 0, 14, 28, 7, 163, 0, 9, 29, 16, 40, 164, 0, 10, 42]
abbrev dktX0_row_0 : List UInt8 := dkwX0_row_0 ++ dktX0_row_1
theorem dksX0_row_0 : cX0_row.data.toList.drop 0 = dktX0_row_0 := by decide +kernel
theorem dksX0_row_1 : cX0_row.data.toList.drop 23 = dktX0_row_1 := dk_seg dksX0_row_0 23 rfl rfl
theorem dksX0_row_2 : cX0_row.data.toList.drop 46 = dktX0_row_2 := dk_seg dksX0_row_1 23 rfl rfl
theorem dX0_row_0 : decode cX0_row 0 = .ok (.iload_n 1, 1) := dk_27 (dk_at dksX0_row_0 0 rfl rfl)
theorem dX0_row_1 : decode cX0_row 1 = .ok (.invokestatic 92, 3) := dk_184 0 92 (dk_at dksX0_row_0 1 rfl rfl)
theorem dX0_row_4 : decode cX0_row 4 = .ok (.ifCond .eq 18, 3) := dk_153 0 18 (dk_at dksX0_row_0 4 rfl rfl)
theorem dX0_row_7 : decode cX0_row 7 = .ok (.iload_n 2, 1) := dk_28 (dk_at dksX0_row_0 7 rfl rfl)
theorem dX0_row_8 : decode cX0_row 8 = .ok (.ifCond .lt 14, 3) := dk_155 0 14 (dk_at dksX0_row_0 8 rfl rfl)
theorem dX0_row_11 : decode cX0_row 11 = .ok (.iload_n 2, 1) := dk_28 (dk_at dksX0_row_0 11 rfl rfl)
theorem dX0_row_12 : decode cX0_row 12 = .ok (.iconst 4, 1) := dk_7 (dk_at dksX0_row_0 12 rfl rfl)
theorem dX0_row_13 : decode cX0_row 13 = .ok (.if_icmp .gt 9, 3) := dk_163 0 9 (dk_at dksX0_row_0 13 rfl rfl)
theorem dX0_row_16 : decode cX0_row 16 = .ok (.iload_n 3, 1) := dk_29 (dk_at dksX0_row_0 16 rfl rfl)
theorem dX0_row_17 : decode cX0_row 17 = .ok (.bipush 40, 2) := dk_16 40 (dk_at dksX0_row_0 17 rfl rfl)
theorem dX0_row_19 : decode cX0_row 19 = .ok (.if_icmp .le 10, 3) := dk_164 0 10 (dk_at dksX0_row_0 19 rfl rfl)
theorem dX0_row_22 : decode cX0_row 22 = .ok (.aload_n 0, 1) := dk_42 (dk_at dksX0_row_0 22 rfl rfl)
theorem dX0_row_23 : decode cX0_row 23 = .ok (.bipush (-2), 2) := dk_16 254 (dk_at dksX0_row_1 0 rfl rfl)
theorem dX0_row_25 : decode cX0_row 25 = .ok (.invokevirtual 63, 3) := dk_182 0 63 (dk_at dksX0_row_1 2 rfl rfl)
theorem dX0_row_28 : decode cX0_row 28 = .ok (.ireturn, 1) := dk_172 (dk_at dksX0_row_1 5 rfl rfl)
theorem dX0_row_29 : decode cX0_row 29 = .ok (.aload_n 0, 1) := dk_42 (dk_at dksX0_row_1 6 rfl rfl)
theorem dX0_row_30 : decode cX0_row 30 = .ok (.getfield 50, 3) := dk_180 0 50 (dk_at dksX0_row_1 7 rfl rfl)
theorem dX0_row_33 : decode cX0_row 33 = .ok (.iload_n 1, 1) := dk_27 (dk_at dksX0_row_1 10 rfl rfl)
theorem dX0_row_34 : decode cX0_row 34 = .ok (.aaload, 1) := dk_50 (dk_at dksX0_row_1 11 rfl rfl)
theorem dX0_row_35 : decode cX0_row 35 = .ok (.iload_n 2, 1) := dk_28 (dk_at dksX0_row_1 12 rfl rfl)
theorem dX0_row_36 : decode cX0_row 36 = .ok (.iload_n 3, 1) := dk_29 (dk_at dksX0_row_1 13 rfl rfl)
theorem dX0_row_37 : decode cX0_row 37 = .ok (.invokestatic 96, 3) := dk_184 0 96 (dk_at dksX0_row_1 14 rfl rfl)
theorem dX0_row_40 : decode cX0_row 40 = .ok (.putfield 100, 3) := dk_181 0 100 (dk_at dksX0_row_1 17 rfl rfl)
theorem dX0_row_43 : decode cX0_row 43 = .ok (.goto 12, 3) := dk_167 0 12 (dk_at dksX0_row_1 20 rfl rfl)
theorem dX0_row_46 : decode cX0_row 46 = .ok (.astore 4, 2) := dk_58 4 (dk_at dksX0_row_2 0 rfl rfl)
theorem dX0_row_48 : decode cX0_row 48 = .ok (.aload_n 0, 1) := dk_42 (dk_at dksX0_row_2 2 rfl rfl)
theorem dX0_row_49 : decode cX0_row 49 = .ok (.bipush (-2), 2) := dk_16 254 (dk_at dksX0_row_2 3 rfl rfl)
theorem dX0_row_51 : decode cX0_row 51 = .ok (.invokevirtual 63, 3) := dk_182 0 63 (dk_at dksX0_row_2 5 rfl rfl)
theorem dX0_row_54 : decode cX0_row 54 = .ok (.ireturn, 1) := dk_172 (dk_at dksX0_row_2 8 rfl rfl)
theorem dX0_row_55 : decode cX0_row 55 = .ok (.iconst 1, 1) := dk_4 (dk_at dksX0_row_2 9 rfl rfl)
theorem dX0_row_56 : decode cX0_row 56 = .ok (.ireturn, 1) := dk_172 (dk_at dksX0_row_2 10 rfl rfl)
abbrev cX0_isShelf : ByteArray := prog_1_method_8_code
def yX0_isShelf : MethodName := ⟨RX0, "isShelf", "(I)Z"⟩
def dkwX0_isShelf_0 : List UInt8 := [26, 3, 16, 7, 184, 0, 67, 172]
abbrev dktX0_isShelf_0 : List UInt8 := dkwX0_isShelf_0 ++ []
theorem dksX0_isShelf_0 : cX0_isShelf.data.toList.drop 0 = dktX0_isShelf_0 := by decide +kernel
theorem dX0_isShelf_0 : decode cX0_isShelf 0 = .ok (.iload_n 0, 1) := dk_26 (dk_at dksX0_isShelf_0 0 rfl rfl)
theorem dX0_isShelf_1 : decode cX0_isShelf 1 = .ok (.iconst 0, 1) := dk_3 (dk_at dksX0_isShelf_0 1 rfl rfl)
theorem dX0_isShelf_2 : decode cX0_isShelf 2 = .ok (.bipush 7, 2) := dk_16 7 (dk_at dksX0_isShelf_0 2 rfl rfl)
theorem dX0_isShelf_4 : decode cX0_isShelf 4 = .ok (.invokestatic 67, 3) := dk_184 0 67 (dk_at dksX0_isShelf_0 4 rfl rfl)
theorem dX0_isShelf_7 : decode cX0_isShelf 7 = .ok (.ireturn, 1) := dk_172 (dk_at dksX0_isShelf_0 7 rfl rfl)
abbrev cX0_isIn : ByteArray := prog_1_method_1_code
def yX0_isIn : MethodName := ⟨RX0, "isIn", "(III)Z"⟩
def dkwX0_isIn_0 : List UInt8 := [26, 27, 161, 0, 12, 26, 28, 163, 0, 7, 4, 167, 0, 4, 3, 172]
abbrev dktX0_isIn_0 : List UInt8 := dkwX0_isIn_0 ++ []
theorem dksX0_isIn_0 : cX0_isIn.data.toList.drop 0 = dktX0_isIn_0 := by decide +kernel
theorem dX0_isIn_0 : decode cX0_isIn 0 = .ok (.iload_n 0, 1) := dk_26 (dk_at dksX0_isIn_0 0 rfl rfl)
theorem dX0_isIn_1 : decode cX0_isIn 1 = .ok (.iload_n 1, 1) := dk_27 (dk_at dksX0_isIn_0 1 rfl rfl)
theorem dX0_isIn_2 : decode cX0_isIn 2 = .ok (.if_icmp .lt 12, 3) := dk_161 0 12 (dk_at dksX0_isIn_0 2 rfl rfl)
theorem dX0_isIn_5 : decode cX0_isIn 5 = .ok (.iload_n 0, 1) := dk_26 (dk_at dksX0_isIn_0 5 rfl rfl)
theorem dX0_isIn_6 : decode cX0_isIn 6 = .ok (.iload_n 2, 1) := dk_28 (dk_at dksX0_isIn_0 6 rfl rfl)
theorem dX0_isIn_7 : decode cX0_isIn 7 = .ok (.if_icmp .gt 7, 3) := dk_163 0 7 (dk_at dksX0_isIn_0 7 rfl rfl)
theorem dX0_isIn_10 : decode cX0_isIn 10 = .ok (.iconst 1, 1) := dk_4 (dk_at dksX0_isIn_0 10 rfl rfl)
theorem dX0_isIn_11 : decode cX0_isIn 11 = .ok (.goto 4, 3) := dk_167 0 4 (dk_at dksX0_isIn_0 11 rfl rfl)
theorem dX0_isIn_14 : decode cX0_isIn 14 = .ok (.iconst 0, 1) := dk_3 (dk_at dksX0_isIn_0 14 rfl rfl)
theorem dX0_isIn_15 : decode cX0_isIn 15 = .ok (.ireturn, 1) := dk_172 (dk_at dksX0_isIn_0 15 rfl rfl)
abbrev cX0_no : ByteArray := prog_1_method_6_code
def yX0_no : MethodName := ⟨RX0, "no", "(I)I"⟩
def dkwX0_no_0 : List UInt8 := [42, 180, 0, 58, 27, 116, 92, 46, 4, 96, 79, 27, 172]
abbrev dktX0_no_0 : List UInt8 := dkwX0_no_0 ++ []
theorem dksX0_no_0 : cX0_no.data.toList.drop 0 = dktX0_no_0 := by decide +kernel
theorem dX0_no_0 : decode cX0_no 0 = .ok (.aload_n 0, 1) := dk_42 (dk_at dksX0_no_0 0 rfl rfl)
theorem dX0_no_1 : decode cX0_no 1 = .ok (.getfield 58, 3) := dk_180 0 58 (dk_at dksX0_no_0 1 rfl rfl)
theorem dX0_no_4 : decode cX0_no 4 = .ok (.iload_n 1, 1) := dk_27 (dk_at dksX0_no_0 4 rfl rfl)
theorem dX0_no_5 : decode cX0_no 5 = .ok (.ineg, 1) := dk_116 (dk_at dksX0_no_0 5 rfl rfl)
theorem dX0_no_6 : decode cX0_no 6 = .ok (.dup2, 1) := dk_92 (dk_at dksX0_no_0 6 rfl rfl)
theorem dX0_no_7 : decode cX0_no 7 = .ok (.iaload, 1) := dk_46 (dk_at dksX0_no_0 7 rfl rfl)
theorem dX0_no_8 : decode cX0_no 8 = .ok (.iconst 1, 1) := dk_4 (dk_at dksX0_no_0 8 rfl rfl)
theorem dX0_no_9 : decode cX0_no 9 = .ok (.iadd, 1) := dk_96 (dk_at dksX0_no_0 9 rfl rfl)
theorem dX0_no_10 : decode cX0_no 10 = .ok (.iastore, 1) := dk_79 (dk_at dksX0_no_0 10 rfl rfl)
theorem dX0_no_11 : decode cX0_no 11 = .ok (.iload_n 1, 1) := dk_27 (dk_at dksX0_no_0 11 rfl rfl)
theorem dX0_no_12 : decode cX0_no 12 = .ok (.ireturn, 1) := dk_172 (dk_at dksX0_no_0 12 rfl rfl)
abbrev cX0_rowOf : ByteArray := prog_1_method_12_code
def yX0_rowOf : MethodName := ⟨RX0, "rowOf", "(II)Ljava/lang/Object;"⟩
def dkwX0_rowOf_2 : List UInt8 := [27, 188, 8, 176, 27, 188, 9, 176, 27, 188, 10, 176, 27, 188, 11, 176, 27, 188, 4, 176]
abbrev dktX0_rowOf_2 : List UInt8 := dkwX0_rowOf_2 ++ []
def dkwX0_rowOf_1 : List UInt8 := [170, 0, 0, 0, 0, 0, 47, 0, 0, 0, 0, 0, 0, 0, 3, 0, 0, 0, 31, 0, 0, 0, 35, 0, 0, 0, 39, 0, 0, 0, 43]
abbrev dktX0_rowOf_1 : List UInt8 := dkwX0_rowOf_1 ++ dktX0_rowOf_2
def dkwX0_rowOf_0 : List UInt8 := [26]
abbrev dktX0_rowOf_0 : List UInt8 := dkwX0_rowOf_0 ++ dktX0_rowOf_1
theorem dksX0_rowOf_0 : cX0_rowOf.data.toList.drop 0 = dktX0_rowOf_0 := by decide +kernel
theorem dksX0_rowOf_1 : cX0_rowOf.data.toList.drop 1 = dktX0_rowOf_1 := dk_seg dksX0_rowOf_0 1 rfl rfl
theorem dksX0_rowOf_2 : cX0_rowOf.data.toList.drop 32 = dktX0_rowOf_2 := dk_seg dksX0_rowOf_1 31 rfl rfl
theorem dX0_rowOf_0 : decode cX0_rowOf 0 = .ok (.iload_n 0, 1) := dk_26 (dk_at dksX0_rowOf_0 0 rfl rfl)
theorem dX0_rowOf_1 : decode cX0_rowOf 1 = .ok (.tableswitch 47 0 3 #[31, 35, 39, 43], 31) := by decide +kernel
theorem dX0_rowOf_32 : decode cX0_rowOf 32 = .ok (.iload_n 1, 1) := dk_27 (dk_at dksX0_rowOf_2 0 rfl rfl)
theorem dX0_rowOf_33 : decode cX0_rowOf 33 = .ok (.newarray .byte, 2) := dk_188_8 (dk_at dksX0_rowOf_2 1 rfl rfl)
theorem dX0_rowOf_35 : decode cX0_rowOf 35 = .ok (.areturn, 1) := dk_176 (dk_at dksX0_rowOf_2 3 rfl rfl)
theorem dX0_rowOf_36 : decode cX0_rowOf 36 = .ok (.iload_n 1, 1) := dk_27 (dk_at dksX0_rowOf_2 4 rfl rfl)
theorem dX0_rowOf_37 : decode cX0_rowOf 37 = .ok (.newarray .short, 2) := dk_188_9 (dk_at dksX0_rowOf_2 5 rfl rfl)
theorem dX0_rowOf_39 : decode cX0_rowOf 39 = .ok (.areturn, 1) := dk_176 (dk_at dksX0_rowOf_2 7 rfl rfl)
theorem dX0_rowOf_40 : decode cX0_rowOf 40 = .ok (.iload_n 1, 1) := dk_27 (dk_at dksX0_rowOf_2 8 rfl rfl)
theorem dX0_rowOf_41 : decode cX0_rowOf 41 = .ok (.newarray .int, 2) := dk_188_10 (dk_at dksX0_rowOf_2 9 rfl rfl)
theorem dX0_rowOf_43 : decode cX0_rowOf 43 = .ok (.areturn, 1) := dk_176 (dk_at dksX0_rowOf_2 11 rfl rfl)
theorem dX0_rowOf_44 : decode cX0_rowOf 44 = .ok (.iload_n 1, 1) := dk_27 (dk_at dksX0_rowOf_2 12 rfl rfl)
theorem dX0_rowOf_45 : decode cX0_rowOf 45 = .ok (.newarray .long, 2) := dk_188_11 (dk_at dksX0_rowOf_2 13 rfl rfl)
theorem dX0_rowOf_47 : decode cX0_rowOf 47 = .ok (.areturn, 1) := dk_176 (dk_at dksX0_rowOf_2 15 rfl rfl)
theorem dX0_rowOf_48 : decode cX0_rowOf 48 = .ok (.iload_n 1, 1) := dk_27 (dk_at dksX0_rowOf_2 16 rfl rfl)
theorem dX0_rowOf_49 : decode cX0_rowOf 49 = .ok (.newarray .boolean, 2) := dk_188_4 (dk_at dksX0_rowOf_2 17 rfl rfl)
theorem dX0_rowOf_51 : decode cX0_rowOf 51 = .ok (.areturn, 1) := dk_176 (dk_at dksX0_rowOf_2 19 rfl rfl)
abbrev cX0_set : ByteArray := prog_1_method_18_code
def yX0_set : MethodName := ⟨RX0, "set", "(IIJ)I"⟩
def dkwX0_set_1 : List UInt8 := [4, 172, 58, 5, 42, 25, 5, 180, 0, 119, 182, 0, 63, 172, 58, 5, 42, 16, 254, 182, 0, 63, 172]
abbrev dktX0_set_1 : List UInt8 := dkwX0_set_1 ++ []
def dkwX0_set_0 : List UInt8 := [27, 184, 0, 92, 154, 0, 10, 42, 16, 254, 182, 0, 63, 172, 42, 27, 182, 0, 111, 28, 33, 184, 0, 115]
abbrev dktX0_set_0 : List UInt8 := dkwX0_set_0 ++ dktX0_set_1
theorem dksX0_set_0 : cX0_set.data.toList.drop 0 = dktX0_set_0 := by decide +kernel
theorem dksX0_set_1 : cX0_set.data.toList.drop 24 = dktX0_set_1 := dk_seg dksX0_set_0 24 rfl rfl
theorem dX0_set_0 : decode cX0_set 0 = .ok (.iload_n 1, 1) := dk_27 (dk_at dksX0_set_0 0 rfl rfl)
theorem dX0_set_1 : decode cX0_set 1 = .ok (.invokestatic 92, 3) := dk_184 0 92 (dk_at dksX0_set_0 1 rfl rfl)
theorem dX0_set_4 : decode cX0_set 4 = .ok (.ifCond .ne 10, 3) := dk_154 0 10 (dk_at dksX0_set_0 4 rfl rfl)
theorem dX0_set_7 : decode cX0_set 7 = .ok (.aload_n 0, 1) := dk_42 (dk_at dksX0_set_0 7 rfl rfl)
theorem dX0_set_8 : decode cX0_set 8 = .ok (.bipush (-2), 2) := dk_16 254 (dk_at dksX0_set_0 8 rfl rfl)
theorem dX0_set_10 : decode cX0_set 10 = .ok (.invokevirtual 63, 3) := dk_182 0 63 (dk_at dksX0_set_0 10 rfl rfl)
theorem dX0_set_13 : decode cX0_set 13 = .ok (.ireturn, 1) := dk_172 (dk_at dksX0_set_0 13 rfl rfl)
theorem dX0_set_14 : decode cX0_set 14 = .ok (.aload_n 0, 1) := dk_42 (dk_at dksX0_set_0 14 rfl rfl)
theorem dX0_set_15 : decode cX0_set 15 = .ok (.iload_n 1, 1) := dk_27 (dk_at dksX0_set_0 15 rfl rfl)
theorem dX0_set_16 : decode cX0_set 16 = .ok (.invokevirtual 111, 3) := dk_182 0 111 (dk_at dksX0_set_0 16 rfl rfl)
theorem dX0_set_19 : decode cX0_set 19 = .ok (.iload_n 2, 1) := dk_28 (dk_at dksX0_set_0 19 rfl rfl)
theorem dX0_set_20 : decode cX0_set 20 = .ok (.lload_n 3, 1) := dk_33 (dk_at dksX0_set_0 20 rfl rfl)
theorem dX0_set_21 : decode cX0_set 21 = .ok (.invokestatic 115, 3) := dk_184 0 115 (dk_at dksX0_set_0 21 rfl rfl)
theorem dX0_set_24 : decode cX0_set 24 = .ok (.iconst 1, 1) := dk_4 (dk_at dksX0_set_1 0 rfl rfl)
theorem dX0_set_25 : decode cX0_set 25 = .ok (.ireturn, 1) := dk_172 (dk_at dksX0_set_1 1 rfl rfl)
theorem dX0_set_26 : decode cX0_set 26 = .ok (.astore 5, 2) := dk_58 5 (dk_at dksX0_set_1 2 rfl rfl)
theorem dX0_set_28 : decode cX0_set 28 = .ok (.aload_n 0, 1) := dk_42 (dk_at dksX0_set_1 4 rfl rfl)
theorem dX0_set_29 : decode cX0_set 29 = .ok (.aload 5, 2) := dk_25 5 (dk_at dksX0_set_1 5 rfl rfl)
theorem dX0_set_31 : decode cX0_set 31 = .ok (.getfield 119, 3) := dk_180 0 119 (dk_at dksX0_set_1 7 rfl rfl)
theorem dX0_set_34 : decode cX0_set 34 = .ok (.invokevirtual 63, 3) := dk_182 0 63 (dk_at dksX0_set_1 10 rfl rfl)
theorem dX0_set_37 : decode cX0_set 37 = .ok (.ireturn, 1) := dk_172 (dk_at dksX0_set_1 13 rfl rfl)
theorem dX0_set_38 : decode cX0_set 38 = .ok (.astore 5, 2) := dk_58 5 (dk_at dksX0_set_1 14 rfl rfl)
theorem dX0_set_40 : decode cX0_set 40 = .ok (.aload_n 0, 1) := dk_42 (dk_at dksX0_set_1 16 rfl rfl)
theorem dX0_set_41 : decode cX0_set 41 = .ok (.bipush (-2), 2) := dk_16 254 (dk_at dksX0_set_1 17 rfl rfl)
theorem dX0_set_43 : decode cX0_set 43 = .ok (.invokevirtual 63, 3) := dk_182 0 63 (dk_at dksX0_set_1 19 rfl rfl)
theorem dX0_set_46 : decode cX0_set 46 = .ok (.ireturn, 1) := dk_172 (dk_at dksX0_set_1 22 rfl rfl)
abbrev cX0_rowIn : ByteArray := prog_1_method_17_code
def yX0_rowIn : MethodName := ⟨RX0, "rowIn", "(I)Ljava/lang/Object;"⟩
def dkwX0_rowIn_1 : List UInt8 := [183, 0, 108, 191, 44, 199, 0, 13, 187, 0, 106, 89, 16, 252, 183, 0, 108, 191, 44, 176]
abbrev dktX0_rowIn_1 : List UInt8 := dkwX0_rowIn_1 ++ []
def dkwX0_rowIn_0 : List UInt8 := [42, 180, 0, 50, 27, 50, 180, 0, 100, 77, 44, 193, 0, 10, 153, 0, 13, 187, 0, 106, 89, 16, 253]
abbrev dktX0_rowIn_0 : List UInt8 := dkwX0_rowIn_0 ++ dktX0_rowIn_1
theorem dksX0_rowIn_0 : cX0_rowIn.data.toList.drop 0 = dktX0_rowIn_0 := by decide +kernel
theorem dksX0_rowIn_1 : cX0_rowIn.data.toList.drop 23 = dktX0_rowIn_1 := dk_seg dksX0_rowIn_0 23 rfl rfl
theorem dX0_rowIn_0 : decode cX0_rowIn 0 = .ok (.aload_n 0, 1) := dk_42 (dk_at dksX0_rowIn_0 0 rfl rfl)
theorem dX0_rowIn_1 : decode cX0_rowIn 1 = .ok (.getfield 50, 3) := dk_180 0 50 (dk_at dksX0_rowIn_0 1 rfl rfl)
theorem dX0_rowIn_4 : decode cX0_rowIn 4 = .ok (.iload_n 1, 1) := dk_27 (dk_at dksX0_rowIn_0 4 rfl rfl)
theorem dX0_rowIn_5 : decode cX0_rowIn 5 = .ok (.aaload, 1) := dk_50 (dk_at dksX0_rowIn_0 5 rfl rfl)
theorem dX0_rowIn_6 : decode cX0_rowIn 6 = .ok (.getfield 100, 3) := dk_180 0 100 (dk_at dksX0_rowIn_0 6 rfl rfl)
theorem dX0_rowIn_9 : decode cX0_rowIn 9 = .ok (.astore_n 2, 1) := dk_77 (dk_at dksX0_rowIn_0 9 rfl rfl)
theorem dX0_rowIn_10 : decode cX0_rowIn 10 = .ok (.aload_n 2, 1) := dk_44 (dk_at dksX0_rowIn_0 10 rfl rfl)
theorem dX0_rowIn_11 : decode cX0_rowIn 11 = .ok (.instanceof 10, 3) := dk_193 0 10 (dk_at dksX0_rowIn_0 11 rfl rfl)
theorem dX0_rowIn_14 : decode cX0_rowIn 14 = .ok (.ifCond .eq 13, 3) := dk_153 0 13 (dk_at dksX0_rowIn_0 14 rfl rfl)
theorem dX0_rowIn_17 : decode cX0_rowIn 17 = .ok (.new 106, 3) := dk_187 0 106 (dk_at dksX0_rowIn_0 17 rfl rfl)
theorem dX0_rowIn_20 : decode cX0_rowIn 20 = .ok (.dup, 1) := dk_89 (dk_at dksX0_rowIn_0 20 rfl rfl)
theorem dX0_rowIn_21 : decode cX0_rowIn 21 = .ok (.bipush (-3), 2) := dk_16 253 (dk_at dksX0_rowIn_0 21 rfl rfl)
theorem dX0_rowIn_23 : decode cX0_rowIn 23 = .ok (.invokespecial 108, 3) := dk_183 0 108 (dk_at dksX0_rowIn_1 0 rfl rfl)
theorem dX0_rowIn_26 : decode cX0_rowIn 26 = .ok (.athrow, 1) := dk_191 (dk_at dksX0_rowIn_1 3 rfl rfl)
theorem dX0_rowIn_27 : decode cX0_rowIn 27 = .ok (.aload_n 2, 1) := dk_44 (dk_at dksX0_rowIn_1 4 rfl rfl)
theorem dX0_rowIn_28 : decode cX0_rowIn 28 = .ok (.ifnonnull 13, 3) := dk_199 0 13 (dk_at dksX0_rowIn_1 5 rfl rfl)
theorem dX0_rowIn_31 : decode cX0_rowIn 31 = .ok (.new 106, 3) := dk_187 0 106 (dk_at dksX0_rowIn_1 8 rfl rfl)
theorem dX0_rowIn_34 : decode cX0_rowIn 34 = .ok (.dup, 1) := dk_89 (dk_at dksX0_rowIn_1 11 rfl rfl)
theorem dX0_rowIn_35 : decode cX0_rowIn 35 = .ok (.bipush (-4), 2) := dk_16 252 (dk_at dksX0_rowIn_1 12 rfl rfl)
theorem dX0_rowIn_37 : decode cX0_rowIn 37 = .ok (.invokespecial 108, 3) := dk_183 0 108 (dk_at dksX0_rowIn_1 14 rfl rfl)
theorem dX0_rowIn_40 : decode cX0_rowIn 40 = .ok (.athrow, 1) := dk_191 (dk_at dksX0_rowIn_1 17 rfl rfl)
theorem dX0_rowIn_41 : decode cX0_rowIn 41 = .ok (.aload_n 2, 1) := dk_44 (dk_at dksX0_rowIn_1 18 rfl rfl)
theorem dX0_rowIn_42 : decode cX0_rowIn 42 = .ok (.areturn, 1) := dk_176 (dk_at dksX0_rowIn_1 19 rfl rfl)
abbrev cX0_puts : ByteArray := prog_1_method_15_code
def yX0_puts : MethodName := ⟨RX0, "puts", "(Ljava/lang/Object;IJ)V"⟩
def dkwX0_puts_4 : List UInt8 := [192, 0, 90, 27, 32, 9, 148, 153, 0, 7, 4, 167, 0, 4, 3, 84, 177]
abbrev dktX0_puts_4 : List UInt8 := dkwX0_puts_4 ++ []
def dkwX0_puts_3 : List UInt8 := [42, 192, 0, 83, 27, 32, 136, 79, 167, 0, 30, 42, 192, 0, 84, 27, 32, 80, 167, 0, 20, 42]
abbrev dktX0_puts_3 : List UInt8 := dkwX0_puts_3 ++ dktX0_puts_4
def dkwX0_puts_2 : List UInt8 := [42, 192, 0, 79, 27, 32, 136, 145, 84, 167, 0, 53, 42, 192, 0, 81, 27, 32, 136, 147, 86, 167, 0, 41]
abbrev dktX0_puts_2 : List UInt8 := dkwX0_puts_2 ++ dktX0_puts_3
def dkwX0_puts_1 : List UInt8 := [170, 0, 0, 0, 0, 0, 0, 77, 0, 0, 0, 0, 0, 0, 0, 3, 0, 0, 0, 32, 0, 0, 0, 44, 0, 0, 0, 56, 0, 0, 0, 67]
abbrev dktX0_puts_1 : List UInt8 := dkwX0_puts_1 ++ dktX0_puts_2
def dkwX0_puts_0 : List UInt8 := [42, 184, 0, 86]
abbrev dktX0_puts_0 : List UInt8 := dkwX0_puts_0 ++ dktX0_puts_1
theorem dksX0_puts_0 : cX0_puts.data.toList.drop 0 = dktX0_puts_0 := by decide +kernel
theorem dksX0_puts_1 : cX0_puts.data.toList.drop 4 = dktX0_puts_1 := dk_seg dksX0_puts_0 4 rfl rfl
theorem dksX0_puts_2 : cX0_puts.data.toList.drop 36 = dktX0_puts_2 := dk_seg dksX0_puts_1 32 rfl rfl
theorem dksX0_puts_3 : cX0_puts.data.toList.drop 60 = dktX0_puts_3 := dk_seg dksX0_puts_2 24 rfl rfl
theorem dksX0_puts_4 : cX0_puts.data.toList.drop 82 = dktX0_puts_4 := dk_seg dksX0_puts_3 22 rfl rfl
theorem dX0_puts_0 : decode cX0_puts 0 = .ok (.aload_n 0, 1) := dk_42 (dk_at dksX0_puts_0 0 rfl rfl)
theorem dX0_puts_1 : decode cX0_puts 1 = .ok (.invokestatic 86, 3) := dk_184 0 86 (dk_at dksX0_puts_0 1 rfl rfl)
theorem dX0_puts_4 : decode cX0_puts 4 = .ok (.tableswitch 77 0 3 #[32, 44, 56, 67], 32) := by decide +kernel
theorem dX0_puts_36 : decode cX0_puts 36 = .ok (.aload_n 0, 1) := dk_42 (dk_at dksX0_puts_2 0 rfl rfl)
theorem dX0_puts_37 : decode cX0_puts 37 = .ok (.checkcast 79, 3) := dk_192 0 79 (dk_at dksX0_puts_2 1 rfl rfl)
theorem dX0_puts_40 : decode cX0_puts 40 = .ok (.iload_n 1, 1) := dk_27 (dk_at dksX0_puts_2 4 rfl rfl)
theorem dX0_puts_41 : decode cX0_puts 41 = .ok (.lload_n 2, 1) := dk_32 (dk_at dksX0_puts_2 5 rfl rfl)
theorem dX0_puts_42 : decode cX0_puts 42 = .ok (.l2i, 1) := dk_136 (dk_at dksX0_puts_2 6 rfl rfl)
theorem dX0_puts_43 : decode cX0_puts 43 = .ok (.i2b, 1) := dk_145 (dk_at dksX0_puts_2 7 rfl rfl)
theorem dX0_puts_44 : decode cX0_puts 44 = .ok (.bastore, 1) := dk_84 (dk_at dksX0_puts_2 8 rfl rfl)
theorem dX0_puts_45 : decode cX0_puts 45 = .ok (.goto 53, 3) := dk_167 0 53 (dk_at dksX0_puts_2 9 rfl rfl)
theorem dX0_puts_48 : decode cX0_puts 48 = .ok (.aload_n 0, 1) := dk_42 (dk_at dksX0_puts_2 12 rfl rfl)
theorem dX0_puts_49 : decode cX0_puts 49 = .ok (.checkcast 81, 3) := dk_192 0 81 (dk_at dksX0_puts_2 13 rfl rfl)
theorem dX0_puts_52 : decode cX0_puts 52 = .ok (.iload_n 1, 1) := dk_27 (dk_at dksX0_puts_2 16 rfl rfl)
theorem dX0_puts_53 : decode cX0_puts 53 = .ok (.lload_n 2, 1) := dk_32 (dk_at dksX0_puts_2 17 rfl rfl)
theorem dX0_puts_54 : decode cX0_puts 54 = .ok (.l2i, 1) := dk_136 (dk_at dksX0_puts_2 18 rfl rfl)
theorem dX0_puts_55 : decode cX0_puts 55 = .ok (.i2s, 1) := dk_147 (dk_at dksX0_puts_2 19 rfl rfl)
theorem dX0_puts_56 : decode cX0_puts 56 = .ok (.sastore, 1) := dk_86 (dk_at dksX0_puts_2 20 rfl rfl)
theorem dX0_puts_57 : decode cX0_puts 57 = .ok (.goto 41, 3) := dk_167 0 41 (dk_at dksX0_puts_2 21 rfl rfl)
theorem dX0_puts_60 : decode cX0_puts 60 = .ok (.aload_n 0, 1) := dk_42 (dk_at dksX0_puts_3 0 rfl rfl)
theorem dX0_puts_61 : decode cX0_puts 61 = .ok (.checkcast 83, 3) := dk_192 0 83 (dk_at dksX0_puts_3 1 rfl rfl)
theorem dX0_puts_64 : decode cX0_puts 64 = .ok (.iload_n 1, 1) := dk_27 (dk_at dksX0_puts_3 4 rfl rfl)
theorem dX0_puts_65 : decode cX0_puts 65 = .ok (.lload_n 2, 1) := dk_32 (dk_at dksX0_puts_3 5 rfl rfl)
theorem dX0_puts_66 : decode cX0_puts 66 = .ok (.l2i, 1) := dk_136 (dk_at dksX0_puts_3 6 rfl rfl)
theorem dX0_puts_67 : decode cX0_puts 67 = .ok (.iastore, 1) := dk_79 (dk_at dksX0_puts_3 7 rfl rfl)
theorem dX0_puts_68 : decode cX0_puts 68 = .ok (.goto 30, 3) := dk_167 0 30 (dk_at dksX0_puts_3 8 rfl rfl)
theorem dX0_puts_71 : decode cX0_puts 71 = .ok (.aload_n 0, 1) := dk_42 (dk_at dksX0_puts_3 11 rfl rfl)
theorem dX0_puts_72 : decode cX0_puts 72 = .ok (.checkcast 84, 3) := dk_192 0 84 (dk_at dksX0_puts_3 12 rfl rfl)
theorem dX0_puts_75 : decode cX0_puts 75 = .ok (.iload_n 1, 1) := dk_27 (dk_at dksX0_puts_3 15 rfl rfl)
theorem dX0_puts_76 : decode cX0_puts 76 = .ok (.lload_n 2, 1) := dk_32 (dk_at dksX0_puts_3 16 rfl rfl)
theorem dX0_puts_77 : decode cX0_puts 77 = .ok (.lastore, 1) := dk_80 (dk_at dksX0_puts_3 17 rfl rfl)
theorem dX0_puts_78 : decode cX0_puts 78 = .ok (.goto 20, 3) := dk_167 0 20 (dk_at dksX0_puts_3 18 rfl rfl)
theorem dX0_puts_81 : decode cX0_puts 81 = .ok (.aload_n 0, 1) := dk_42 (dk_at dksX0_puts_3 21 rfl rfl)
theorem dX0_puts_82 : decode cX0_puts 82 = .ok (.checkcast 90, 3) := dk_192 0 90 (dk_at dksX0_puts_4 0 rfl rfl)
theorem dX0_puts_85 : decode cX0_puts 85 = .ok (.iload_n 1, 1) := dk_27 (dk_at dksX0_puts_4 3 rfl rfl)
theorem dX0_puts_86 : decode cX0_puts 86 = .ok (.lload_n 2, 1) := dk_32 (dk_at dksX0_puts_4 4 rfl rfl)
theorem dX0_puts_87 : decode cX0_puts 87 = .ok (.lconst 0, 1) := dk_9 (dk_at dksX0_puts_4 5 rfl rfl)
theorem dX0_puts_88 : decode cX0_puts 88 = .ok (.lcmp, 1) := dk_148 (dk_at dksX0_puts_4 6 rfl rfl)
theorem dX0_puts_89 : decode cX0_puts 89 = .ok (.ifCond .eq 7, 3) := dk_153 0 7 (dk_at dksX0_puts_4 7 rfl rfl)
theorem dX0_puts_92 : decode cX0_puts 92 = .ok (.iconst 1, 1) := dk_4 (dk_at dksX0_puts_4 10 rfl rfl)
theorem dX0_puts_93 : decode cX0_puts 93 = .ok (.goto 4, 3) := dk_167 0 4 (dk_at dksX0_puts_4 11 rfl rfl)
theorem dX0_puts_96 : decode cX0_puts 96 = .ok (.iconst 0, 1) := dk_3 (dk_at dksX0_puts_4 14 rfl rfl)
theorem dX0_puts_97 : decode cX0_puts 97 = .ok (.bastore, 1) := dk_84 (dk_at dksX0_puts_4 15 rfl rfl)
theorem dX0_puts_98 : decode cX0_puts 98 = .ok (.return_, 1) := dk_177 (dk_at dksX0_puts_4 16 rfl rfl)
abbrev cX0_sortOf : ByteArray := prog_1_method_13_code
def yX0_sortOf : MethodName := ⟨RX0, "sortOf", "(Ljava/lang/Object;)I"⟩
def dkwX0_sortOf_1 : List UInt8 := [153, 0, 5, 5, 172, 42, 193, 0, 84, 153, 0, 7, 6, 167, 0, 4, 7, 172]
abbrev dktX0_sortOf_1 : List UInt8 := dkwX0_sortOf_1 ++ []
def dkwX0_sortOf_0 : List UInt8 := [42, 193, 0, 79, 153, 0, 5, 3, 172, 42, 193, 0, 81, 153, 0, 5, 4, 172, 42, 193, 0, 83]
abbrev dktX0_sortOf_0 : List UInt8 := dkwX0_sortOf_0 ++ dktX0_sortOf_1
theorem dksX0_sortOf_0 : cX0_sortOf.data.toList.drop 0 = dktX0_sortOf_0 := by decide +kernel
theorem dksX0_sortOf_1 : cX0_sortOf.data.toList.drop 22 = dktX0_sortOf_1 := dk_seg dksX0_sortOf_0 22 rfl rfl
theorem dX0_sortOf_0 : decode cX0_sortOf 0 = .ok (.aload_n 0, 1) := dk_42 (dk_at dksX0_sortOf_0 0 rfl rfl)
theorem dX0_sortOf_1 : decode cX0_sortOf 1 = .ok (.instanceof 79, 3) := dk_193 0 79 (dk_at dksX0_sortOf_0 1 rfl rfl)
theorem dX0_sortOf_4 : decode cX0_sortOf 4 = .ok (.ifCond .eq 5, 3) := dk_153 0 5 (dk_at dksX0_sortOf_0 4 rfl rfl)
theorem dX0_sortOf_7 : decode cX0_sortOf 7 = .ok (.iconst 0, 1) := dk_3 (dk_at dksX0_sortOf_0 7 rfl rfl)
theorem dX0_sortOf_8 : decode cX0_sortOf 8 = .ok (.ireturn, 1) := dk_172 (dk_at dksX0_sortOf_0 8 rfl rfl)
theorem dX0_sortOf_9 : decode cX0_sortOf 9 = .ok (.aload_n 0, 1) := dk_42 (dk_at dksX0_sortOf_0 9 rfl rfl)
theorem dX0_sortOf_10 : decode cX0_sortOf 10 = .ok (.instanceof 81, 3) := dk_193 0 81 (dk_at dksX0_sortOf_0 10 rfl rfl)
theorem dX0_sortOf_13 : decode cX0_sortOf 13 = .ok (.ifCond .eq 5, 3) := dk_153 0 5 (dk_at dksX0_sortOf_0 13 rfl rfl)
theorem dX0_sortOf_16 : decode cX0_sortOf 16 = .ok (.iconst 1, 1) := dk_4 (dk_at dksX0_sortOf_0 16 rfl rfl)
theorem dX0_sortOf_17 : decode cX0_sortOf 17 = .ok (.ireturn, 1) := dk_172 (dk_at dksX0_sortOf_0 17 rfl rfl)
theorem dX0_sortOf_18 : decode cX0_sortOf 18 = .ok (.aload_n 0, 1) := dk_42 (dk_at dksX0_sortOf_0 18 rfl rfl)
theorem dX0_sortOf_19 : decode cX0_sortOf 19 = .ok (.instanceof 83, 3) := dk_193 0 83 (dk_at dksX0_sortOf_0 19 rfl rfl)
theorem dX0_sortOf_22 : decode cX0_sortOf 22 = .ok (.ifCond .eq 5, 3) := dk_153 0 5 (dk_at dksX0_sortOf_1 0 rfl rfl)
theorem dX0_sortOf_25 : decode cX0_sortOf 25 = .ok (.iconst 2, 1) := dk_5 (dk_at dksX0_sortOf_1 3 rfl rfl)
theorem dX0_sortOf_26 : decode cX0_sortOf 26 = .ok (.ireturn, 1) := dk_172 (dk_at dksX0_sortOf_1 4 rfl rfl)
theorem dX0_sortOf_27 : decode cX0_sortOf 27 = .ok (.aload_n 0, 1) := dk_42 (dk_at dksX0_sortOf_1 5 rfl rfl)
theorem dX0_sortOf_28 : decode cX0_sortOf 28 = .ok (.instanceof 84, 3) := dk_193 0 84 (dk_at dksX0_sortOf_1 6 rfl rfl)
theorem dX0_sortOf_31 : decode cX0_sortOf 31 = .ok (.ifCond .eq 7, 3) := dk_153 0 7 (dk_at dksX0_sortOf_1 9 rfl rfl)
theorem dX0_sortOf_34 : decode cX0_sortOf 34 = .ok (.iconst 3, 1) := dk_6 (dk_at dksX0_sortOf_1 12 rfl rfl)
theorem dX0_sortOf_35 : decode cX0_sortOf 35 = .ok (.goto 4, 3) := dk_167 0 4 (dk_at dksX0_sortOf_1 13 rfl rfl)
theorem dX0_sortOf_38 : decode cX0_sortOf 38 = .ok (.iconst 4, 1) := dk_7 (dk_at dksX0_sortOf_1 16 rfl rfl)
theorem dX0_sortOf_39 : decode cX0_sortOf 39 = .ok (.ireturn, 1) := dk_172 (dk_at dksX0_sortOf_1 17 rfl rfl)
abbrev cX0_copy : ByteArray := prog_1_method_19_code
def yX0_copy : MethodName := ⟨RX0, "copy", "(IIIII)I"⟩
def dkwX0_copy_4 : List UInt8 := [16, 253, 182, 0, 63, 172, 58, 8, 42, 16, 254, 182, 0, 63, 172]
abbrev dktX0_copy_4 : List UInt8 := dkwX0_copy_4 ++ []
def dkwX0_copy_3 : List UInt8 := [25, 7, 21, 4, 21, 5, 184, 0, 124, 21, 5, 172, 58, 8, 42, 16, 252, 182, 0, 63, 172, 58, 8, 42]
abbrev dktX0_copy_3 : List UInt8 := dkwX0_copy_3 ++ dktX0_copy_4
def dkwX0_copy_2 : List UInt8 := [193, 0, 10, 154, 0, 11, 25, 7, 193, 0, 10, 153, 0, 10, 42, 16, 253, 182, 0, 63, 172, 25, 6, 29]
abbrev dktX0_copy_2 : List UInt8 := dkwX0_copy_2 ++ dktX0_copy_3
def dkwX0_copy_1 : List UInt8 := [180, 0, 50, 27, 50, 180, 0, 100, 58, 6, 42, 180, 0, 50, 28, 50, 180, 0, 100, 58, 7, 25, 6]
abbrev dktX0_copy_1 : List UInt8 := dkwX0_copy_1 ++ dktX0_copy_2
def dkwX0_copy_0 : List UInt8 := [27, 184, 0, 92, 153, 0, 10, 28, 184, 0, 92, 154, 0, 10, 42, 16, 254, 182, 0, 63, 172, 42]
abbrev dktX0_copy_0 : List UInt8 := dkwX0_copy_0 ++ dktX0_copy_1
theorem dksX0_copy_0 : cX0_copy.data.toList.drop 0 = dktX0_copy_0 := by decide +kernel
theorem dksX0_copy_1 : cX0_copy.data.toList.drop 22 = dktX0_copy_1 := dk_seg dksX0_copy_0 22 rfl rfl
theorem dksX0_copy_2 : cX0_copy.data.toList.drop 45 = dktX0_copy_2 := dk_seg dksX0_copy_1 23 rfl rfl
theorem dksX0_copy_3 : cX0_copy.data.toList.drop 69 = dktX0_copy_3 := dk_seg dksX0_copy_2 24 rfl rfl
theorem dksX0_copy_4 : cX0_copy.data.toList.drop 93 = dktX0_copy_4 := dk_seg dksX0_copy_3 24 rfl rfl
theorem dX0_copy_0 : decode cX0_copy 0 = .ok (.iload_n 1, 1) := dk_27 (dk_at dksX0_copy_0 0 rfl rfl)
theorem dX0_copy_1 : decode cX0_copy 1 = .ok (.invokestatic 92, 3) := dk_184 0 92 (dk_at dksX0_copy_0 1 rfl rfl)
theorem dX0_copy_4 : decode cX0_copy 4 = .ok (.ifCond .eq 10, 3) := dk_153 0 10 (dk_at dksX0_copy_0 4 rfl rfl)
theorem dX0_copy_7 : decode cX0_copy 7 = .ok (.iload_n 2, 1) := dk_28 (dk_at dksX0_copy_0 7 rfl rfl)
theorem dX0_copy_8 : decode cX0_copy 8 = .ok (.invokestatic 92, 3) := dk_184 0 92 (dk_at dksX0_copy_0 8 rfl rfl)
theorem dX0_copy_11 : decode cX0_copy 11 = .ok (.ifCond .ne 10, 3) := dk_154 0 10 (dk_at dksX0_copy_0 11 rfl rfl)
theorem dX0_copy_14 : decode cX0_copy 14 = .ok (.aload_n 0, 1) := dk_42 (dk_at dksX0_copy_0 14 rfl rfl)
theorem dX0_copy_15 : decode cX0_copy 15 = .ok (.bipush (-2), 2) := dk_16 254 (dk_at dksX0_copy_0 15 rfl rfl)
theorem dX0_copy_17 : decode cX0_copy 17 = .ok (.invokevirtual 63, 3) := dk_182 0 63 (dk_at dksX0_copy_0 17 rfl rfl)
theorem dX0_copy_20 : decode cX0_copy 20 = .ok (.ireturn, 1) := dk_172 (dk_at dksX0_copy_0 20 rfl rfl)
theorem dX0_copy_21 : decode cX0_copy 21 = .ok (.aload_n 0, 1) := dk_42 (dk_at dksX0_copy_0 21 rfl rfl)
theorem dX0_copy_22 : decode cX0_copy 22 = .ok (.getfield 50, 3) := dk_180 0 50 (dk_at dksX0_copy_1 0 rfl rfl)
theorem dX0_copy_25 : decode cX0_copy 25 = .ok (.iload_n 1, 1) := dk_27 (dk_at dksX0_copy_1 3 rfl rfl)
theorem dX0_copy_26 : decode cX0_copy 26 = .ok (.aaload, 1) := dk_50 (dk_at dksX0_copy_1 4 rfl rfl)
theorem dX0_copy_27 : decode cX0_copy 27 = .ok (.getfield 100, 3) := dk_180 0 100 (dk_at dksX0_copy_1 5 rfl rfl)
theorem dX0_copy_30 : decode cX0_copy 30 = .ok (.astore 6, 2) := dk_58 6 (dk_at dksX0_copy_1 8 rfl rfl)
theorem dX0_copy_32 : decode cX0_copy 32 = .ok (.aload_n 0, 1) := dk_42 (dk_at dksX0_copy_1 10 rfl rfl)
theorem dX0_copy_33 : decode cX0_copy 33 = .ok (.getfield 50, 3) := dk_180 0 50 (dk_at dksX0_copy_1 11 rfl rfl)
theorem dX0_copy_36 : decode cX0_copy 36 = .ok (.iload_n 2, 1) := dk_28 (dk_at dksX0_copy_1 14 rfl rfl)
theorem dX0_copy_37 : decode cX0_copy 37 = .ok (.aaload, 1) := dk_50 (dk_at dksX0_copy_1 15 rfl rfl)
theorem dX0_copy_38 : decode cX0_copy 38 = .ok (.getfield 100, 3) := dk_180 0 100 (dk_at dksX0_copy_1 16 rfl rfl)
theorem dX0_copy_41 : decode cX0_copy 41 = .ok (.astore 7, 2) := dk_58 7 (dk_at dksX0_copy_1 19 rfl rfl)
theorem dX0_copy_43 : decode cX0_copy 43 = .ok (.aload 6, 2) := dk_25 6 (dk_at dksX0_copy_1 21 rfl rfl)
theorem dX0_copy_45 : decode cX0_copy 45 = .ok (.instanceof 10, 3) := dk_193 0 10 (dk_at dksX0_copy_2 0 rfl rfl)
theorem dX0_copy_48 : decode cX0_copy 48 = .ok (.ifCond .ne 11, 3) := dk_154 0 11 (dk_at dksX0_copy_2 3 rfl rfl)
theorem dX0_copy_51 : decode cX0_copy 51 = .ok (.aload 7, 2) := dk_25 7 (dk_at dksX0_copy_2 6 rfl rfl)
theorem dX0_copy_53 : decode cX0_copy 53 = .ok (.instanceof 10, 3) := dk_193 0 10 (dk_at dksX0_copy_2 8 rfl rfl)
theorem dX0_copy_56 : decode cX0_copy 56 = .ok (.ifCond .eq 10, 3) := dk_153 0 10 (dk_at dksX0_copy_2 11 rfl rfl)
theorem dX0_copy_59 : decode cX0_copy 59 = .ok (.aload_n 0, 1) := dk_42 (dk_at dksX0_copy_2 14 rfl rfl)
theorem dX0_copy_60 : decode cX0_copy 60 = .ok (.bipush (-3), 2) := dk_16 253 (dk_at dksX0_copy_2 15 rfl rfl)
theorem dX0_copy_62 : decode cX0_copy 62 = .ok (.invokevirtual 63, 3) := dk_182 0 63 (dk_at dksX0_copy_2 17 rfl rfl)
theorem dX0_copy_65 : decode cX0_copy 65 = .ok (.ireturn, 1) := dk_172 (dk_at dksX0_copy_2 20 rfl rfl)
theorem dX0_copy_66 : decode cX0_copy 66 = .ok (.aload 6, 2) := dk_25 6 (dk_at dksX0_copy_2 21 rfl rfl)
theorem dX0_copy_68 : decode cX0_copy 68 = .ok (.iload_n 3, 1) := dk_29 (dk_at dksX0_copy_2 23 rfl rfl)
theorem dX0_copy_69 : decode cX0_copy 69 = .ok (.aload 7, 2) := dk_25 7 (dk_at dksX0_copy_3 0 rfl rfl)
theorem dX0_copy_71 : decode cX0_copy 71 = .ok (.iload 4, 2) := dk_21 4 (dk_at dksX0_copy_3 2 rfl rfl)
theorem dX0_copy_73 : decode cX0_copy 73 = .ok (.iload 5, 2) := dk_21 5 (dk_at dksX0_copy_3 4 rfl rfl)
theorem dX0_copy_75 : decode cX0_copy 75 = .ok (.invokestatic 124, 3) := dk_184 0 124 (dk_at dksX0_copy_3 6 rfl rfl)
theorem dX0_copy_78 : decode cX0_copy 78 = .ok (.iload 5, 2) := dk_21 5 (dk_at dksX0_copy_3 9 rfl rfl)
theorem dX0_copy_80 : decode cX0_copy 80 = .ok (.ireturn, 1) := dk_172 (dk_at dksX0_copy_3 11 rfl rfl)
theorem dX0_copy_81 : decode cX0_copy 81 = .ok (.astore 8, 2) := dk_58 8 (dk_at dksX0_copy_3 12 rfl rfl)
theorem dX0_copy_83 : decode cX0_copy 83 = .ok (.aload_n 0, 1) := dk_42 (dk_at dksX0_copy_3 14 rfl rfl)
theorem dX0_copy_84 : decode cX0_copy 84 = .ok (.bipush (-4), 2) := dk_16 252 (dk_at dksX0_copy_3 15 rfl rfl)
theorem dX0_copy_86 : decode cX0_copy 86 = .ok (.invokevirtual 63, 3) := dk_182 0 63 (dk_at dksX0_copy_3 17 rfl rfl)
theorem dX0_copy_89 : decode cX0_copy 89 = .ok (.ireturn, 1) := dk_172 (dk_at dksX0_copy_3 20 rfl rfl)
theorem dX0_copy_90 : decode cX0_copy 90 = .ok (.astore 8, 2) := dk_58 8 (dk_at dksX0_copy_3 21 rfl rfl)
theorem dX0_copy_92 : decode cX0_copy 92 = .ok (.aload_n 0, 1) := dk_42 (dk_at dksX0_copy_3 23 rfl rfl)
theorem dX0_copy_93 : decode cX0_copy 93 = .ok (.bipush (-3), 2) := dk_16 253 (dk_at dksX0_copy_4 0 rfl rfl)
theorem dX0_copy_95 : decode cX0_copy 95 = .ok (.invokevirtual 63, 3) := dk_182 0 63 (dk_at dksX0_copy_4 2 rfl rfl)
theorem dX0_copy_98 : decode cX0_copy 98 = .ok (.ireturn, 1) := dk_172 (dk_at dksX0_copy_4 5 rfl rfl)
theorem dX0_copy_99 : decode cX0_copy 99 = .ok (.astore 8, 2) := dk_58 8 (dk_at dksX0_copy_4 6 rfl rfl)
theorem dX0_copy_101 : decode cX0_copy 101 = .ok (.aload_n 0, 1) := dk_42 (dk_at dksX0_copy_4 8 rfl rfl)
theorem dX0_copy_102 : decode cX0_copy 102 = .ok (.bipush (-2), 2) := dk_16 254 (dk_at dksX0_copy_4 9 rfl rfl)
theorem dX0_copy_104 : decode cX0_copy 104 = .ok (.invokevirtual 63, 3) := dk_182 0 63 (dk_at dksX0_copy_4 11 rfl rfl)
theorem dX0_copy_107 : decode cX0_copy 107 = .ok (.ireturn, 1) := dk_172 (dk_at dksX0_copy_4 14 rfl rfl)
abbrev cX0_element : ByteArray := prog_1_method_20_code
def yX0_element : MethodName := ⟨RX0, "element", "(II)J"⟩
def dkwX0_element_1 : List UInt8 := [173]
abbrev dktX0_element_1 : List UInt8 := dkwX0_element_1 ++ []
def dkwX0_element_0 : List UInt8 := [27, 184, 0, 92, 154, 0, 5, 9, 173, 42, 27, 182, 0, 111, 28, 184, 0, 136, 173, 78, 9, 173, 78, 9]
abbrev dktX0_element_0 : List UInt8 := dkwX0_element_0 ++ dktX0_element_1
theorem dksX0_element_0 : cX0_element.data.toList.drop 0 = dktX0_element_0 := by decide +kernel
theorem dksX0_element_1 : cX0_element.data.toList.drop 24 = dktX0_element_1 := dk_seg dksX0_element_0 24 rfl rfl
theorem dX0_element_0 : decode cX0_element 0 = .ok (.iload_n 1, 1) := dk_27 (dk_at dksX0_element_0 0 rfl rfl)
theorem dX0_element_1 : decode cX0_element 1 = .ok (.invokestatic 92, 3) := dk_184 0 92 (dk_at dksX0_element_0 1 rfl rfl)
theorem dX0_element_4 : decode cX0_element 4 = .ok (.ifCond .ne 5, 3) := dk_154 0 5 (dk_at dksX0_element_0 4 rfl rfl)
theorem dX0_element_7 : decode cX0_element 7 = .ok (.lconst 0, 1) := dk_9 (dk_at dksX0_element_0 7 rfl rfl)
theorem dX0_element_8 : decode cX0_element 8 = .ok (.lreturn, 1) := dk_173 (dk_at dksX0_element_0 8 rfl rfl)
theorem dX0_element_9 : decode cX0_element 9 = .ok (.aload_n 0, 1) := dk_42 (dk_at dksX0_element_0 9 rfl rfl)
theorem dX0_element_10 : decode cX0_element 10 = .ok (.iload_n 1, 1) := dk_27 (dk_at dksX0_element_0 10 rfl rfl)
theorem dX0_element_11 : decode cX0_element 11 = .ok (.invokevirtual 111, 3) := dk_182 0 111 (dk_at dksX0_element_0 11 rfl rfl)
theorem dX0_element_14 : decode cX0_element 14 = .ok (.iload_n 2, 1) := dk_28 (dk_at dksX0_element_0 14 rfl rfl)
theorem dX0_element_15 : decode cX0_element 15 = .ok (.invokestatic 136, 3) := dk_184 0 136 (dk_at dksX0_element_0 15 rfl rfl)
theorem dX0_element_18 : decode cX0_element 18 = .ok (.lreturn, 1) := dk_173 (dk_at dksX0_element_0 18 rfl rfl)
theorem dX0_element_19 : decode cX0_element 19 = .ok (.astore_n 3, 1) := dk_78 (dk_at dksX0_element_0 19 rfl rfl)
theorem dX0_element_20 : decode cX0_element 20 = .ok (.lconst 0, 1) := dk_9 (dk_at dksX0_element_0 20 rfl rfl)
theorem dX0_element_21 : decode cX0_element 21 = .ok (.lreturn, 1) := dk_173 (dk_at dksX0_element_0 21 rfl rfl)
theorem dX0_element_22 : decode cX0_element 22 = .ok (.astore_n 3, 1) := dk_78 (dk_at dksX0_element_0 22 rfl rfl)
theorem dX0_element_23 : decode cX0_element 23 = .ok (.lconst 0, 1) := dk_9 (dk_at dksX0_element_0 23 rfl rfl)
theorem dX0_element_24 : decode cX0_element 24 = .ok (.lreturn, 1) := dk_173 (dk_at dksX0_element_1 0 rfl rfl)
abbrev cX0_elementOf : ByteArray := prog_1_method_14_code
def yX0_elementOf : MethodName := ⟨RX0, "elementOf", "(Ljava/lang/Object;I)J"⟩
def dkwX0_elementOf_3 : List UInt8 := [42, 192, 0, 84, 27, 47, 173, 42, 192, 0, 90, 27, 51, 153, 0, 7, 10, 167, 0, 4, 9, 173]
abbrev dktX0_elementOf_3 : List UInt8 := dkwX0_elementOf_3 ++ []
def dkwX0_elementOf_2 : List UInt8 := [42, 192, 0, 79, 27, 51, 133, 173, 42, 192, 0, 81, 27, 53, 133, 173, 42, 192, 0, 83, 27, 46, 133, 173]
abbrev dktX0_elementOf_2 : List UInt8 := dkwX0_elementOf_2 ++ dktX0_elementOf_3
def dkwX0_elementOf_1 : List UInt8 := [170, 0, 0, 0, 0, 0, 0, 63, 0, 0, 0, 0, 0, 0, 0, 3, 0, 0, 0, 32, 0, 0, 0, 40, 0, 0, 0, 48, 0, 0, 0, 56]
abbrev dktX0_elementOf_1 : List UInt8 := dkwX0_elementOf_1 ++ dktX0_elementOf_2
def dkwX0_elementOf_0 : List UInt8 := [42, 184, 0, 86]
abbrev dktX0_elementOf_0 : List UInt8 := dkwX0_elementOf_0 ++ dktX0_elementOf_1
theorem dksX0_elementOf_0 : cX0_elementOf.data.toList.drop 0 = dktX0_elementOf_0 := by decide +kernel
theorem dksX0_elementOf_1 : cX0_elementOf.data.toList.drop 4 = dktX0_elementOf_1 := dk_seg dksX0_elementOf_0 4 rfl rfl
theorem dksX0_elementOf_2 : cX0_elementOf.data.toList.drop 36 = dktX0_elementOf_2 := dk_seg dksX0_elementOf_1 32 rfl rfl
theorem dksX0_elementOf_3 : cX0_elementOf.data.toList.drop 60 = dktX0_elementOf_3 := dk_seg dksX0_elementOf_2 24 rfl rfl
theorem dX0_elementOf_0 : decode cX0_elementOf 0 = .ok (.aload_n 0, 1) := dk_42 (dk_at dksX0_elementOf_0 0 rfl rfl)
theorem dX0_elementOf_1 : decode cX0_elementOf 1 = .ok (.invokestatic 86, 3) := dk_184 0 86 (dk_at dksX0_elementOf_0 1 rfl rfl)
theorem dX0_elementOf_4 : decode cX0_elementOf 4 = .ok (.tableswitch 63 0 3 #[32, 40, 48, 56], 32) := by decide +kernel
theorem dX0_elementOf_36 : decode cX0_elementOf 36 = .ok (.aload_n 0, 1) := dk_42 (dk_at dksX0_elementOf_2 0 rfl rfl)
theorem dX0_elementOf_37 : decode cX0_elementOf 37 = .ok (.checkcast 79, 3) := dk_192 0 79 (dk_at dksX0_elementOf_2 1 rfl rfl)
theorem dX0_elementOf_40 : decode cX0_elementOf 40 = .ok (.iload_n 1, 1) := dk_27 (dk_at dksX0_elementOf_2 4 rfl rfl)
theorem dX0_elementOf_41 : decode cX0_elementOf 41 = .ok (.baload, 1) := dk_51 (dk_at dksX0_elementOf_2 5 rfl rfl)
theorem dX0_elementOf_42 : decode cX0_elementOf 42 = .ok (.i2l, 1) := dk_133 (dk_at dksX0_elementOf_2 6 rfl rfl)
theorem dX0_elementOf_43 : decode cX0_elementOf 43 = .ok (.lreturn, 1) := dk_173 (dk_at dksX0_elementOf_2 7 rfl rfl)
theorem dX0_elementOf_44 : decode cX0_elementOf 44 = .ok (.aload_n 0, 1) := dk_42 (dk_at dksX0_elementOf_2 8 rfl rfl)
theorem dX0_elementOf_45 : decode cX0_elementOf 45 = .ok (.checkcast 81, 3) := dk_192 0 81 (dk_at dksX0_elementOf_2 9 rfl rfl)
theorem dX0_elementOf_48 : decode cX0_elementOf 48 = .ok (.iload_n 1, 1) := dk_27 (dk_at dksX0_elementOf_2 12 rfl rfl)
theorem dX0_elementOf_49 : decode cX0_elementOf 49 = .ok (.saload, 1) := dk_53 (dk_at dksX0_elementOf_2 13 rfl rfl)
theorem dX0_elementOf_50 : decode cX0_elementOf 50 = .ok (.i2l, 1) := dk_133 (dk_at dksX0_elementOf_2 14 rfl rfl)
theorem dX0_elementOf_51 : decode cX0_elementOf 51 = .ok (.lreturn, 1) := dk_173 (dk_at dksX0_elementOf_2 15 rfl rfl)
theorem dX0_elementOf_52 : decode cX0_elementOf 52 = .ok (.aload_n 0, 1) := dk_42 (dk_at dksX0_elementOf_2 16 rfl rfl)
theorem dX0_elementOf_53 : decode cX0_elementOf 53 = .ok (.checkcast 83, 3) := dk_192 0 83 (dk_at dksX0_elementOf_2 17 rfl rfl)
theorem dX0_elementOf_56 : decode cX0_elementOf 56 = .ok (.iload_n 1, 1) := dk_27 (dk_at dksX0_elementOf_2 20 rfl rfl)
theorem dX0_elementOf_57 : decode cX0_elementOf 57 = .ok (.iaload, 1) := dk_46 (dk_at dksX0_elementOf_2 21 rfl rfl)
theorem dX0_elementOf_58 : decode cX0_elementOf 58 = .ok (.i2l, 1) := dk_133 (dk_at dksX0_elementOf_2 22 rfl rfl)
theorem dX0_elementOf_59 : decode cX0_elementOf 59 = .ok (.lreturn, 1) := dk_173 (dk_at dksX0_elementOf_2 23 rfl rfl)
theorem dX0_elementOf_60 : decode cX0_elementOf 60 = .ok (.aload_n 0, 1) := dk_42 (dk_at dksX0_elementOf_3 0 rfl rfl)
theorem dX0_elementOf_61 : decode cX0_elementOf 61 = .ok (.checkcast 84, 3) := dk_192 0 84 (dk_at dksX0_elementOf_3 1 rfl rfl)
theorem dX0_elementOf_64 : decode cX0_elementOf 64 = .ok (.iload_n 1, 1) := dk_27 (dk_at dksX0_elementOf_3 4 rfl rfl)
theorem dX0_elementOf_65 : decode cX0_elementOf 65 = .ok (.laload, 1) := dk_47 (dk_at dksX0_elementOf_3 5 rfl rfl)
theorem dX0_elementOf_66 : decode cX0_elementOf 66 = .ok (.lreturn, 1) := dk_173 (dk_at dksX0_elementOf_3 6 rfl rfl)
theorem dX0_elementOf_67 : decode cX0_elementOf 67 = .ok (.aload_n 0, 1) := dk_42 (dk_at dksX0_elementOf_3 7 rfl rfl)
theorem dX0_elementOf_68 : decode cX0_elementOf 68 = .ok (.checkcast 90, 3) := dk_192 0 90 (dk_at dksX0_elementOf_3 8 rfl rfl)
theorem dX0_elementOf_71 : decode cX0_elementOf 71 = .ok (.iload_n 1, 1) := dk_27 (dk_at dksX0_elementOf_3 11 rfl rfl)
theorem dX0_elementOf_72 : decode cX0_elementOf 72 = .ok (.baload, 1) := dk_51 (dk_at dksX0_elementOf_3 12 rfl rfl)
theorem dX0_elementOf_73 : decode cX0_elementOf 73 = .ok (.ifCond .eq 7, 3) := dk_153 0 7 (dk_at dksX0_elementOf_3 13 rfl rfl)
theorem dX0_elementOf_76 : decode cX0_elementOf 76 = .ok (.lconst 1, 1) := dk_10 (dk_at dksX0_elementOf_3 16 rfl rfl)
theorem dX0_elementOf_77 : decode cX0_elementOf 77 = .ok (.goto 4, 3) := dk_167 0 4 (dk_at dksX0_elementOf_3 17 rfl rfl)
theorem dX0_elementOf_80 : decode cX0_elementOf 80 = .ok (.lconst 0, 1) := dk_9 (dk_at dksX0_elementOf_3 20 rfl rfl)
theorem dX0_elementOf_81 : decode cX0_elementOf 81 = .ok (.lreturn, 1) := dk_173 (dk_at dksX0_elementOf_3 21 rfl rfl)
abbrev cX0_holds : ByteArray := prog_1_method_21_code
def yX0_holds : MethodName := ⟨RX0, "holds", "(I)I"⟩
def dkwX0_holds_2 : List UInt8 := [180, 0, 140, 96, 167, 0, 7, 44, 184, 0, 86, 172]
abbrev dktX0_holds_2 : List UInt8 := dkwX0_holds_2 ++ []
def dkwX0_holds_1 : List UInt8 := [180, 0, 50, 27, 50, 180, 0, 100, 77, 44, 193, 0, 10, 153, 0, 16, 16, 10, 44, 192, 0, 10]
abbrev dktX0_holds_1 : List UInt8 := dkwX0_holds_1 ++ dktX0_holds_2
def dkwX0_holds_0 : List UInt8 := [27, 184, 0, 92, 153, 0, 15, 42, 180, 0, 50, 27, 50, 180, 0, 100, 199, 0, 5, 2, 172, 42]
abbrev dktX0_holds_0 : List UInt8 := dkwX0_holds_0 ++ dktX0_holds_1
theorem dksX0_holds_0 : cX0_holds.data.toList.drop 0 = dktX0_holds_0 := by decide +kernel
theorem dksX0_holds_1 : cX0_holds.data.toList.drop 22 = dktX0_holds_1 := dk_seg dksX0_holds_0 22 rfl rfl
theorem dksX0_holds_2 : cX0_holds.data.toList.drop 44 = dktX0_holds_2 := dk_seg dksX0_holds_1 22 rfl rfl
theorem dX0_holds_0 : decode cX0_holds 0 = .ok (.iload_n 1, 1) := dk_27 (dk_at dksX0_holds_0 0 rfl rfl)
theorem dX0_holds_1 : decode cX0_holds 1 = .ok (.invokestatic 92, 3) := dk_184 0 92 (dk_at dksX0_holds_0 1 rfl rfl)
theorem dX0_holds_4 : decode cX0_holds 4 = .ok (.ifCond .eq 15, 3) := dk_153 0 15 (dk_at dksX0_holds_0 4 rfl rfl)
theorem dX0_holds_7 : decode cX0_holds 7 = .ok (.aload_n 0, 1) := dk_42 (dk_at dksX0_holds_0 7 rfl rfl)
theorem dX0_holds_8 : decode cX0_holds 8 = .ok (.getfield 50, 3) := dk_180 0 50 (dk_at dksX0_holds_0 8 rfl rfl)
theorem dX0_holds_11 : decode cX0_holds 11 = .ok (.iload_n 1, 1) := dk_27 (dk_at dksX0_holds_0 11 rfl rfl)
theorem dX0_holds_12 : decode cX0_holds 12 = .ok (.aaload, 1) := dk_50 (dk_at dksX0_holds_0 12 rfl rfl)
theorem dX0_holds_13 : decode cX0_holds 13 = .ok (.getfield 100, 3) := dk_180 0 100 (dk_at dksX0_holds_0 13 rfl rfl)
theorem dX0_holds_16 : decode cX0_holds 16 = .ok (.ifnonnull 5, 3) := dk_199 0 5 (dk_at dksX0_holds_0 16 rfl rfl)
theorem dX0_holds_19 : decode cX0_holds 19 = .ok (.iconst (-1), 1) := dk_2 (dk_at dksX0_holds_0 19 rfl rfl)
theorem dX0_holds_20 : decode cX0_holds 20 = .ok (.ireturn, 1) := dk_172 (dk_at dksX0_holds_0 20 rfl rfl)
theorem dX0_holds_21 : decode cX0_holds 21 = .ok (.aload_n 0, 1) := dk_42 (dk_at dksX0_holds_0 21 rfl rfl)
theorem dX0_holds_22 : decode cX0_holds 22 = .ok (.getfield 50, 3) := dk_180 0 50 (dk_at dksX0_holds_1 0 rfl rfl)
theorem dX0_holds_25 : decode cX0_holds 25 = .ok (.iload_n 1, 1) := dk_27 (dk_at dksX0_holds_1 3 rfl rfl)
theorem dX0_holds_26 : decode cX0_holds 26 = .ok (.aaload, 1) := dk_50 (dk_at dksX0_holds_1 4 rfl rfl)
theorem dX0_holds_27 : decode cX0_holds 27 = .ok (.getfield 100, 3) := dk_180 0 100 (dk_at dksX0_holds_1 5 rfl rfl)
theorem dX0_holds_30 : decode cX0_holds 30 = .ok (.astore_n 2, 1) := dk_77 (dk_at dksX0_holds_1 8 rfl rfl)
theorem dX0_holds_31 : decode cX0_holds 31 = .ok (.aload_n 2, 1) := dk_44 (dk_at dksX0_holds_1 9 rfl rfl)
theorem dX0_holds_32 : decode cX0_holds 32 = .ok (.instanceof 10, 3) := dk_193 0 10 (dk_at dksX0_holds_1 10 rfl rfl)
theorem dX0_holds_35 : decode cX0_holds 35 = .ok (.ifCond .eq 16, 3) := dk_153 0 16 (dk_at dksX0_holds_1 13 rfl rfl)
theorem dX0_holds_38 : decode cX0_holds 38 = .ok (.bipush 10, 2) := dk_16 10 (dk_at dksX0_holds_1 16 rfl rfl)
theorem dX0_holds_40 : decode cX0_holds 40 = .ok (.aload_n 2, 1) := dk_44 (dk_at dksX0_holds_1 18 rfl rfl)
theorem dX0_holds_41 : decode cX0_holds 41 = .ok (.checkcast 10, 3) := dk_192 0 10 (dk_at dksX0_holds_1 19 rfl rfl)
theorem dX0_holds_44 : decode cX0_holds 44 = .ok (.getfield 140, 3) := dk_180 0 140 (dk_at dksX0_holds_2 0 rfl rfl)
theorem dX0_holds_47 : decode cX0_holds 47 = .ok (.iadd, 1) := dk_96 (dk_at dksX0_holds_2 3 rfl rfl)
theorem dX0_holds_48 : decode cX0_holds 48 = .ok (.goto 7, 3) := dk_167 0 7 (dk_at dksX0_holds_2 4 rfl rfl)
theorem dX0_holds_51 : decode cX0_holds 51 = .ok (.aload_n 2, 1) := dk_44 (dk_at dksX0_holds_2 7 rfl rfl)
theorem dX0_holds_52 : decode cX0_holds 52 = .ok (.invokestatic 86, 3) := dk_184 0 86 (dk_at dksX0_holds_2 8 rfl rfl)
theorem dX0_holds_55 : decode cX0_holds 55 = .ok (.ireturn, 1) := dk_172 (dk_at dksX0_holds_2 11 rfl rfl)
abbrev cX0_show : ByteArray := prog_1_method_22_code
def yX0_show : MethodName := ⟨RX0, "show", "(II)I"⟩
def dkwX0_show_2 : List UInt8 := [180, 0, 146, 28, 50, 181, 0, 100, 4, 172]
abbrev dktX0_show_2 : List UInt8 := dkwX0_show_2 ++ []
def dkwX0_show_1 : List UInt8 := [182, 0, 63, 172, 42, 180, 0, 50, 27, 50, 28, 2, 160, 0, 7, 1, 167, 0, 12, 42, 180, 0, 39]
abbrev dktX0_show_1 : List UInt8 := dkwX0_show_1 ++ dktX0_show_2
def dkwX0_show_0 : List UInt8 := [27, 184, 0, 92, 153, 0, 16, 28, 2, 159, 0, 18, 42, 28, 182, 0, 143, 154, 0, 10, 42, 16, 254]
abbrev dktX0_show_0 : List UInt8 := dkwX0_show_0 ++ dktX0_show_1
theorem dksX0_show_0 : cX0_show.data.toList.drop 0 = dktX0_show_0 := by decide +kernel
theorem dksX0_show_1 : cX0_show.data.toList.drop 23 = dktX0_show_1 := dk_seg dksX0_show_0 23 rfl rfl
theorem dksX0_show_2 : cX0_show.data.toList.drop 46 = dktX0_show_2 := dk_seg dksX0_show_1 23 rfl rfl
theorem dX0_show_0 : decode cX0_show 0 = .ok (.iload_n 1, 1) := dk_27 (dk_at dksX0_show_0 0 rfl rfl)
theorem dX0_show_1 : decode cX0_show 1 = .ok (.invokestatic 92, 3) := dk_184 0 92 (dk_at dksX0_show_0 1 rfl rfl)
theorem dX0_show_4 : decode cX0_show 4 = .ok (.ifCond .eq 16, 3) := dk_153 0 16 (dk_at dksX0_show_0 4 rfl rfl)
theorem dX0_show_7 : decode cX0_show 7 = .ok (.iload_n 2, 1) := dk_28 (dk_at dksX0_show_0 7 rfl rfl)
theorem dX0_show_8 : decode cX0_show 8 = .ok (.iconst (-1), 1) := dk_2 (dk_at dksX0_show_0 8 rfl rfl)
theorem dX0_show_9 : decode cX0_show 9 = .ok (.if_icmp .eq 18, 3) := dk_159 0 18 (dk_at dksX0_show_0 9 rfl rfl)
theorem dX0_show_12 : decode cX0_show 12 = .ok (.aload_n 0, 1) := dk_42 (dk_at dksX0_show_0 12 rfl rfl)
theorem dX0_show_13 : decode cX0_show 13 = .ok (.iload_n 2, 1) := dk_28 (dk_at dksX0_show_0 13 rfl rfl)
theorem dX0_show_14 : decode cX0_show 14 = .ok (.invokevirtual 143, 3) := dk_182 0 143 (dk_at dksX0_show_0 14 rfl rfl)
theorem dX0_show_17 : decode cX0_show 17 = .ok (.ifCond .ne 10, 3) := dk_154 0 10 (dk_at dksX0_show_0 17 rfl rfl)
theorem dX0_show_20 : decode cX0_show 20 = .ok (.aload_n 0, 1) := dk_42 (dk_at dksX0_show_0 20 rfl rfl)
theorem dX0_show_21 : decode cX0_show 21 = .ok (.bipush (-2), 2) := dk_16 254 (dk_at dksX0_show_0 21 rfl rfl)
theorem dX0_show_23 : decode cX0_show 23 = .ok (.invokevirtual 63, 3) := dk_182 0 63 (dk_at dksX0_show_1 0 rfl rfl)
theorem dX0_show_26 : decode cX0_show 26 = .ok (.ireturn, 1) := dk_172 (dk_at dksX0_show_1 3 rfl rfl)
theorem dX0_show_27 : decode cX0_show 27 = .ok (.aload_n 0, 1) := dk_42 (dk_at dksX0_show_1 4 rfl rfl)
theorem dX0_show_28 : decode cX0_show 28 = .ok (.getfield 50, 3) := dk_180 0 50 (dk_at dksX0_show_1 5 rfl rfl)
theorem dX0_show_31 : decode cX0_show 31 = .ok (.iload_n 1, 1) := dk_27 (dk_at dksX0_show_1 8 rfl rfl)
theorem dX0_show_32 : decode cX0_show 32 = .ok (.aaload, 1) := dk_50 (dk_at dksX0_show_1 9 rfl rfl)
theorem dX0_show_33 : decode cX0_show 33 = .ok (.iload_n 2, 1) := dk_28 (dk_at dksX0_show_1 10 rfl rfl)
theorem dX0_show_34 : decode cX0_show 34 = .ok (.iconst (-1), 1) := dk_2 (dk_at dksX0_show_1 11 rfl rfl)
theorem dX0_show_35 : decode cX0_show 35 = .ok (.if_icmp .ne 7, 3) := dk_160 0 7 (dk_at dksX0_show_1 12 rfl rfl)
theorem dX0_show_38 : decode cX0_show 38 = .ok (.aconst_null, 1) := dk_1 (dk_at dksX0_show_1 15 rfl rfl)
theorem dX0_show_39 : decode cX0_show 39 = .ok (.goto 12, 3) := dk_167 0 12 (dk_at dksX0_show_1 16 rfl rfl)
theorem dX0_show_42 : decode cX0_show 42 = .ok (.aload_n 0, 1) := dk_42 (dk_at dksX0_show_1 19 rfl rfl)
theorem dX0_show_43 : decode cX0_show 43 = .ok (.getfield 39, 3) := dk_180 0 39 (dk_at dksX0_show_1 20 rfl rfl)
theorem dX0_show_46 : decode cX0_show 46 = .ok (.getfield 146, 3) := dk_180 0 146 (dk_at dksX0_show_2 0 rfl rfl)
theorem dX0_show_49 : decode cX0_show 49 = .ok (.iload_n 2, 1) := dk_28 (dk_at dksX0_show_2 3 rfl rfl)
theorem dX0_show_50 : decode cX0_show 50 = .ok (.aaload, 1) := dk_50 (dk_at dksX0_show_2 4 rfl rfl)
theorem dX0_show_51 : decode cX0_show 51 = .ok (.putfield 100, 3) := dk_181 0 100 (dk_at dksX0_show_2 5 rfl rfl)
theorem dX0_show_54 : decode cX0_show 54 = .ok (.iconst 1, 1) := dk_4 (dk_at dksX0_show_2 8 rfl rfl)
theorem dX0_show_55 : decode cX0_show 55 = .ok (.ireturn, 1) := dk_172 (dk_at dksX0_show_2 9 rfl rfl)
abbrev cX0_isGoer : ByteArray := prog_1_method_9_code
def yX0_isGoer : MethodName := ⟨RX0, "isGoer", "(I)Z"⟩
def dkwX0_isGoer_0 : List UInt8 := [27, 3, 42, 180, 0, 39, 180, 0, 71, 4, 100, 184, 0, 67, 172]
abbrev dktX0_isGoer_0 : List UInt8 := dkwX0_isGoer_0 ++ []
theorem dksX0_isGoer_0 : cX0_isGoer.data.toList.drop 0 = dktX0_isGoer_0 := by decide +kernel
theorem dX0_isGoer_0 : decode cX0_isGoer 0 = .ok (.iload_n 1, 1) := dk_27 (dk_at dksX0_isGoer_0 0 rfl rfl)
theorem dX0_isGoer_1 : decode cX0_isGoer 1 = .ok (.iconst 0, 1) := dk_3 (dk_at dksX0_isGoer_0 1 rfl rfl)
theorem dX0_isGoer_2 : decode cX0_isGoer 2 = .ok (.aload_n 0, 1) := dk_42 (dk_at dksX0_isGoer_0 2 rfl rfl)
theorem dX0_isGoer_3 : decode cX0_isGoer 3 = .ok (.getfield 39, 3) := dk_180 0 39 (dk_at dksX0_isGoer_0 3 rfl rfl)
theorem dX0_isGoer_6 : decode cX0_isGoer 6 = .ok (.getfield 71, 3) := dk_180 0 71 (dk_at dksX0_isGoer_0 6 rfl rfl)
theorem dX0_isGoer_9 : decode cX0_isGoer 9 = .ok (.iconst 1, 1) := dk_4 (dk_at dksX0_isGoer_0 9 rfl rfl)
theorem dX0_isGoer_10 : decode cX0_isGoer 10 = .ok (.isub, 1) := dk_100 (dk_at dksX0_isGoer_0 10 rfl rfl)
theorem dX0_isGoer_11 : decode cX0_isGoer 11 = .ok (.invokestatic 67, 3) := dk_184 0 67 (dk_at dksX0_isGoer_0 11 rfl rfl)
theorem dX0_isGoer_14 : decode cX0_isGoer 14 = .ok (.ireturn, 1) := dk_172 (dk_at dksX0_isGoer_0 14 rfl rfl)
abbrev cX0_says : ByteArray := prog_1_method_25_code
def yX0_says : MethodName := ⟨RX0, "says", "(II)I"⟩
def dkwX0_says_5 : List UInt8 := [182, 0, 164, 172, 42, 45, 192, 0, 28, 182, 0, 164, 172, 58, 4, 42, 16, 253, 182, 0, 63, 172]
abbrev dktX0_says_5 : List UInt8 := dkwX0_says_5 ++ []
def dkwX0_says_4 : List UInt8 := [172, 42, 45, 192, 0, 19, 182, 0, 164, 172, 42, 45, 192, 0, 22, 182, 0, 164, 172, 42, 45, 192, 0, 25]
abbrev dktX0_says_4 : List UInt8 := dkwX0_says_4 ++ dktX0_says_5
def dkwX0_says_3 : List UInt8 := [42, 180, 0, 39, 180, 0, 161, 45, 192, 0, 10, 180, 0, 140, 46, 172, 42, 45, 192, 0, 16, 182, 0, 164]
abbrev dktX0_says_3 : List UInt8 := dkwX0_says_3 ++ dktX0_says_4
def dkwX0_says_2 : List UInt8 := [170, 0, 0, 0, 0, 0, 87, 0, 0, 0, 0, 0, 0, 0, 4, 0, 0, 0, 35, 0, 0, 0, 51, 0, 0, 0, 60, 0, 0, 0, 69, 0, 0, 0, 78]
abbrev dktX0_says_2 : List UInt8 := dkwX0_says_2 ++ dktX0_says_3
def dkwX0_says_1 : List UInt8 := [180, 0, 50, 27, 50, 180, 0, 100, 78, 45, 199, 0, 10, 42, 16, 252, 182, 0, 63, 172, 28]
abbrev dktX0_says_1 : List UInt8 := dkwX0_says_1 ++ dktX0_says_2
def dkwX0_says_0 : List UInt8 := [27, 184, 0, 92, 153, 0, 12, 28, 3, 8, 184, 0, 67, 154, 0, 10, 42, 16, 254, 182, 0, 63, 172, 42]
abbrev dktX0_says_0 : List UInt8 := dkwX0_says_0 ++ dktX0_says_1
theorem dksX0_says_0 : cX0_says.data.toList.drop 0 = dktX0_says_0 := by decide +kernel
theorem dksX0_says_1 : cX0_says.data.toList.drop 24 = dktX0_says_1 := dk_seg dksX0_says_0 24 rfl rfl
theorem dksX0_says_2 : cX0_says.data.toList.drop 45 = dktX0_says_2 := dk_seg dksX0_says_1 21 rfl rfl
theorem dksX0_says_3 : cX0_says.data.toList.drop 80 = dktX0_says_3 := dk_seg dksX0_says_2 35 rfl rfl
theorem dksX0_says_4 : cX0_says.data.toList.drop 104 = dktX0_says_4 := dk_seg dksX0_says_3 24 rfl rfl
theorem dksX0_says_5 : cX0_says.data.toList.drop 128 = dktX0_says_5 := dk_seg dksX0_says_4 24 rfl rfl
theorem dX0_says_0 : decode cX0_says 0 = .ok (.iload_n 1, 1) := dk_27 (dk_at dksX0_says_0 0 rfl rfl)
theorem dX0_says_1 : decode cX0_says 1 = .ok (.invokestatic 92, 3) := dk_184 0 92 (dk_at dksX0_says_0 1 rfl rfl)
theorem dX0_says_4 : decode cX0_says 4 = .ok (.ifCond .eq 12, 3) := dk_153 0 12 (dk_at dksX0_says_0 4 rfl rfl)
theorem dX0_says_7 : decode cX0_says 7 = .ok (.iload_n 2, 1) := dk_28 (dk_at dksX0_says_0 7 rfl rfl)
theorem dX0_says_8 : decode cX0_says 8 = .ok (.iconst 0, 1) := dk_3 (dk_at dksX0_says_0 8 rfl rfl)
theorem dX0_says_9 : decode cX0_says 9 = .ok (.iconst 5, 1) := dk_8 (dk_at dksX0_says_0 9 rfl rfl)
theorem dX0_says_10 : decode cX0_says 10 = .ok (.invokestatic 67, 3) := dk_184 0 67 (dk_at dksX0_says_0 10 rfl rfl)
theorem dX0_says_13 : decode cX0_says 13 = .ok (.ifCond .ne 10, 3) := dk_154 0 10 (dk_at dksX0_says_0 13 rfl rfl)
theorem dX0_says_16 : decode cX0_says 16 = .ok (.aload_n 0, 1) := dk_42 (dk_at dksX0_says_0 16 rfl rfl)
theorem dX0_says_17 : decode cX0_says 17 = .ok (.bipush (-2), 2) := dk_16 254 (dk_at dksX0_says_0 17 rfl rfl)
theorem dX0_says_19 : decode cX0_says 19 = .ok (.invokevirtual 63, 3) := dk_182 0 63 (dk_at dksX0_says_0 19 rfl rfl)
theorem dX0_says_22 : decode cX0_says 22 = .ok (.ireturn, 1) := dk_172 (dk_at dksX0_says_0 22 rfl rfl)
theorem dX0_says_23 : decode cX0_says 23 = .ok (.aload_n 0, 1) := dk_42 (dk_at dksX0_says_0 23 rfl rfl)
theorem dX0_says_24 : decode cX0_says 24 = .ok (.getfield 50, 3) := dk_180 0 50 (dk_at dksX0_says_1 0 rfl rfl)
theorem dX0_says_27 : decode cX0_says 27 = .ok (.iload_n 1, 1) := dk_27 (dk_at dksX0_says_1 3 rfl rfl)
theorem dX0_says_28 : decode cX0_says 28 = .ok (.aaload, 1) := dk_50 (dk_at dksX0_says_1 4 rfl rfl)
theorem dX0_says_29 : decode cX0_says 29 = .ok (.getfield 100, 3) := dk_180 0 100 (dk_at dksX0_says_1 5 rfl rfl)
theorem dX0_says_32 : decode cX0_says 32 = .ok (.astore_n 3, 1) := dk_78 (dk_at dksX0_says_1 8 rfl rfl)
theorem dX0_says_33 : decode cX0_says 33 = .ok (.aload_n 3, 1) := dk_45 (dk_at dksX0_says_1 9 rfl rfl)
theorem dX0_says_34 : decode cX0_says 34 = .ok (.ifnonnull 10, 3) := dk_199 0 10 (dk_at dksX0_says_1 10 rfl rfl)
theorem dX0_says_37 : decode cX0_says 37 = .ok (.aload_n 0, 1) := dk_42 (dk_at dksX0_says_1 13 rfl rfl)
theorem dX0_says_38 : decode cX0_says 38 = .ok (.bipush (-4), 2) := dk_16 252 (dk_at dksX0_says_1 14 rfl rfl)
theorem dX0_says_40 : decode cX0_says 40 = .ok (.invokevirtual 63, 3) := dk_182 0 63 (dk_at dksX0_says_1 16 rfl rfl)
theorem dX0_says_43 : decode cX0_says 43 = .ok (.ireturn, 1) := dk_172 (dk_at dksX0_says_1 19 rfl rfl)
theorem dX0_says_44 : decode cX0_says 44 = .ok (.iload_n 2, 1) := dk_28 (dk_at dksX0_says_1 20 rfl rfl)
theorem dX0_says_45 : decode cX0_says 45 = .ok (.tableswitch 87 0 4 #[35, 51, 60, 69, 78], 35) := by decide +kernel
theorem dX0_says_80 : decode cX0_says 80 = .ok (.aload_n 0, 1) := dk_42 (dk_at dksX0_says_3 0 rfl rfl)
theorem dX0_says_81 : decode cX0_says 81 = .ok (.getfield 39, 3) := dk_180 0 39 (dk_at dksX0_says_3 1 rfl rfl)
theorem dX0_says_84 : decode cX0_says 84 = .ok (.getfield 161, 3) := dk_180 0 161 (dk_at dksX0_says_3 4 rfl rfl)
theorem dX0_says_87 : decode cX0_says 87 = .ok (.aload_n 3, 1) := dk_45 (dk_at dksX0_says_3 7 rfl rfl)
theorem dX0_says_88 : decode cX0_says 88 = .ok (.checkcast 10, 3) := dk_192 0 10 (dk_at dksX0_says_3 8 rfl rfl)
theorem dX0_says_91 : decode cX0_says 91 = .ok (.getfield 140, 3) := dk_180 0 140 (dk_at dksX0_says_3 11 rfl rfl)
theorem dX0_says_94 : decode cX0_says 94 = .ok (.iaload, 1) := dk_46 (dk_at dksX0_says_3 14 rfl rfl)
theorem dX0_says_95 : decode cX0_says 95 = .ok (.ireturn, 1) := dk_172 (dk_at dksX0_says_3 15 rfl rfl)
theorem dX0_says_96 : decode cX0_says 96 = .ok (.aload_n 0, 1) := dk_42 (dk_at dksX0_says_3 16 rfl rfl)
theorem dX0_says_97 : decode cX0_says 97 = .ok (.aload_n 3, 1) := dk_45 (dk_at dksX0_says_3 17 rfl rfl)
theorem dX0_says_98 : decode cX0_says 98 = .ok (.checkcast 16, 3) := dk_192 0 16 (dk_at dksX0_says_3 18 rfl rfl)
theorem dX0_says_101 : decode cX0_says 101 = .ok (.invokevirtual 164, 3) := dk_182 0 164 (dk_at dksX0_says_3 21 rfl rfl)
theorem dX0_says_104 : decode cX0_says 104 = .ok (.ireturn, 1) := dk_172 (dk_at dksX0_says_4 0 rfl rfl)
theorem dX0_says_105 : decode cX0_says 105 = .ok (.aload_n 0, 1) := dk_42 (dk_at dksX0_says_4 1 rfl rfl)
theorem dX0_says_106 : decode cX0_says 106 = .ok (.aload_n 3, 1) := dk_45 (dk_at dksX0_says_4 2 rfl rfl)
theorem dX0_says_107 : decode cX0_says 107 = .ok (.checkcast 19, 3) := dk_192 0 19 (dk_at dksX0_says_4 3 rfl rfl)
theorem dX0_says_110 : decode cX0_says 110 = .ok (.invokevirtual 164, 3) := dk_182 0 164 (dk_at dksX0_says_4 6 rfl rfl)
theorem dX0_says_113 : decode cX0_says 113 = .ok (.ireturn, 1) := dk_172 (dk_at dksX0_says_4 9 rfl rfl)
theorem dX0_says_114 : decode cX0_says 114 = .ok (.aload_n 0, 1) := dk_42 (dk_at dksX0_says_4 10 rfl rfl)
theorem dX0_says_115 : decode cX0_says 115 = .ok (.aload_n 3, 1) := dk_45 (dk_at dksX0_says_4 11 rfl rfl)
theorem dX0_says_116 : decode cX0_says 116 = .ok (.checkcast 22, 3) := dk_192 0 22 (dk_at dksX0_says_4 12 rfl rfl)
theorem dX0_says_119 : decode cX0_says 119 = .ok (.invokevirtual 164, 3) := dk_182 0 164 (dk_at dksX0_says_4 15 rfl rfl)
theorem dX0_says_122 : decode cX0_says 122 = .ok (.ireturn, 1) := dk_172 (dk_at dksX0_says_4 18 rfl rfl)
theorem dX0_says_123 : decode cX0_says 123 = .ok (.aload_n 0, 1) := dk_42 (dk_at dksX0_says_4 19 rfl rfl)
theorem dX0_says_124 : decode cX0_says 124 = .ok (.aload_n 3, 1) := dk_45 (dk_at dksX0_says_4 20 rfl rfl)
theorem dX0_says_125 : decode cX0_says 125 = .ok (.checkcast 25, 3) := dk_192 0 25 (dk_at dksX0_says_4 21 rfl rfl)
theorem dX0_says_128 : decode cX0_says 128 = .ok (.invokevirtual 164, 3) := dk_182 0 164 (dk_at dksX0_says_5 0 rfl rfl)
theorem dX0_says_131 : decode cX0_says 131 = .ok (.ireturn, 1) := dk_172 (dk_at dksX0_says_5 3 rfl rfl)
theorem dX0_says_132 : decode cX0_says 132 = .ok (.aload_n 0, 1) := dk_42 (dk_at dksX0_says_5 4 rfl rfl)
theorem dX0_says_133 : decode cX0_says 133 = .ok (.aload_n 3, 1) := dk_45 (dk_at dksX0_says_5 5 rfl rfl)
theorem dX0_says_134 : decode cX0_says 134 = .ok (.checkcast 28, 3) := dk_192 0 28 (dk_at dksX0_says_5 6 rfl rfl)
theorem dX0_says_137 : decode cX0_says 137 = .ok (.invokevirtual 164, 3) := dk_182 0 164 (dk_at dksX0_says_5 9 rfl rfl)
theorem dX0_says_140 : decode cX0_says 140 = .ok (.ireturn, 1) := dk_172 (dk_at dksX0_says_5 12 rfl rfl)
theorem dX0_says_141 : decode cX0_says 141 = .ok (.astore 4, 2) := dk_58 4 (dk_at dksX0_says_5 13 rfl rfl)
theorem dX0_says_143 : decode cX0_says 143 = .ok (.aload_n 0, 1) := dk_42 (dk_at dksX0_says_5 15 rfl rfl)
theorem dX0_says_144 : decode cX0_says 144 = .ok (.bipush (-3), 2) := dk_16 253 (dk_at dksX0_says_5 16 rfl rfl)
theorem dX0_says_146 : decode cX0_says 146 = .ok (.invokevirtual 63, 3) := dk_182 0 63 (dk_at dksX0_says_5 18 rfl rfl)
theorem dX0_says_149 : decode cX0_says 149 = .ok (.ireturn, 1) := dk_172 (dk_at dksX0_says_5 21 rfl rfl)
abbrev cX0_first : ByteArray := prog_1_method_24_code
def yX0_first : MethodName := ⟨RX0, "first", "(LEverybodyHasTheBook$Goer;)I"⟩
def dkwX0_first_0 : List UInt8 := [43, 42, 180, 0, 39, 42, 182, 0, 153, 182, 0, 157, 172]
abbrev dktX0_first_0 : List UInt8 := dkwX0_first_0 ++ []
theorem dksX0_first_0 : cX0_first.data.toList.drop 0 = dktX0_first_0 := by decide +kernel
theorem dX0_first_0 : decode cX0_first 0 = .ok (.aload_n 1, 1) := dk_43 (dk_at dksX0_first_0 0 rfl rfl)
theorem dX0_first_1 : decode cX0_first 1 = .ok (.aload_n 0, 1) := dk_42 (dk_at dksX0_first_0 1 rfl rfl)
theorem dX0_first_2 : decode cX0_first 2 = .ok (.getfield 39, 3) := dk_180 0 39 (dk_at dksX0_first_0 2 rfl rfl)
theorem dX0_first_5 : decode cX0_first 5 = .ok (.aload_n 0, 1) := dk_42 (dk_at dksX0_first_0 5 rfl rfl)
theorem dX0_first_6 : decode cX0_first 6 = .ok (.invokevirtual 153, 3) := dk_182 0 153 (dk_at dksX0_first_0 6 rfl rfl)
theorem dX0_first_9 : decode cX0_first 9 = .ok (.invokevirtual 157, 3) := dk_182 0 157 (dk_at dksX0_first_0 9 rfl rfl)
theorem dX0_first_12 : decode cX0_first 12 = .ok (.ireturn, 1) := dk_172 (dk_at dksX0_first_0 12 rfl rfl)
abbrev cX0_allInns : ByteArray := prog_1_method_23_code
def yX0_allInns : MethodName := ⟨RX0, "allInns", "()I"⟩
def dkwX0_allInns_0 : List UInt8 := [4, 42, 180, 0, 39, 180, 0, 150, 120, 4, 100, 172]
abbrev dktX0_allInns_0 : List UInt8 := dkwX0_allInns_0 ++ []
theorem dksX0_allInns_0 : cX0_allInns.data.toList.drop 0 = dktX0_allInns_0 := by decide +kernel
theorem dX0_allInns_0 : decode cX0_allInns 0 = .ok (.iconst 1, 1) := dk_4 (dk_at dksX0_allInns_0 0 rfl rfl)
theorem dX0_allInns_1 : decode cX0_allInns 1 = .ok (.aload_n 0, 1) := dk_42 (dk_at dksX0_allInns_0 1 rfl rfl)
theorem dX0_allInns_2 : decode cX0_allInns 2 = .ok (.getfield 39, 3) := dk_180 0 39 (dk_at dksX0_allInns_0 2 rfl rfl)
theorem dX0_allInns_5 : decode cX0_allInns 5 = .ok (.getfield 150, 3) := dk_180 0 150 (dk_at dksX0_allInns_0 5 rfl rfl)
theorem dX0_allInns_8 : decode cX0_allInns 8 = .ok (.ishl, 1) := dk_120 (dk_at dksX0_allInns_0 8 rfl rfl)
theorem dX0_allInns_9 : decode cX0_allInns 9 = .ok (.iconst 1, 1) := dk_4 (dk_at dksX0_allInns_0 9 rfl rfl)
theorem dX0_allInns_10 : decode cX0_allInns 10 = .ok (.isub, 1) := dk_100 (dk_at dksX0_allInns_0 10 rfl rfl)
theorem dX0_allInns_11 : decode cX0_allInns 11 = .ok (.ireturn, 1) := dk_172 (dk_at dksX0_allInns_0 11 rfl rfl)
abbrev cX0_has : ByteArray := prog_1_method_2_code
def yX0_has : MethodName := ⟨RX0, "has", "(II)Z"⟩
def dkwX0_has_0 : List UInt8 := [26, 27, 122, 4, 126, 4, 160, 0, 7, 4, 167, 0, 4, 3, 172]
abbrev dktX0_has_0 : List UInt8 := dkwX0_has_0 ++ []
theorem dksX0_has_0 : cX0_has.data.toList.drop 0 = dktX0_has_0 := by decide +kernel
theorem dX0_has_0 : decode cX0_has 0 = .ok (.iload_n 0, 1) := dk_26 (dk_at dksX0_has_0 0 rfl rfl)
theorem dX0_has_1 : decode cX0_has 1 = .ok (.iload_n 1, 1) := dk_27 (dk_at dksX0_has_0 1 rfl rfl)
theorem dX0_has_2 : decode cX0_has 2 = .ok (.ishr, 1) := dk_122 (dk_at dksX0_has_0 2 rfl rfl)
theorem dX0_has_3 : decode cX0_has 3 = .ok (.iconst 1, 1) := dk_4 (dk_at dksX0_has_0 3 rfl rfl)
theorem dX0_has_4 : decode cX0_has 4 = .ok (.iand, 1) := dk_126 (dk_at dksX0_has_0 4 rfl rfl)
theorem dX0_has_5 : decode cX0_has 5 = .ok (.iconst 1, 1) := dk_4 (dk_at dksX0_has_0 5 rfl rfl)
theorem dX0_has_6 : decode cX0_has 6 = .ok (.if_icmp .ne 7, 3) := dk_160 0 7 (dk_at dksX0_has_0 6 rfl rfl)
theorem dX0_has_9 : decode cX0_has 9 = .ok (.iconst 1, 1) := dk_4 (dk_at dksX0_has_0 9 rfl rfl)
theorem dX0_has_10 : decode cX0_has 10 = .ok (.goto 4, 3) := dk_167 0 4 (dk_at dksX0_has_0 10 rfl rfl)
theorem dX0_has_13 : decode cX0_has 13 = .ok (.iconst 0, 1) := dk_3 (dk_at dksX0_has_0 13 rfl rfl)
theorem dX0_has_14 : decode cX0_has 14 = .ok (.ireturn, 1) := dk_172 (dk_at dksX0_has_0 14 rfl rfl)
abbrev cX0_inn : ByteArray := prog_1_method_26_code
def yX0_inn : MethodName := ⟨RX0, "inn", "(III)I"⟩
def dkwX0_inn_3 : List UInt8 := [180, 0, 150, 4, 100, 172]
abbrev dktX0_inn_3 : List UInt8 := dkwX0_inn_3 ++ []
def dkwX0_inn_2 : List UInt8 := [160, 0, 10, 42, 16, 250, 182, 0, 63, 172, 42, 180, 0, 39, 27, 28, 29, 182, 0, 169, 42, 180, 0, 39]
abbrev dktX0_inn_2 : List UInt8 := dkwX0_inn_2 ++ dktX0_inn_3
def dkwX0_inn_1 : List UInt8 := [184, 0, 67, 154, 0, 10, 42, 16, 254, 182, 0, 63, 172, 42, 180, 0, 39, 180, 0, 150, 16, 6]
abbrev dktX0_inn_1 : List UInt8 := dkwX0_inn_1 ++ dktX0_inn_2
def dkwX0_inn_0 : List UInt8 := [27, 3, 16, 100, 184, 0, 67, 153, 0, 23, 28, 4, 16, 20, 184, 0, 67, 153, 0, 13, 29, 3, 16, 99]
abbrev dktX0_inn_0 : List UInt8 := dkwX0_inn_0 ++ dktX0_inn_1
theorem dksX0_inn_0 : cX0_inn.data.toList.drop 0 = dktX0_inn_0 := by decide +kernel
theorem dksX0_inn_1 : cX0_inn.data.toList.drop 24 = dktX0_inn_1 := dk_seg dksX0_inn_0 24 rfl rfl
theorem dksX0_inn_2 : cX0_inn.data.toList.drop 46 = dktX0_inn_2 := dk_seg dksX0_inn_1 22 rfl rfl
theorem dksX0_inn_3 : cX0_inn.data.toList.drop 70 = dktX0_inn_3 := dk_seg dksX0_inn_2 24 rfl rfl
theorem dX0_inn_0 : decode cX0_inn 0 = .ok (.iload_n 1, 1) := dk_27 (dk_at dksX0_inn_0 0 rfl rfl)
theorem dX0_inn_1 : decode cX0_inn 1 = .ok (.iconst 0, 1) := dk_3 (dk_at dksX0_inn_0 1 rfl rfl)
theorem dX0_inn_2 : decode cX0_inn 2 = .ok (.bipush 100, 2) := dk_16 100 (dk_at dksX0_inn_0 2 rfl rfl)
theorem dX0_inn_4 : decode cX0_inn 4 = .ok (.invokestatic 67, 3) := dk_184 0 67 (dk_at dksX0_inn_0 4 rfl rfl)
theorem dX0_inn_7 : decode cX0_inn 7 = .ok (.ifCond .eq 23, 3) := dk_153 0 23 (dk_at dksX0_inn_0 7 rfl rfl)
theorem dX0_inn_10 : decode cX0_inn 10 = .ok (.iload_n 2, 1) := dk_28 (dk_at dksX0_inn_0 10 rfl rfl)
theorem dX0_inn_11 : decode cX0_inn 11 = .ok (.iconst 1, 1) := dk_4 (dk_at dksX0_inn_0 11 rfl rfl)
theorem dX0_inn_12 : decode cX0_inn 12 = .ok (.bipush 20, 2) := dk_16 20 (dk_at dksX0_inn_0 12 rfl rfl)
theorem dX0_inn_14 : decode cX0_inn 14 = .ok (.invokestatic 67, 3) := dk_184 0 67 (dk_at dksX0_inn_0 14 rfl rfl)
theorem dX0_inn_17 : decode cX0_inn 17 = .ok (.ifCond .eq 13, 3) := dk_153 0 13 (dk_at dksX0_inn_0 17 rfl rfl)
theorem dX0_inn_20 : decode cX0_inn 20 = .ok (.iload_n 3, 1) := dk_29 (dk_at dksX0_inn_0 20 rfl rfl)
theorem dX0_inn_21 : decode cX0_inn 21 = .ok (.iconst 0, 1) := dk_3 (dk_at dksX0_inn_0 21 rfl rfl)
theorem dX0_inn_22 : decode cX0_inn 22 = .ok (.bipush 99, 2) := dk_16 99 (dk_at dksX0_inn_0 22 rfl rfl)
theorem dX0_inn_24 : decode cX0_inn 24 = .ok (.invokestatic 67, 3) := dk_184 0 67 (dk_at dksX0_inn_1 0 rfl rfl)
theorem dX0_inn_27 : decode cX0_inn 27 = .ok (.ifCond .ne 10, 3) := dk_154 0 10 (dk_at dksX0_inn_1 3 rfl rfl)
theorem dX0_inn_30 : decode cX0_inn 30 = .ok (.aload_n 0, 1) := dk_42 (dk_at dksX0_inn_1 6 rfl rfl)
theorem dX0_inn_31 : decode cX0_inn 31 = .ok (.bipush (-2), 2) := dk_16 254 (dk_at dksX0_inn_1 7 rfl rfl)
theorem dX0_inn_33 : decode cX0_inn 33 = .ok (.invokevirtual 63, 3) := dk_182 0 63 (dk_at dksX0_inn_1 9 rfl rfl)
theorem dX0_inn_36 : decode cX0_inn 36 = .ok (.ireturn, 1) := dk_172 (dk_at dksX0_inn_1 12 rfl rfl)
theorem dX0_inn_37 : decode cX0_inn 37 = .ok (.aload_n 0, 1) := dk_42 (dk_at dksX0_inn_1 13 rfl rfl)
theorem dX0_inn_38 : decode cX0_inn 38 = .ok (.getfield 39, 3) := dk_180 0 39 (dk_at dksX0_inn_1 14 rfl rfl)
theorem dX0_inn_41 : decode cX0_inn 41 = .ok (.getfield 150, 3) := dk_180 0 150 (dk_at dksX0_inn_1 17 rfl rfl)
theorem dX0_inn_44 : decode cX0_inn 44 = .ok (.bipush 6, 2) := dk_16 6 (dk_at dksX0_inn_1 20 rfl rfl)
theorem dX0_inn_46 : decode cX0_inn 46 = .ok (.if_icmp .ne 10, 3) := dk_160 0 10 (dk_at dksX0_inn_2 0 rfl rfl)
theorem dX0_inn_49 : decode cX0_inn 49 = .ok (.aload_n 0, 1) := dk_42 (dk_at dksX0_inn_2 3 rfl rfl)
theorem dX0_inn_50 : decode cX0_inn 50 = .ok (.bipush (-6), 2) := dk_16 250 (dk_at dksX0_inn_2 4 rfl rfl)
theorem dX0_inn_52 : decode cX0_inn 52 = .ok (.invokevirtual 63, 3) := dk_182 0 63 (dk_at dksX0_inn_2 6 rfl rfl)
theorem dX0_inn_55 : decode cX0_inn 55 = .ok (.ireturn, 1) := dk_172 (dk_at dksX0_inn_2 9 rfl rfl)
theorem dX0_inn_56 : decode cX0_inn 56 = .ok (.aload_n 0, 1) := dk_42 (dk_at dksX0_inn_2 10 rfl rfl)
theorem dX0_inn_57 : decode cX0_inn 57 = .ok (.getfield 39, 3) := dk_180 0 39 (dk_at dksX0_inn_2 11 rfl rfl)
theorem dX0_inn_60 : decode cX0_inn 60 = .ok (.iload_n 1, 1) := dk_27 (dk_at dksX0_inn_2 14 rfl rfl)
theorem dX0_inn_61 : decode cX0_inn 61 = .ok (.iload_n 2, 1) := dk_28 (dk_at dksX0_inn_2 15 rfl rfl)
theorem dX0_inn_62 : decode cX0_inn 62 = .ok (.iload_n 3, 1) := dk_29 (dk_at dksX0_inn_2 16 rfl rfl)
theorem dX0_inn_63 : decode cX0_inn 63 = .ok (.invokevirtual 169, 3) := dk_182 0 169 (dk_at dksX0_inn_2 17 rfl rfl)
theorem dX0_inn_66 : decode cX0_inn 66 = .ok (.aload_n 0, 1) := dk_42 (dk_at dksX0_inn_2 20 rfl rfl)
theorem dX0_inn_67 : decode cX0_inn 67 = .ok (.getfield 39, 3) := dk_180 0 39 (dk_at dksX0_inn_2 21 rfl rfl)
theorem dX0_inn_70 : decode cX0_inn 70 = .ok (.getfield 150, 3) := dk_180 0 150 (dk_at dksX0_inn_3 0 rfl rfl)
theorem dX0_inn_73 : decode cX0_inn 73 = .ok (.iconst 1, 1) := dk_4 (dk_at dksX0_inn_3 3 rfl rfl)
theorem dX0_inn_74 : decode cX0_inn 74 = .ok (.isub, 1) := dk_100 (dk_at dksX0_inn_3 4 rfl rfl)
theorem dX0_inn_75 : decode cX0_inn 75 = .ok (.ireturn, 1) := dk_172 (dk_at dksX0_inn_3 5 rfl rfl)
abbrev cX0_goer : ByteArray := prog_1_method_27_code
def yX0_goer : MethodName := ⟨RX0, "goer", "(III)I"⟩
def dkwX0_goer_3 : List UInt8 := [184, 0, 173, 28, 182, 0, 177, 42, 180, 0, 39, 180, 0, 71, 4, 100, 172]
abbrev dktX0_goer_3 : List UInt8 := dkwX0_goer_3 ++ []
def dkwX0_goer_2 : List UInt8 := [160, 0, 10, 42, 16, 250, 182, 0, 63, 172, 42, 180, 0, 39, 27, 42, 180, 0, 39, 180, 0, 71, 29]
abbrev dktX0_goer_2 : List UInt8 := dkwX0_goer_2 ++ dktX0_goer_3
def dkwX0_goer_1 : List UInt8 := [184, 0, 67, 154, 0, 10, 42, 16, 254, 182, 0, 63, 172, 42, 180, 0, 39, 180, 0, 71, 16, 6]
abbrev dktX0_goer_1 : List UInt8 := dkwX0_goer_1 ++ dktX0_goer_2
def dkwX0_goer_0 : List UInt8 := [27, 3, 8, 184, 0, 67, 153, 0, 23, 28, 4, 16, 30, 184, 0, 67, 153, 0, 13, 29, 3, 16, 99]
abbrev dktX0_goer_0 : List UInt8 := dkwX0_goer_0 ++ dktX0_goer_1
theorem dksX0_goer_0 : cX0_goer.data.toList.drop 0 = dktX0_goer_0 := by decide +kernel
theorem dksX0_goer_1 : cX0_goer.data.toList.drop 23 = dktX0_goer_1 := dk_seg dksX0_goer_0 23 rfl rfl
theorem dksX0_goer_2 : cX0_goer.data.toList.drop 45 = dktX0_goer_2 := dk_seg dksX0_goer_1 22 rfl rfl
theorem dksX0_goer_3 : cX0_goer.data.toList.drop 68 = dktX0_goer_3 := dk_seg dksX0_goer_2 23 rfl rfl
theorem dX0_goer_0 : decode cX0_goer 0 = .ok (.iload_n 1, 1) := dk_27 (dk_at dksX0_goer_0 0 rfl rfl)
theorem dX0_goer_1 : decode cX0_goer 1 = .ok (.iconst 0, 1) := dk_3 (dk_at dksX0_goer_0 1 rfl rfl)
theorem dX0_goer_2 : decode cX0_goer 2 = .ok (.iconst 5, 1) := dk_8 (dk_at dksX0_goer_0 2 rfl rfl)
theorem dX0_goer_3 : decode cX0_goer 3 = .ok (.invokestatic 67, 3) := dk_184 0 67 (dk_at dksX0_goer_0 3 rfl rfl)
theorem dX0_goer_6 : decode cX0_goer 6 = .ok (.ifCond .eq 23, 3) := dk_153 0 23 (dk_at dksX0_goer_0 6 rfl rfl)
theorem dX0_goer_9 : decode cX0_goer 9 = .ok (.iload_n 2, 1) := dk_28 (dk_at dksX0_goer_0 9 rfl rfl)
theorem dX0_goer_10 : decode cX0_goer 10 = .ok (.iconst 1, 1) := dk_4 (dk_at dksX0_goer_0 10 rfl rfl)
theorem dX0_goer_11 : decode cX0_goer 11 = .ok (.bipush 30, 2) := dk_16 30 (dk_at dksX0_goer_0 11 rfl rfl)
theorem dX0_goer_13 : decode cX0_goer 13 = .ok (.invokestatic 67, 3) := dk_184 0 67 (dk_at dksX0_goer_0 13 rfl rfl)
theorem dX0_goer_16 : decode cX0_goer 16 = .ok (.ifCond .eq 13, 3) := dk_153 0 13 (dk_at dksX0_goer_0 16 rfl rfl)
theorem dX0_goer_19 : decode cX0_goer 19 = .ok (.iload_n 3, 1) := dk_29 (dk_at dksX0_goer_0 19 rfl rfl)
theorem dX0_goer_20 : decode cX0_goer 20 = .ok (.iconst 0, 1) := dk_3 (dk_at dksX0_goer_0 20 rfl rfl)
theorem dX0_goer_21 : decode cX0_goer 21 = .ok (.bipush 99, 2) := dk_16 99 (dk_at dksX0_goer_0 21 rfl rfl)
theorem dX0_goer_23 : decode cX0_goer 23 = .ok (.invokestatic 67, 3) := dk_184 0 67 (dk_at dksX0_goer_1 0 rfl rfl)
theorem dX0_goer_26 : decode cX0_goer 26 = .ok (.ifCond .ne 10, 3) := dk_154 0 10 (dk_at dksX0_goer_1 3 rfl rfl)
theorem dX0_goer_29 : decode cX0_goer 29 = .ok (.aload_n 0, 1) := dk_42 (dk_at dksX0_goer_1 6 rfl rfl)
theorem dX0_goer_30 : decode cX0_goer 30 = .ok (.bipush (-2), 2) := dk_16 254 (dk_at dksX0_goer_1 7 rfl rfl)
theorem dX0_goer_32 : decode cX0_goer 32 = .ok (.invokevirtual 63, 3) := dk_182 0 63 (dk_at dksX0_goer_1 9 rfl rfl)
theorem dX0_goer_35 : decode cX0_goer 35 = .ok (.ireturn, 1) := dk_172 (dk_at dksX0_goer_1 12 rfl rfl)
theorem dX0_goer_36 : decode cX0_goer 36 = .ok (.aload_n 0, 1) := dk_42 (dk_at dksX0_goer_1 13 rfl rfl)
theorem dX0_goer_37 : decode cX0_goer 37 = .ok (.getfield 39, 3) := dk_180 0 39 (dk_at dksX0_goer_1 14 rfl rfl)
theorem dX0_goer_40 : decode cX0_goer 40 = .ok (.getfield 71, 3) := dk_180 0 71 (dk_at dksX0_goer_1 17 rfl rfl)
theorem dX0_goer_43 : decode cX0_goer 43 = .ok (.bipush 6, 2) := dk_16 6 (dk_at dksX0_goer_1 20 rfl rfl)
theorem dX0_goer_45 : decode cX0_goer 45 = .ok (.if_icmp .ne 10, 3) := dk_160 0 10 (dk_at dksX0_goer_2 0 rfl rfl)
theorem dX0_goer_48 : decode cX0_goer 48 = .ok (.aload_n 0, 1) := dk_42 (dk_at dksX0_goer_2 3 rfl rfl)
theorem dX0_goer_49 : decode cX0_goer 49 = .ok (.bipush (-6), 2) := dk_16 250 (dk_at dksX0_goer_2 4 rfl rfl)
theorem dX0_goer_51 : decode cX0_goer 51 = .ok (.invokevirtual 63, 3) := dk_182 0 63 (dk_at dksX0_goer_2 6 rfl rfl)
theorem dX0_goer_54 : decode cX0_goer 54 = .ok (.ireturn, 1) := dk_172 (dk_at dksX0_goer_2 9 rfl rfl)
theorem dX0_goer_55 : decode cX0_goer 55 = .ok (.aload_n 0, 1) := dk_42 (dk_at dksX0_goer_2 10 rfl rfl)
theorem dX0_goer_56 : decode cX0_goer 56 = .ok (.getfield 39, 3) := dk_180 0 39 (dk_at dksX0_goer_2 11 rfl rfl)
theorem dX0_goer_59 : decode cX0_goer 59 = .ok (.iload_n 1, 1) := dk_27 (dk_at dksX0_goer_2 14 rfl rfl)
theorem dX0_goer_60 : decode cX0_goer 60 = .ok (.aload_n 0, 1) := dk_42 (dk_at dksX0_goer_2 15 rfl rfl)
theorem dX0_goer_61 : decode cX0_goer 61 = .ok (.getfield 39, 3) := dk_180 0 39 (dk_at dksX0_goer_2 16 rfl rfl)
theorem dX0_goer_64 : decode cX0_goer 64 = .ok (.getfield 71, 3) := dk_180 0 71 (dk_at dksX0_goer_2 19 rfl rfl)
theorem dX0_goer_67 : decode cX0_goer 67 = .ok (.iload_n 3, 1) := dk_29 (dk_at dksX0_goer_2 22 rfl rfl)
theorem dX0_goer_68 : decode cX0_goer 68 = .ok (.invokestatic 173, 3) := dk_184 0 173 (dk_at dksX0_goer_3 0 rfl rfl)
theorem dX0_goer_71 : decode cX0_goer 71 = .ok (.iload_n 2, 1) := dk_28 (dk_at dksX0_goer_3 3 rfl rfl)
theorem dX0_goer_72 : decode cX0_goer 72 = .ok (.invokevirtual 177, 3) := dk_182 0 177 (dk_at dksX0_goer_3 4 rfl rfl)
theorem dX0_goer_75 : decode cX0_goer 75 = .ok (.aload_n 0, 1) := dk_42 (dk_at dksX0_goer_3 7 rfl rfl)
theorem dX0_goer_76 : decode cX0_goer 76 = .ok (.getfield 39, 3) := dk_180 0 39 (dk_at dksX0_goer_3 8 rfl rfl)
theorem dX0_goer_79 : decode cX0_goer 79 = .ok (.getfield 71, 3) := dk_180 0 71 (dk_at dksX0_goer_3 11 rfl rfl)
theorem dX0_goer_82 : decode cX0_goer 82 = .ok (.iconst 1, 1) := dk_4 (dk_at dksX0_goer_3 14 rfl rfl)
theorem dX0_goer_83 : decode cX0_goer 83 = .ok (.isub, 1) := dk_100 (dk_at dksX0_goer_3 15 rfl rfl)
theorem dX0_goer_84 : decode cX0_goer 84 = .ok (.ireturn, 1) := dk_172 (dk_at dksX0_goer_3 16 rfl rfl)
abbrev cX0_made : ByteArray := prog_1_method_4_code
def yX0_made : MethodName := ⟨RX0, "made", "(III)LEverybodyHasTheBook$Goer;"⟩
def dkwX0_made_4 : List UInt8 := [183, 0, 27, 176, 187, 0, 28, 89, 27, 28, 183, 0, 30, 176]
abbrev dktX0_made_4 : List UInt8 := dkwX0_made_4 ++ []
def dkwX0_made_3 : List UInt8 := [27, 28, 183, 0, 21, 176, 187, 0, 22, 89, 27, 28, 183, 0, 24, 176, 187, 0, 25, 89, 27, 28]
abbrev dktX0_made_3 : List UInt8 := dkwX0_made_3 ++ dktX0_made_4
def dkwX0_made_2 : List UInt8 := [187, 0, 10, 89, 27, 28, 183, 0, 12, 176, 187, 0, 16, 89, 27, 28, 183, 0, 18, 176, 187, 0, 19, 89]
abbrev dktX0_made_2 : List UInt8 := dkwX0_made_2 ++ dktX0_made_3
def dkwX0_made_1 : List UInt8 := [170, 0, 0, 0, 0, 0, 85, 0, 0, 0, 0, 0, 0, 0, 4, 0, 0, 0, 35, 0, 0, 0, 45, 0, 0, 0, 55, 0, 0, 0, 65, 0, 0, 0, 75]
abbrev dktX0_made_1 : List UInt8 := dkwX0_made_1 ++ dktX0_made_2
def dkwX0_made_0 : List UInt8 := [26]
abbrev dktX0_made_0 : List UInt8 := dkwX0_made_0 ++ dktX0_made_1
theorem dksX0_made_0 : cX0_made.data.toList.drop 0 = dktX0_made_0 := by decide +kernel
theorem dksX0_made_1 : cX0_made.data.toList.drop 1 = dktX0_made_1 := dk_seg dksX0_made_0 1 rfl rfl
theorem dksX0_made_2 : cX0_made.data.toList.drop 36 = dktX0_made_2 := dk_seg dksX0_made_1 35 rfl rfl
theorem dksX0_made_3 : cX0_made.data.toList.drop 60 = dktX0_made_3 := dk_seg dksX0_made_2 24 rfl rfl
theorem dksX0_made_4 : cX0_made.data.toList.drop 82 = dktX0_made_4 := dk_seg dksX0_made_3 22 rfl rfl
theorem dX0_made_0 : decode cX0_made 0 = .ok (.iload_n 0, 1) := dk_26 (dk_at dksX0_made_0 0 rfl rfl)
theorem dX0_made_1 : decode cX0_made 1 = .ok (.tableswitch 85 0 4 #[35, 45, 55, 65, 75], 35) := by decide +kernel
theorem dX0_made_36 : decode cX0_made 36 = .ok (.new 10, 3) := dk_187 0 10 (dk_at dksX0_made_2 0 rfl rfl)
theorem dX0_made_39 : decode cX0_made 39 = .ok (.dup, 1) := dk_89 (dk_at dksX0_made_2 3 rfl rfl)
theorem dX0_made_40 : decode cX0_made 40 = .ok (.iload_n 1, 1) := dk_27 (dk_at dksX0_made_2 4 rfl rfl)
theorem dX0_made_41 : decode cX0_made 41 = .ok (.iload_n 2, 1) := dk_28 (dk_at dksX0_made_2 5 rfl rfl)
theorem dX0_made_42 : decode cX0_made 42 = .ok (.invokespecial 12, 3) := dk_183 0 12 (dk_at dksX0_made_2 6 rfl rfl)
theorem dX0_made_45 : decode cX0_made 45 = .ok (.areturn, 1) := dk_176 (dk_at dksX0_made_2 9 rfl rfl)
theorem dX0_made_46 : decode cX0_made 46 = .ok (.new 16, 3) := dk_187 0 16 (dk_at dksX0_made_2 10 rfl rfl)
theorem dX0_made_49 : decode cX0_made 49 = .ok (.dup, 1) := dk_89 (dk_at dksX0_made_2 13 rfl rfl)
theorem dX0_made_50 : decode cX0_made 50 = .ok (.iload_n 1, 1) := dk_27 (dk_at dksX0_made_2 14 rfl rfl)
theorem dX0_made_51 : decode cX0_made 51 = .ok (.iload_n 2, 1) := dk_28 (dk_at dksX0_made_2 15 rfl rfl)
theorem dX0_made_52 : decode cX0_made 52 = .ok (.invokespecial 18, 3) := dk_183 0 18 (dk_at dksX0_made_2 16 rfl rfl)
theorem dX0_made_55 : decode cX0_made 55 = .ok (.areturn, 1) := dk_176 (dk_at dksX0_made_2 19 rfl rfl)
theorem dX0_made_56 : decode cX0_made 56 = .ok (.new 19, 3) := dk_187 0 19 (dk_at dksX0_made_2 20 rfl rfl)
theorem dX0_made_59 : decode cX0_made 59 = .ok (.dup, 1) := dk_89 (dk_at dksX0_made_2 23 rfl rfl)
theorem dX0_made_60 : decode cX0_made 60 = .ok (.iload_n 1, 1) := dk_27 (dk_at dksX0_made_3 0 rfl rfl)
theorem dX0_made_61 : decode cX0_made 61 = .ok (.iload_n 2, 1) := dk_28 (dk_at dksX0_made_3 1 rfl rfl)
theorem dX0_made_62 : decode cX0_made 62 = .ok (.invokespecial 21, 3) := dk_183 0 21 (dk_at dksX0_made_3 2 rfl rfl)
theorem dX0_made_65 : decode cX0_made 65 = .ok (.areturn, 1) := dk_176 (dk_at dksX0_made_3 5 rfl rfl)
theorem dX0_made_66 : decode cX0_made 66 = .ok (.new 22, 3) := dk_187 0 22 (dk_at dksX0_made_3 6 rfl rfl)
theorem dX0_made_69 : decode cX0_made 69 = .ok (.dup, 1) := dk_89 (dk_at dksX0_made_3 9 rfl rfl)
theorem dX0_made_70 : decode cX0_made 70 = .ok (.iload_n 1, 1) := dk_27 (dk_at dksX0_made_3 10 rfl rfl)
theorem dX0_made_71 : decode cX0_made 71 = .ok (.iload_n 2, 1) := dk_28 (dk_at dksX0_made_3 11 rfl rfl)
theorem dX0_made_72 : decode cX0_made 72 = .ok (.invokespecial 24, 3) := dk_183 0 24 (dk_at dksX0_made_3 12 rfl rfl)
theorem dX0_made_75 : decode cX0_made 75 = .ok (.areturn, 1) := dk_176 (dk_at dksX0_made_3 15 rfl rfl)
theorem dX0_made_76 : decode cX0_made 76 = .ok (.new 25, 3) := dk_187 0 25 (dk_at dksX0_made_3 16 rfl rfl)
theorem dX0_made_79 : decode cX0_made 79 = .ok (.dup, 1) := dk_89 (dk_at dksX0_made_3 19 rfl rfl)
theorem dX0_made_80 : decode cX0_made 80 = .ok (.iload_n 1, 1) := dk_27 (dk_at dksX0_made_3 20 rfl rfl)
theorem dX0_made_81 : decode cX0_made 81 = .ok (.iload_n 2, 1) := dk_28 (dk_at dksX0_made_3 21 rfl rfl)
theorem dX0_made_82 : decode cX0_made 82 = .ok (.invokespecial 27, 3) := dk_183 0 27 (dk_at dksX0_made_4 0 rfl rfl)
theorem dX0_made_85 : decode cX0_made 85 = .ok (.areturn, 1) := dk_176 (dk_at dksX0_made_4 3 rfl rfl)
theorem dX0_made_86 : decode cX0_made 86 = .ok (.new 28, 3) := dk_187 0 28 (dk_at dksX0_made_4 4 rfl rfl)
theorem dX0_made_89 : decode cX0_made 89 = .ok (.dup, 1) := dk_89 (dk_at dksX0_made_4 7 rfl rfl)
theorem dX0_made_90 : decode cX0_made 90 = .ok (.iload_n 1, 1) := dk_27 (dk_at dksX0_made_4 8 rfl rfl)
theorem dX0_made_91 : decode cX0_made 91 = .ok (.iload_n 2, 1) := dk_28 (dk_at dksX0_made_4 9 rfl rfl)
theorem dX0_made_92 : decode cX0_made 92 = .ok (.invokespecial 30, 3) := dk_183 0 30 (dk_at dksX0_made_4 10 rfl rfl)
theorem dX0_made_95 : decode cX0_made 95 = .ok (.areturn, 1) := dk_176 (dk_at dksX0_made_4 13 rfl rfl)
abbrev cX0_change : ByteArray := prog_1_method_28_code
def yX0_change : MethodName := ⟨RX0, "change", "(III)I"⟩
def dkwX0_change_3 : List UInt8 := [27, 46, 54, 5, 25, 4, 27, 29, 79, 21, 5, 172]
abbrev dktX0_change_3 : List UInt8 := dkwX0_change_3 ++ []
def dkwX0_change_2 : List UInt8 := [154, 0, 13, 42, 180, 0, 39, 180, 0, 183, 167, 0, 10, 42, 180, 0, 39, 180, 0, 186, 58, 4, 25, 4]
abbrev dktX0_change_2 : List UInt8 := dkwX0_change_2 ++ dktX0_change_3
def dkwX0_change_1 : List UInt8 := [154, 0, 8, 16, 100, 167, 0, 5, 16, 99, 184, 0, 67, 154, 0, 10, 42, 16, 254, 182, 0, 63, 172, 28]
abbrev dktX0_change_1 : List UInt8 := dkwX0_change_1 ++ dktX0_change_2
def dkwX0_change_0 : List UInt8 := [42, 180, 0, 39, 27, 182, 0, 180, 153, 0, 31, 28, 3, 4, 184, 0, 67, 153, 0, 22, 29, 3, 28]
abbrev dktX0_change_0 : List UInt8 := dkwX0_change_0 ++ dktX0_change_1
theorem dksX0_change_0 : cX0_change.data.toList.drop 0 = dktX0_change_0 := by decide +kernel
theorem dksX0_change_1 : cX0_change.data.toList.drop 23 = dktX0_change_1 := dk_seg dksX0_change_0 23 rfl rfl
theorem dksX0_change_2 : cX0_change.data.toList.drop 47 = dktX0_change_2 := dk_seg dksX0_change_1 24 rfl rfl
theorem dksX0_change_3 : cX0_change.data.toList.drop 71 = dktX0_change_3 := dk_seg dksX0_change_2 24 rfl rfl
theorem dX0_change_0 : decode cX0_change 0 = .ok (.aload_n 0, 1) := dk_42 (dk_at dksX0_change_0 0 rfl rfl)
theorem dX0_change_1 : decode cX0_change 1 = .ok (.getfield 39, 3) := dk_180 0 39 (dk_at dksX0_change_0 1 rfl rfl)
theorem dX0_change_4 : decode cX0_change 4 = .ok (.iload_n 1, 1) := dk_27 (dk_at dksX0_change_0 4 rfl rfl)
theorem dX0_change_5 : decode cX0_change 5 = .ok (.invokevirtual 180, 3) := dk_182 0 180 (dk_at dksX0_change_0 5 rfl rfl)
theorem dX0_change_8 : decode cX0_change 8 = .ok (.ifCond .eq 31, 3) := dk_153 0 31 (dk_at dksX0_change_0 8 rfl rfl)
theorem dX0_change_11 : decode cX0_change 11 = .ok (.iload_n 2, 1) := dk_28 (dk_at dksX0_change_0 11 rfl rfl)
theorem dX0_change_12 : decode cX0_change 12 = .ok (.iconst 0, 1) := dk_3 (dk_at dksX0_change_0 12 rfl rfl)
theorem dX0_change_13 : decode cX0_change 13 = .ok (.iconst 1, 1) := dk_4 (dk_at dksX0_change_0 13 rfl rfl)
theorem dX0_change_14 : decode cX0_change 14 = .ok (.invokestatic 67, 3) := dk_184 0 67 (dk_at dksX0_change_0 14 rfl rfl)
theorem dX0_change_17 : decode cX0_change 17 = .ok (.ifCond .eq 22, 3) := dk_153 0 22 (dk_at dksX0_change_0 17 rfl rfl)
theorem dX0_change_20 : decode cX0_change 20 = .ok (.iload_n 3, 1) := dk_29 (dk_at dksX0_change_0 20 rfl rfl)
theorem dX0_change_21 : decode cX0_change 21 = .ok (.iconst 0, 1) := dk_3 (dk_at dksX0_change_0 21 rfl rfl)
theorem dX0_change_22 : decode cX0_change 22 = .ok (.iload_n 2, 1) := dk_28 (dk_at dksX0_change_0 22 rfl rfl)
theorem dX0_change_23 : decode cX0_change 23 = .ok (.ifCond .ne 8, 3) := dk_154 0 8 (dk_at dksX0_change_1 0 rfl rfl)
theorem dX0_change_26 : decode cX0_change 26 = .ok (.bipush 100, 2) := dk_16 100 (dk_at dksX0_change_1 3 rfl rfl)
theorem dX0_change_28 : decode cX0_change 28 = .ok (.goto 5, 3) := dk_167 0 5 (dk_at dksX0_change_1 5 rfl rfl)
theorem dX0_change_31 : decode cX0_change 31 = .ok (.bipush 99, 2) := dk_16 99 (dk_at dksX0_change_1 8 rfl rfl)
theorem dX0_change_33 : decode cX0_change 33 = .ok (.invokestatic 67, 3) := dk_184 0 67 (dk_at dksX0_change_1 10 rfl rfl)
theorem dX0_change_36 : decode cX0_change 36 = .ok (.ifCond .ne 10, 3) := dk_154 0 10 (dk_at dksX0_change_1 13 rfl rfl)
theorem dX0_change_39 : decode cX0_change 39 = .ok (.aload_n 0, 1) := dk_42 (dk_at dksX0_change_1 16 rfl rfl)
theorem dX0_change_40 : decode cX0_change 40 = .ok (.bipush (-2), 2) := dk_16 254 (dk_at dksX0_change_1 17 rfl rfl)
theorem dX0_change_42 : decode cX0_change 42 = .ok (.invokevirtual 63, 3) := dk_182 0 63 (dk_at dksX0_change_1 19 rfl rfl)
theorem dX0_change_45 : decode cX0_change 45 = .ok (.ireturn, 1) := dk_172 (dk_at dksX0_change_1 22 rfl rfl)
theorem dX0_change_46 : decode cX0_change 46 = .ok (.iload_n 2, 1) := dk_28 (dk_at dksX0_change_1 23 rfl rfl)
theorem dX0_change_47 : decode cX0_change 47 = .ok (.ifCond .ne 13, 3) := dk_154 0 13 (dk_at dksX0_change_2 0 rfl rfl)
theorem dX0_change_50 : decode cX0_change 50 = .ok (.aload_n 0, 1) := dk_42 (dk_at dksX0_change_2 3 rfl rfl)
theorem dX0_change_51 : decode cX0_change 51 = .ok (.getfield 39, 3) := dk_180 0 39 (dk_at dksX0_change_2 4 rfl rfl)
theorem dX0_change_54 : decode cX0_change 54 = .ok (.getfield 183, 3) := dk_180 0 183 (dk_at dksX0_change_2 7 rfl rfl)
theorem dX0_change_57 : decode cX0_change 57 = .ok (.goto 10, 3) := dk_167 0 10 (dk_at dksX0_change_2 10 rfl rfl)
theorem dX0_change_60 : decode cX0_change 60 = .ok (.aload_n 0, 1) := dk_42 (dk_at dksX0_change_2 13 rfl rfl)
theorem dX0_change_61 : decode cX0_change 61 = .ok (.getfield 39, 3) := dk_180 0 39 (dk_at dksX0_change_2 14 rfl rfl)
theorem dX0_change_64 : decode cX0_change 64 = .ok (.getfield 186, 3) := dk_180 0 186 (dk_at dksX0_change_2 17 rfl rfl)
theorem dX0_change_67 : decode cX0_change 67 = .ok (.astore 4, 2) := dk_58 4 (dk_at dksX0_change_2 20 rfl rfl)
theorem dX0_change_69 : decode cX0_change 69 = .ok (.aload 4, 2) := dk_25 4 (dk_at dksX0_change_2 22 rfl rfl)
theorem dX0_change_71 : decode cX0_change 71 = .ok (.iload_n 1, 1) := dk_27 (dk_at dksX0_change_3 0 rfl rfl)
theorem dX0_change_72 : decode cX0_change 72 = .ok (.iaload, 1) := dk_46 (dk_at dksX0_change_3 1 rfl rfl)
theorem dX0_change_73 : decode cX0_change 73 = .ok (.istore 5, 2) := dk_54 5 (dk_at dksX0_change_3 2 rfl rfl)
theorem dX0_change_75 : decode cX0_change 75 = .ok (.aload 4, 2) := dk_25 4 (dk_at dksX0_change_3 4 rfl rfl)
theorem dX0_change_77 : decode cX0_change 77 = .ok (.iload_n 1, 1) := dk_27 (dk_at dksX0_change_3 6 rfl rfl)
theorem dX0_change_78 : decode cX0_change 78 = .ok (.iload_n 3, 1) := dk_29 (dk_at dksX0_change_3 7 rfl rfl)
theorem dX0_change_79 : decode cX0_change 79 = .ok (.iastore, 1) := dk_79 (dk_at dksX0_change_3 8 rfl rfl)
theorem dX0_change_80 : decode cX0_change 80 = .ok (.iload 5, 2) := dk_21 5 (dk_at dksX0_change_3 9 rfl rfl)
theorem dX0_change_82 : decode cX0_change 82 = .ok (.ireturn, 1) := dk_172 (dk_at dksX0_change_3 11 rfl rfl)
abbrev cX0_say : ByteArray := prog_1_method_29_code
def yX0_say : MethodName := ⟨RX0, "say", "(II)I"⟩
def dkwX0_say_2 : List UInt8 := [29, 172]
abbrev dktX0_say_2 : List UInt8 := dkwX0_say_2 ++ []
def dkwX0_say_1 : List UInt8 := [182, 0, 63, 172, 42, 180, 0, 39, 180, 0, 189, 27, 46, 62, 42, 180, 0, 39, 180, 0, 189, 27, 28, 79]
abbrev dktX0_say_1 : List UInt8 := dkwX0_say_1 ++ dktX0_say_2
def dkwX0_say_0 : List UInt8 := [42, 180, 0, 39, 27, 182, 0, 180, 153, 0, 13, 28, 2, 16, 100, 184, 0, 67, 154, 0, 10, 42, 16, 254]
abbrev dktX0_say_0 : List UInt8 := dkwX0_say_0 ++ dktX0_say_1
theorem dksX0_say_0 : cX0_say.data.toList.drop 0 = dktX0_say_0 := by decide +kernel
theorem dksX0_say_1 : cX0_say.data.toList.drop 24 = dktX0_say_1 := dk_seg dksX0_say_0 24 rfl rfl
theorem dksX0_say_2 : cX0_say.data.toList.drop 48 = dktX0_say_2 := dk_seg dksX0_say_1 24 rfl rfl
theorem dX0_say_0 : decode cX0_say 0 = .ok (.aload_n 0, 1) := dk_42 (dk_at dksX0_say_0 0 rfl rfl)
theorem dX0_say_1 : decode cX0_say 1 = .ok (.getfield 39, 3) := dk_180 0 39 (dk_at dksX0_say_0 1 rfl rfl)
theorem dX0_say_4 : decode cX0_say 4 = .ok (.iload_n 1, 1) := dk_27 (dk_at dksX0_say_0 4 rfl rfl)
theorem dX0_say_5 : decode cX0_say 5 = .ok (.invokevirtual 180, 3) := dk_182 0 180 (dk_at dksX0_say_0 5 rfl rfl)
theorem dX0_say_8 : decode cX0_say 8 = .ok (.ifCond .eq 13, 3) := dk_153 0 13 (dk_at dksX0_say_0 8 rfl rfl)
theorem dX0_say_11 : decode cX0_say 11 = .ok (.iload_n 2, 1) := dk_28 (dk_at dksX0_say_0 11 rfl rfl)
theorem dX0_say_12 : decode cX0_say 12 = .ok (.iconst (-1), 1) := dk_2 (dk_at dksX0_say_0 12 rfl rfl)
theorem dX0_say_13 : decode cX0_say 13 = .ok (.bipush 100, 2) := dk_16 100 (dk_at dksX0_say_0 13 rfl rfl)
theorem dX0_say_15 : decode cX0_say 15 = .ok (.invokestatic 67, 3) := dk_184 0 67 (dk_at dksX0_say_0 15 rfl rfl)
theorem dX0_say_18 : decode cX0_say 18 = .ok (.ifCond .ne 10, 3) := dk_154 0 10 (dk_at dksX0_say_0 18 rfl rfl)
theorem dX0_say_21 : decode cX0_say 21 = .ok (.aload_n 0, 1) := dk_42 (dk_at dksX0_say_0 21 rfl rfl)
theorem dX0_say_22 : decode cX0_say 22 = .ok (.bipush (-2), 2) := dk_16 254 (dk_at dksX0_say_0 22 rfl rfl)
theorem dX0_say_24 : decode cX0_say 24 = .ok (.invokevirtual 63, 3) := dk_182 0 63 (dk_at dksX0_say_1 0 rfl rfl)
theorem dX0_say_27 : decode cX0_say 27 = .ok (.ireturn, 1) := dk_172 (dk_at dksX0_say_1 3 rfl rfl)
theorem dX0_say_28 : decode cX0_say 28 = .ok (.aload_n 0, 1) := dk_42 (dk_at dksX0_say_1 4 rfl rfl)
theorem dX0_say_29 : decode cX0_say 29 = .ok (.getfield 39, 3) := dk_180 0 39 (dk_at dksX0_say_1 5 rfl rfl)
theorem dX0_say_32 : decode cX0_say 32 = .ok (.getfield 189, 3) := dk_180 0 189 (dk_at dksX0_say_1 8 rfl rfl)
theorem dX0_say_35 : decode cX0_say 35 = .ok (.iload_n 1, 1) := dk_27 (dk_at dksX0_say_1 11 rfl rfl)
theorem dX0_say_36 : decode cX0_say 36 = .ok (.iaload, 1) := dk_46 (dk_at dksX0_say_1 12 rfl rfl)
theorem dX0_say_37 : decode cX0_say 37 = .ok (.istore_n 3, 1) := dk_62 (dk_at dksX0_say_1 13 rfl rfl)
theorem dX0_say_38 : decode cX0_say 38 = .ok (.aload_n 0, 1) := dk_42 (dk_at dksX0_say_1 14 rfl rfl)
theorem dX0_say_39 : decode cX0_say 39 = .ok (.getfield 39, 3) := dk_180 0 39 (dk_at dksX0_say_1 15 rfl rfl)
theorem dX0_say_42 : decode cX0_say 42 = .ok (.getfield 189, 3) := dk_180 0 189 (dk_at dksX0_say_1 18 rfl rfl)
theorem dX0_say_45 : decode cX0_say 45 = .ok (.iload_n 1, 1) := dk_27 (dk_at dksX0_say_1 21 rfl rfl)
theorem dX0_say_46 : decode cX0_say 46 = .ok (.iload_n 2, 1) := dk_28 (dk_at dksX0_say_1 22 rfl rfl)
theorem dX0_say_47 : decode cX0_say 47 = .ok (.iastore, 1) := dk_79 (dk_at dksX0_say_1 23 rfl rfl)
theorem dX0_say_48 : decode cX0_say 48 = .ok (.iload_n 3, 1) := dk_29 (dk_at dksX0_say_2 0 rfl rfl)
theorem dX0_say_49 : decode cX0_say 49 = .ok (.ireturn, 1) := dk_172 (dk_at dksX0_say_2 1 rfl rfl)
abbrev cX0_write : ByteArray := prog_1_method_30_code
def yX0_write : MethodName := ⟨RX0, "write", "(I)I"⟩
def dkwX0_write_1 : List UInt8 := [182, 0, 192, 27, 184, 0, 195, 172]
abbrev dktX0_write_1 : List UInt8 := dkwX0_write_1 ++ []
def dkwX0_write_0 : List UInt8 := [27, 3, 42, 182, 0, 153, 184, 0, 67, 154, 0, 10, 42, 16, 254, 182, 0, 63, 172, 42, 180, 0, 39, 27]
abbrev dktX0_write_0 : List UInt8 := dkwX0_write_0 ++ dktX0_write_1
theorem dksX0_write_0 : cX0_write.data.toList.drop 0 = dktX0_write_0 := by decide +kernel
theorem dksX0_write_1 : cX0_write.data.toList.drop 24 = dktX0_write_1 := dk_seg dksX0_write_0 24 rfl rfl
theorem dX0_write_0 : decode cX0_write 0 = .ok (.iload_n 1, 1) := dk_27 (dk_at dksX0_write_0 0 rfl rfl)
theorem dX0_write_1 : decode cX0_write 1 = .ok (.iconst 0, 1) := dk_3 (dk_at dksX0_write_0 1 rfl rfl)
theorem dX0_write_2 : decode cX0_write 2 = .ok (.aload_n 0, 1) := dk_42 (dk_at dksX0_write_0 2 rfl rfl)
theorem dX0_write_3 : decode cX0_write 3 = .ok (.invokevirtual 153, 3) := dk_182 0 153 (dk_at dksX0_write_0 3 rfl rfl)
theorem dX0_write_6 : decode cX0_write 6 = .ok (.invokestatic 67, 3) := dk_184 0 67 (dk_at dksX0_write_0 6 rfl rfl)
theorem dX0_write_9 : decode cX0_write 9 = .ok (.ifCond .ne 10, 3) := dk_154 0 10 (dk_at dksX0_write_0 9 rfl rfl)
theorem dX0_write_12 : decode cX0_write 12 = .ok (.aload_n 0, 1) := dk_42 (dk_at dksX0_write_0 12 rfl rfl)
theorem dX0_write_13 : decode cX0_write 13 = .ok (.bipush (-2), 2) := dk_16 254 (dk_at dksX0_write_0 13 rfl rfl)
theorem dX0_write_15 : decode cX0_write 15 = .ok (.invokevirtual 63, 3) := dk_182 0 63 (dk_at dksX0_write_0 15 rfl rfl)
theorem dX0_write_18 : decode cX0_write 18 = .ok (.ireturn, 1) := dk_172 (dk_at dksX0_write_0 18 rfl rfl)
theorem dX0_write_19 : decode cX0_write 19 = .ok (.aload_n 0, 1) := dk_42 (dk_at dksX0_write_0 19 rfl rfl)
theorem dX0_write_20 : decode cX0_write 20 = .ok (.getfield 39, 3) := dk_180 0 39 (dk_at dksX0_write_0 20 rfl rfl)
theorem dX0_write_23 : decode cX0_write 23 = .ok (.iload_n 1, 1) := dk_27 (dk_at dksX0_write_0 23 rfl rfl)
theorem dX0_write_24 : decode cX0_write 24 = .ok (.invokevirtual 192, 3) := dk_182 0 192 (dk_at dksX0_write_1 0 rfl rfl)
theorem dX0_write_27 : decode cX0_write 27 = .ok (.iload_n 1, 1) := dk_27 (dk_at dksX0_write_1 3 rfl rfl)
theorem dX0_write_28 : decode cX0_write 28 = .ok (.invokestatic 195, 3) := dk_184 0 195 (dk_at dksX0_write_1 4 rfl rfl)
theorem dX0_write_31 : decode cX0_write 31 = .ok (.ireturn, 1) := dk_172 (dk_at dksX0_write_1 7 rfl rfl)
abbrev cX0_letter : ByteArray := prog_1_method_31_code
def yX0_letter : MethodName := ⟨RX0, "letter", "(II)I"⟩
def dkwX0_letter_2 : List UInt8 := [172, 42, 180, 0, 39, 27, 28, 182, 0, 203, 42, 180, 0, 39, 180, 0, 200, 27, 46, 172]
abbrev dktX0_letter_2 : List UInt8 := dkwX0_letter_2 ++ []
def dkwX0_letter_1 : List UInt8 := [182, 0, 63, 172, 42, 180, 0, 39, 180, 0, 200, 27, 46, 16, 99, 160, 0, 10, 42, 16, 250, 182, 0, 63]
abbrev dktX0_letter_1 : List UInt8 := dkwX0_letter_1 ++ dktX0_letter_2
def dkwX0_letter_0 : List UInt8 := [42, 180, 0, 39, 27, 182, 0, 180, 153, 0, 13, 28, 3, 16, 100, 184, 0, 67, 154, 0, 10, 42, 16, 254]
abbrev dktX0_letter_0 : List UInt8 := dkwX0_letter_0 ++ dktX0_letter_1
theorem dksX0_letter_0 : cX0_letter.data.toList.drop 0 = dktX0_letter_0 := by decide +kernel
theorem dksX0_letter_1 : cX0_letter.data.toList.drop 24 = dktX0_letter_1 := dk_seg dksX0_letter_0 24 rfl rfl
theorem dksX0_letter_2 : cX0_letter.data.toList.drop 48 = dktX0_letter_2 := dk_seg dksX0_letter_1 24 rfl rfl
theorem dX0_letter_0 : decode cX0_letter 0 = .ok (.aload_n 0, 1) := dk_42 (dk_at dksX0_letter_0 0 rfl rfl)
theorem dX0_letter_1 : decode cX0_letter 1 = .ok (.getfield 39, 3) := dk_180 0 39 (dk_at dksX0_letter_0 1 rfl rfl)
theorem dX0_letter_4 : decode cX0_letter 4 = .ok (.iload_n 1, 1) := dk_27 (dk_at dksX0_letter_0 4 rfl rfl)
theorem dX0_letter_5 : decode cX0_letter 5 = .ok (.invokevirtual 180, 3) := dk_182 0 180 (dk_at dksX0_letter_0 5 rfl rfl)
theorem dX0_letter_8 : decode cX0_letter 8 = .ok (.ifCond .eq 13, 3) := dk_153 0 13 (dk_at dksX0_letter_0 8 rfl rfl)
theorem dX0_letter_11 : decode cX0_letter 11 = .ok (.iload_n 2, 1) := dk_28 (dk_at dksX0_letter_0 11 rfl rfl)
theorem dX0_letter_12 : decode cX0_letter 12 = .ok (.iconst 0, 1) := dk_3 (dk_at dksX0_letter_0 12 rfl rfl)
theorem dX0_letter_13 : decode cX0_letter 13 = .ok (.bipush 100, 2) := dk_16 100 (dk_at dksX0_letter_0 13 rfl rfl)
theorem dX0_letter_15 : decode cX0_letter 15 = .ok (.invokestatic 67, 3) := dk_184 0 67 (dk_at dksX0_letter_0 15 rfl rfl)
theorem dX0_letter_18 : decode cX0_letter 18 = .ok (.ifCond .ne 10, 3) := dk_154 0 10 (dk_at dksX0_letter_0 18 rfl rfl)
theorem dX0_letter_21 : decode cX0_letter 21 = .ok (.aload_n 0, 1) := dk_42 (dk_at dksX0_letter_0 21 rfl rfl)
theorem dX0_letter_22 : decode cX0_letter 22 = .ok (.bipush (-2), 2) := dk_16 254 (dk_at dksX0_letter_0 22 rfl rfl)
theorem dX0_letter_24 : decode cX0_letter 24 = .ok (.invokevirtual 63, 3) := dk_182 0 63 (dk_at dksX0_letter_1 0 rfl rfl)
theorem dX0_letter_27 : decode cX0_letter 27 = .ok (.ireturn, 1) := dk_172 (dk_at dksX0_letter_1 3 rfl rfl)
theorem dX0_letter_28 : decode cX0_letter 28 = .ok (.aload_n 0, 1) := dk_42 (dk_at dksX0_letter_1 4 rfl rfl)
theorem dX0_letter_29 : decode cX0_letter 29 = .ok (.getfield 39, 3) := dk_180 0 39 (dk_at dksX0_letter_1 5 rfl rfl)
theorem dX0_letter_32 : decode cX0_letter 32 = .ok (.getfield 200, 3) := dk_180 0 200 (dk_at dksX0_letter_1 8 rfl rfl)
theorem dX0_letter_35 : decode cX0_letter 35 = .ok (.iload_n 1, 1) := dk_27 (dk_at dksX0_letter_1 11 rfl rfl)
theorem dX0_letter_36 : decode cX0_letter 36 = .ok (.iaload, 1) := dk_46 (dk_at dksX0_letter_1 12 rfl rfl)
theorem dX0_letter_37 : decode cX0_letter 37 = .ok (.bipush 99, 2) := dk_16 99 (dk_at dksX0_letter_1 13 rfl rfl)
theorem dX0_letter_39 : decode cX0_letter 39 = .ok (.if_icmp .ne 10, 3) := dk_160 0 10 (dk_at dksX0_letter_1 15 rfl rfl)
theorem dX0_letter_42 : decode cX0_letter 42 = .ok (.aload_n 0, 1) := dk_42 (dk_at dksX0_letter_1 18 rfl rfl)
theorem dX0_letter_43 : decode cX0_letter 43 = .ok (.bipush (-6), 2) := dk_16 250 (dk_at dksX0_letter_1 19 rfl rfl)
theorem dX0_letter_45 : decode cX0_letter 45 = .ok (.invokevirtual 63, 3) := dk_182 0 63 (dk_at dksX0_letter_1 21 rfl rfl)
theorem dX0_letter_48 : decode cX0_letter 48 = .ok (.ireturn, 1) := dk_172 (dk_at dksX0_letter_2 0 rfl rfl)
theorem dX0_letter_49 : decode cX0_letter 49 = .ok (.aload_n 0, 1) := dk_42 (dk_at dksX0_letter_2 1 rfl rfl)
theorem dX0_letter_50 : decode cX0_letter 50 = .ok (.getfield 39, 3) := dk_180 0 39 (dk_at dksX0_letter_2 2 rfl rfl)
theorem dX0_letter_53 : decode cX0_letter 53 = .ok (.iload_n 1, 1) := dk_27 (dk_at dksX0_letter_2 5 rfl rfl)
theorem dX0_letter_54 : decode cX0_letter 54 = .ok (.iload_n 2, 1) := dk_28 (dk_at dksX0_letter_2 6 rfl rfl)
theorem dX0_letter_55 : decode cX0_letter 55 = .ok (.invokevirtual 203, 3) := dk_182 0 203 (dk_at dksX0_letter_2 7 rfl rfl)
theorem dX0_letter_58 : decode cX0_letter 58 = .ok (.aload_n 0, 1) := dk_42 (dk_at dksX0_letter_2 10 rfl rfl)
theorem dX0_letter_59 : decode cX0_letter 59 = .ok (.getfield 39, 3) := dk_180 0 39 (dk_at dksX0_letter_2 11 rfl rfl)
theorem dX0_letter_62 : decode cX0_letter 62 = .ok (.getfield 200, 3) := dk_180 0 200 (dk_at dksX0_letter_2 14 rfl rfl)
theorem dX0_letter_65 : decode cX0_letter 65 = .ok (.iload_n 1, 1) := dk_27 (dk_at dksX0_letter_2 17 rfl rfl)
theorem dX0_letter_66 : decode cX0_letter 66 = .ok (.iaload, 1) := dk_46 (dk_at dksX0_letter_2 18 rfl rfl)
theorem dX0_letter_67 : decode cX0_letter 67 = .ok (.ireturn, 1) := dk_172 (dk_at dksX0_letter_2 19 rfl rfl)
abbrev cX0_age : ByteArray := prog_1_method_32_code
def yX0_age : MethodName := ⟨RX0, "age", "(I)I"⟩
def dkwX0_age_1 : List UInt8 := [61, 42, 180, 0, 39, 27, 181, 0, 206, 28, 172]
abbrev dktX0_age_1 : List UInt8 := dkwX0_age_1 ++ []
def dkwX0_age_0 : List UInt8 := [27, 3, 16, 99, 184, 0, 67, 154, 0, 10, 42, 16, 254, 182, 0, 63, 172, 42, 180, 0, 39, 180, 0, 206]
abbrev dktX0_age_0 : List UInt8 := dkwX0_age_0 ++ dktX0_age_1
theorem dksX0_age_0 : cX0_age.data.toList.drop 0 = dktX0_age_0 := by decide +kernel
theorem dksX0_age_1 : cX0_age.data.toList.drop 24 = dktX0_age_1 := dk_seg dksX0_age_0 24 rfl rfl
theorem dX0_age_0 : decode cX0_age 0 = .ok (.iload_n 1, 1) := dk_27 (dk_at dksX0_age_0 0 rfl rfl)
theorem dX0_age_1 : decode cX0_age 1 = .ok (.iconst 0, 1) := dk_3 (dk_at dksX0_age_0 1 rfl rfl)
theorem dX0_age_2 : decode cX0_age 2 = .ok (.bipush 99, 2) := dk_16 99 (dk_at dksX0_age_0 2 rfl rfl)
theorem dX0_age_4 : decode cX0_age 4 = .ok (.invokestatic 67, 3) := dk_184 0 67 (dk_at dksX0_age_0 4 rfl rfl)
theorem dX0_age_7 : decode cX0_age 7 = .ok (.ifCond .ne 10, 3) := dk_154 0 10 (dk_at dksX0_age_0 7 rfl rfl)
theorem dX0_age_10 : decode cX0_age 10 = .ok (.aload_n 0, 1) := dk_42 (dk_at dksX0_age_0 10 rfl rfl)
theorem dX0_age_11 : decode cX0_age 11 = .ok (.bipush (-2), 2) := dk_16 254 (dk_at dksX0_age_0 11 rfl rfl)
theorem dX0_age_13 : decode cX0_age 13 = .ok (.invokevirtual 63, 3) := dk_182 0 63 (dk_at dksX0_age_0 13 rfl rfl)
theorem dX0_age_16 : decode cX0_age 16 = .ok (.ireturn, 1) := dk_172 (dk_at dksX0_age_0 16 rfl rfl)
theorem dX0_age_17 : decode cX0_age 17 = .ok (.aload_n 0, 1) := dk_42 (dk_at dksX0_age_0 17 rfl rfl)
theorem dX0_age_18 : decode cX0_age 18 = .ok (.getfield 39, 3) := dk_180 0 39 (dk_at dksX0_age_0 18 rfl rfl)
theorem dX0_age_21 : decode cX0_age 21 = .ok (.getfield 206, 3) := dk_180 0 206 (dk_at dksX0_age_0 21 rfl rfl)
theorem dX0_age_24 : decode cX0_age 24 = .ok (.istore_n 2, 1) := dk_61 (dk_at dksX0_age_1 0 rfl rfl)
theorem dX0_age_25 : decode cX0_age 25 = .ok (.aload_n 0, 1) := dk_42 (dk_at dksX0_age_1 1 rfl rfl)
theorem dX0_age_26 : decode cX0_age 26 = .ok (.getfield 39, 3) := dk_180 0 39 (dk_at dksX0_age_1 2 rfl rfl)
theorem dX0_age_29 : decode cX0_age 29 = .ok (.iload_n 1, 1) := dk_27 (dk_at dksX0_age_1 5 rfl rfl)
theorem dX0_age_30 : decode cX0_age 30 = .ok (.putfield 206, 3) := dk_181 0 206 (dk_at dksX0_age_1 6 rfl rfl)
theorem dX0_age_33 : decode cX0_age 33 = .ok (.iload_n 2, 1) := dk_28 (dk_at dksX0_age_1 9 rfl rfl)
theorem dX0_age_34 : decode cX0_age 34 = .ok (.ireturn, 1) := dk_172 (dk_at dksX0_age_1 10 rfl rfl)
abbrev cX0_heads : ByteArray := prog_1_method_33_code
def yX0_heads : MethodName := ⟨RX0, "heads", "(II)I"⟩
def dkwX0_heads_1 : List UInt8 := [172, 42, 180, 0, 39, 180, 0, 161, 27, 46, 62, 42, 180, 0, 39, 180, 0, 161, 27, 28, 79, 29, 172]
abbrev dktX0_heads_1 : List UInt8 := dkwX0_heads_1 ++ []
def dkwX0_heads_0 : List UInt8 := [42, 27, 182, 0, 143, 153, 0, 13, 28, 4, 16, 30, 184, 0, 67, 154, 0, 10, 42, 16, 254, 182, 0, 63]
abbrev dktX0_heads_0 : List UInt8 := dkwX0_heads_0 ++ dktX0_heads_1
theorem dksX0_heads_0 : cX0_heads.data.toList.drop 0 = dktX0_heads_0 := by decide +kernel
theorem dksX0_heads_1 : cX0_heads.data.toList.drop 24 = dktX0_heads_1 := dk_seg dksX0_heads_0 24 rfl rfl
theorem dX0_heads_0 : decode cX0_heads 0 = .ok (.aload_n 0, 1) := dk_42 (dk_at dksX0_heads_0 0 rfl rfl)
theorem dX0_heads_1 : decode cX0_heads 1 = .ok (.iload_n 1, 1) := dk_27 (dk_at dksX0_heads_0 1 rfl rfl)
theorem dX0_heads_2 : decode cX0_heads 2 = .ok (.invokevirtual 143, 3) := dk_182 0 143 (dk_at dksX0_heads_0 2 rfl rfl)
theorem dX0_heads_5 : decode cX0_heads 5 = .ok (.ifCond .eq 13, 3) := dk_153 0 13 (dk_at dksX0_heads_0 5 rfl rfl)
theorem dX0_heads_8 : decode cX0_heads 8 = .ok (.iload_n 2, 1) := dk_28 (dk_at dksX0_heads_0 8 rfl rfl)
theorem dX0_heads_9 : decode cX0_heads 9 = .ok (.iconst 1, 1) := dk_4 (dk_at dksX0_heads_0 9 rfl rfl)
theorem dX0_heads_10 : decode cX0_heads 10 = .ok (.bipush 30, 2) := dk_16 30 (dk_at dksX0_heads_0 10 rfl rfl)
theorem dX0_heads_12 : decode cX0_heads 12 = .ok (.invokestatic 67, 3) := dk_184 0 67 (dk_at dksX0_heads_0 12 rfl rfl)
theorem dX0_heads_15 : decode cX0_heads 15 = .ok (.ifCond .ne 10, 3) := dk_154 0 10 (dk_at dksX0_heads_0 15 rfl rfl)
theorem dX0_heads_18 : decode cX0_heads 18 = .ok (.aload_n 0, 1) := dk_42 (dk_at dksX0_heads_0 18 rfl rfl)
theorem dX0_heads_19 : decode cX0_heads 19 = .ok (.bipush (-2), 2) := dk_16 254 (dk_at dksX0_heads_0 19 rfl rfl)
theorem dX0_heads_21 : decode cX0_heads 21 = .ok (.invokevirtual 63, 3) := dk_182 0 63 (dk_at dksX0_heads_0 21 rfl rfl)
theorem dX0_heads_24 : decode cX0_heads 24 = .ok (.ireturn, 1) := dk_172 (dk_at dksX0_heads_1 0 rfl rfl)
theorem dX0_heads_25 : decode cX0_heads 25 = .ok (.aload_n 0, 1) := dk_42 (dk_at dksX0_heads_1 1 rfl rfl)
theorem dX0_heads_26 : decode cX0_heads 26 = .ok (.getfield 39, 3) := dk_180 0 39 (dk_at dksX0_heads_1 2 rfl rfl)
theorem dX0_heads_29 : decode cX0_heads 29 = .ok (.getfield 161, 3) := dk_180 0 161 (dk_at dksX0_heads_1 5 rfl rfl)
theorem dX0_heads_32 : decode cX0_heads 32 = .ok (.iload_n 1, 1) := dk_27 (dk_at dksX0_heads_1 8 rfl rfl)
theorem dX0_heads_33 : decode cX0_heads 33 = .ok (.iaload, 1) := dk_46 (dk_at dksX0_heads_1 9 rfl rfl)
theorem dX0_heads_34 : decode cX0_heads 34 = .ok (.istore_n 3, 1) := dk_62 (dk_at dksX0_heads_1 10 rfl rfl)
theorem dX0_heads_35 : decode cX0_heads 35 = .ok (.aload_n 0, 1) := dk_42 (dk_at dksX0_heads_1 11 rfl rfl)
theorem dX0_heads_36 : decode cX0_heads 36 = .ok (.getfield 39, 3) := dk_180 0 39 (dk_at dksX0_heads_1 12 rfl rfl)
theorem dX0_heads_39 : decode cX0_heads 39 = .ok (.getfield 161, 3) := dk_180 0 161 (dk_at dksX0_heads_1 15 rfl rfl)
theorem dX0_heads_42 : decode cX0_heads 42 = .ok (.iload_n 1, 1) := dk_27 (dk_at dksX0_heads_1 18 rfl rfl)
theorem dX0_heads_43 : decode cX0_heads 43 = .ok (.iload_n 2, 1) := dk_28 (dk_at dksX0_heads_1 19 rfl rfl)
theorem dX0_heads_44 : decode cX0_heads 44 = .ok (.iastore, 1) := dk_79 (dk_at dksX0_heads_1 20 rfl rfl)
theorem dX0_heads_45 : decode cX0_heads 45 = .ok (.iload_n 3, 1) := dk_29 (dk_at dksX0_heads_1 21 rfl rfl)
theorem dX0_heads_46 : decode cX0_heads 46 = .ok (.ireturn, 1) := dk_172 (dk_at dksX0_heads_1 22 rfl rfl)
abbrev cX0_feed : ByteArray := prog_1_method_34_code
def yX0_feed : MethodName := ⟨RX0, "feed", "(I)I"⟩
def dkwX0_feed_2 : List UInt8 := [89, 180, 0, 209, 4, 96, 181, 0, 209, 42, 180, 0, 209, 172]
abbrev dktX0_feed_2 : List UInt8 := dkwX0_feed_2 ++ []
def dkwX0_feed_1 : List UInt8 := [17, 0, 250, 160, 0, 10, 42, 16, 250, 182, 0, 63, 172, 42, 180, 0, 54, 42, 180, 0, 209, 27, 79, 42]
abbrev dktX0_feed_1 : List UInt8 := dkwX0_feed_1 ++ dktX0_feed_2
def dkwX0_feed_0 : List UInt8 := [27, 3, 17, 0, 255, 184, 0, 67, 154, 0, 10, 42, 16, 254, 182, 0, 63, 172, 42, 180, 0, 209]
abbrev dktX0_feed_0 : List UInt8 := dkwX0_feed_0 ++ dktX0_feed_1
theorem dksX0_feed_0 : cX0_feed.data.toList.drop 0 = dktX0_feed_0 := by decide +kernel
theorem dksX0_feed_1 : cX0_feed.data.toList.drop 22 = dktX0_feed_1 := dk_seg dksX0_feed_0 22 rfl rfl
theorem dksX0_feed_2 : cX0_feed.data.toList.drop 46 = dktX0_feed_2 := dk_seg dksX0_feed_1 24 rfl rfl
theorem dX0_feed_0 : decode cX0_feed 0 = .ok (.iload_n 1, 1) := dk_27 (dk_at dksX0_feed_0 0 rfl rfl)
theorem dX0_feed_1 : decode cX0_feed 1 = .ok (.iconst 0, 1) := dk_3 (dk_at dksX0_feed_0 1 rfl rfl)
theorem dX0_feed_2 : decode cX0_feed 2 = .ok (.sipush 255, 3) := dk_17 0 255 (dk_at dksX0_feed_0 2 rfl rfl)
theorem dX0_feed_5 : decode cX0_feed 5 = .ok (.invokestatic 67, 3) := dk_184 0 67 (dk_at dksX0_feed_0 5 rfl rfl)
theorem dX0_feed_8 : decode cX0_feed 8 = .ok (.ifCond .ne 10, 3) := dk_154 0 10 (dk_at dksX0_feed_0 8 rfl rfl)
theorem dX0_feed_11 : decode cX0_feed 11 = .ok (.aload_n 0, 1) := dk_42 (dk_at dksX0_feed_0 11 rfl rfl)
theorem dX0_feed_12 : decode cX0_feed 12 = .ok (.bipush (-2), 2) := dk_16 254 (dk_at dksX0_feed_0 12 rfl rfl)
theorem dX0_feed_14 : decode cX0_feed 14 = .ok (.invokevirtual 63, 3) := dk_182 0 63 (dk_at dksX0_feed_0 14 rfl rfl)
theorem dX0_feed_17 : decode cX0_feed 17 = .ok (.ireturn, 1) := dk_172 (dk_at dksX0_feed_0 17 rfl rfl)
theorem dX0_feed_18 : decode cX0_feed 18 = .ok (.aload_n 0, 1) := dk_42 (dk_at dksX0_feed_0 18 rfl rfl)
theorem dX0_feed_19 : decode cX0_feed 19 = .ok (.getfield 209, 3) := dk_180 0 209 (dk_at dksX0_feed_0 19 rfl rfl)
theorem dX0_feed_22 : decode cX0_feed 22 = .ok (.sipush 250, 3) := dk_17 0 250 (dk_at dksX0_feed_1 0 rfl rfl)
theorem dX0_feed_25 : decode cX0_feed 25 = .ok (.if_icmp .ne 10, 3) := dk_160 0 10 (dk_at dksX0_feed_1 3 rfl rfl)
theorem dX0_feed_28 : decode cX0_feed 28 = .ok (.aload_n 0, 1) := dk_42 (dk_at dksX0_feed_1 6 rfl rfl)
theorem dX0_feed_29 : decode cX0_feed 29 = .ok (.bipush (-6), 2) := dk_16 250 (dk_at dksX0_feed_1 7 rfl rfl)
theorem dX0_feed_31 : decode cX0_feed 31 = .ok (.invokevirtual 63, 3) := dk_182 0 63 (dk_at dksX0_feed_1 9 rfl rfl)
theorem dX0_feed_34 : decode cX0_feed 34 = .ok (.ireturn, 1) := dk_172 (dk_at dksX0_feed_1 12 rfl rfl)
theorem dX0_feed_35 : decode cX0_feed 35 = .ok (.aload_n 0, 1) := dk_42 (dk_at dksX0_feed_1 13 rfl rfl)
theorem dX0_feed_36 : decode cX0_feed 36 = .ok (.getfield 54, 3) := dk_180 0 54 (dk_at dksX0_feed_1 14 rfl rfl)
theorem dX0_feed_39 : decode cX0_feed 39 = .ok (.aload_n 0, 1) := dk_42 (dk_at dksX0_feed_1 17 rfl rfl)
theorem dX0_feed_40 : decode cX0_feed 40 = .ok (.getfield 209, 3) := dk_180 0 209 (dk_at dksX0_feed_1 18 rfl rfl)
theorem dX0_feed_43 : decode cX0_feed 43 = .ok (.iload_n 1, 1) := dk_27 (dk_at dksX0_feed_1 21 rfl rfl)
theorem dX0_feed_44 : decode cX0_feed 44 = .ok (.iastore, 1) := dk_79 (dk_at dksX0_feed_1 22 rfl rfl)
theorem dX0_feed_45 : decode cX0_feed 45 = .ok (.aload_n 0, 1) := dk_42 (dk_at dksX0_feed_1 23 rfl rfl)
theorem dX0_feed_46 : decode cX0_feed 46 = .ok (.dup, 1) := dk_89 (dk_at dksX0_feed_2 0 rfl rfl)
theorem dX0_feed_47 : decode cX0_feed 47 = .ok (.getfield 209, 3) := dk_180 0 209 (dk_at dksX0_feed_2 1 rfl rfl)
theorem dX0_feed_50 : decode cX0_feed 50 = .ok (.iconst 1, 1) := dk_4 (dk_at dksX0_feed_2 4 rfl rfl)
theorem dX0_feed_51 : decode cX0_feed 51 = .ok (.iadd, 1) := dk_96 (dk_at dksX0_feed_2 5 rfl rfl)
theorem dX0_feed_52 : decode cX0_feed 52 = .ok (.putfield 209, 3) := dk_181 0 209 (dk_at dksX0_feed_2 6 rfl rfl)
theorem dX0_feed_55 : decode cX0_feed 55 = .ok (.aload_n 0, 1) := dk_42 (dk_at dksX0_feed_2 9 rfl rfl)
theorem dX0_feed_56 : decode cX0_feed 56 = .ok (.getfield 209, 3) := dk_180 0 209 (dk_at dksX0_feed_2 10 rfl rfl)
theorem dX0_feed_59 : decode cX0_feed 59 = .ok (.ireturn, 1) := dk_172 (dk_at dksX0_feed_2 13 rfl rfl)
abbrev cX0_wipe : ByteArray := prog_1_method_35_code
def yX0_wipe : MethodName := ⟨RX0, "wipe", "()I"⟩
def dkwX0_wipe_0 : List UInt8 := [42, 180, 0, 209, 60, 42, 3, 181, 0, 209, 27, 172]
abbrev dktX0_wipe_0 : List UInt8 := dkwX0_wipe_0 ++ []
theorem dksX0_wipe_0 : cX0_wipe.data.toList.drop 0 = dktX0_wipe_0 := by decide +kernel
theorem dX0_wipe_0 : decode cX0_wipe 0 = .ok (.aload_n 0, 1) := dk_42 (dk_at dksX0_wipe_0 0 rfl rfl)
theorem dX0_wipe_1 : decode cX0_wipe 1 = .ok (.getfield 209, 3) := dk_180 0 209 (dk_at dksX0_wipe_0 1 rfl rfl)
theorem dX0_wipe_4 : decode cX0_wipe 4 = .ok (.istore_n 1, 1) := dk_60 (dk_at dksX0_wipe_0 4 rfl rfl)
theorem dX0_wipe_5 : decode cX0_wipe 5 = .ok (.aload_n 0, 1) := dk_42 (dk_at dksX0_wipe_0 5 rfl rfl)
theorem dX0_wipe_6 : decode cX0_wipe 6 = .ok (.iconst 0, 1) := dk_3 (dk_at dksX0_wipe_0 6 rfl rfl)
theorem dX0_wipe_7 : decode cX0_wipe 7 = .ok (.putfield 209, 3) := dk_181 0 209 (dk_at dksX0_wipe_0 7 rfl rfl)
theorem dX0_wipe_10 : decode cX0_wipe 10 = .ok (.iload_n 1, 1) := dk_27 (dk_at dksX0_wipe_0 10 rfl rfl)
theorem dX0_wipe_11 : decode cX0_wipe 11 = .ok (.ireturn, 1) := dk_172 (dk_at dksX0_wipe_0 11 rfl rfl)
abbrev cX0_valley : ByteArray := prog_1_method_36_code
def yX0_valley : MethodName := ⟨RX0, "valley", "()I"⟩
def dkwX0_valley_3 : List UInt8 := [3, 181, 0, 209, 25, 4, 191]
abbrev dktX0_valley_3 : List UInt8 := dkwX0_valley_3 ++ []
def dkwX0_valley_2 : List UInt8 := [16, 254, 182, 0, 63, 87, 16, 236, 43, 180, 0, 229, 100, 61, 42, 3, 181, 0, 209, 28, 172, 58, 4, 42]
abbrev dktX0_valley_2 : List UInt8 := dkwX0_valley_2 ++ dktX0_valley_3
def dkwX0_valley_1 : List UInt8 := [182, 0, 221, 61, 42, 43, 180, 0, 224, 181, 0, 39, 28, 62, 42, 3, 181, 0, 209, 29, 172, 76, 42]
abbrev dktX0_valley_1 : List UInt8 := dkwX0_valley_1 ++ dktX0_valley_2
def dkwX0_valley_0 : List UInt8 := [187, 0, 212, 89, 42, 180, 0, 54, 42, 180, 0, 209, 42, 180, 0, 39, 182, 0, 214, 183, 0, 218, 76, 43]
abbrev dktX0_valley_0 : List UInt8 := dkwX0_valley_0 ++ dktX0_valley_1
theorem dksX0_valley_0 : cX0_valley.data.toList.drop 0 = dktX0_valley_0 := by decide +kernel
theorem dksX0_valley_1 : cX0_valley.data.toList.drop 24 = dktX0_valley_1 := dk_seg dksX0_valley_0 24 rfl rfl
theorem dksX0_valley_2 : cX0_valley.data.toList.drop 47 = dktX0_valley_2 := dk_seg dksX0_valley_1 23 rfl rfl
theorem dksX0_valley_3 : cX0_valley.data.toList.drop 71 = dktX0_valley_3 := dk_seg dksX0_valley_2 24 rfl rfl
theorem dX0_valley_0 : decode cX0_valley 0 = .ok (.new 212, 3) := dk_187 0 212 (dk_at dksX0_valley_0 0 rfl rfl)
theorem dX0_valley_3 : decode cX0_valley 3 = .ok (.dup, 1) := dk_89 (dk_at dksX0_valley_0 3 rfl rfl)
theorem dX0_valley_4 : decode cX0_valley 4 = .ok (.aload_n 0, 1) := dk_42 (dk_at dksX0_valley_0 4 rfl rfl)
theorem dX0_valley_5 : decode cX0_valley 5 = .ok (.getfield 54, 3) := dk_180 0 54 (dk_at dksX0_valley_0 5 rfl rfl)
theorem dX0_valley_8 : decode cX0_valley 8 = .ok (.aload_n 0, 1) := dk_42 (dk_at dksX0_valley_0 8 rfl rfl)
theorem dX0_valley_9 : decode cX0_valley 9 = .ok (.getfield 209, 3) := dk_180 0 209 (dk_at dksX0_valley_0 9 rfl rfl)
theorem dX0_valley_12 : decode cX0_valley 12 = .ok (.aload_n 0, 1) := dk_42 (dk_at dksX0_valley_0 12 rfl rfl)
theorem dX0_valley_13 : decode cX0_valley 13 = .ok (.getfield 39, 3) := dk_180 0 39 (dk_at dksX0_valley_0 13 rfl rfl)
theorem dX0_valley_16 : decode cX0_valley 16 = .ok (.invokevirtual 214, 3) := dk_182 0 214 (dk_at dksX0_valley_0 16 rfl rfl)
theorem dX0_valley_19 : decode cX0_valley 19 = .ok (.invokespecial 218, 3) := dk_183 0 218 (dk_at dksX0_valley_0 19 rfl rfl)
theorem dX0_valley_22 : decode cX0_valley 22 = .ok (.astore_n 1, 1) := dk_76 (dk_at dksX0_valley_0 22 rfl rfl)
theorem dX0_valley_23 : decode cX0_valley 23 = .ok (.aload_n 1, 1) := dk_43 (dk_at dksX0_valley_0 23 rfl rfl)
theorem dX0_valley_24 : decode cX0_valley 24 = .ok (.invokevirtual 221, 3) := dk_182 0 221 (dk_at dksX0_valley_1 0 rfl rfl)
theorem dX0_valley_27 : decode cX0_valley 27 = .ok (.istore_n 2, 1) := dk_61 (dk_at dksX0_valley_1 3 rfl rfl)
theorem dX0_valley_28 : decode cX0_valley 28 = .ok (.aload_n 0, 1) := dk_42 (dk_at dksX0_valley_1 4 rfl rfl)
theorem dX0_valley_29 : decode cX0_valley 29 = .ok (.aload_n 1, 1) := dk_43 (dk_at dksX0_valley_1 5 rfl rfl)
theorem dX0_valley_30 : decode cX0_valley 30 = .ok (.getfield 224, 3) := dk_180 0 224 (dk_at dksX0_valley_1 6 rfl rfl)
theorem dX0_valley_33 : decode cX0_valley 33 = .ok (.putfield 39, 3) := dk_181 0 39 (dk_at dksX0_valley_1 9 rfl rfl)
theorem dX0_valley_36 : decode cX0_valley 36 = .ok (.iload_n 2, 1) := dk_28 (dk_at dksX0_valley_1 12 rfl rfl)
theorem dX0_valley_37 : decode cX0_valley 37 = .ok (.istore_n 3, 1) := dk_62 (dk_at dksX0_valley_1 13 rfl rfl)
theorem dX0_valley_38 : decode cX0_valley 38 = .ok (.aload_n 0, 1) := dk_42 (dk_at dksX0_valley_1 14 rfl rfl)
theorem dX0_valley_39 : decode cX0_valley 39 = .ok (.iconst 0, 1) := dk_3 (dk_at dksX0_valley_1 15 rfl rfl)
theorem dX0_valley_40 : decode cX0_valley 40 = .ok (.putfield 209, 3) := dk_181 0 209 (dk_at dksX0_valley_1 16 rfl rfl)
theorem dX0_valley_43 : decode cX0_valley 43 = .ok (.iload_n 3, 1) := dk_29 (dk_at dksX0_valley_1 19 rfl rfl)
theorem dX0_valley_44 : decode cX0_valley 44 = .ok (.ireturn, 1) := dk_172 (dk_at dksX0_valley_1 20 rfl rfl)
theorem dX0_valley_45 : decode cX0_valley 45 = .ok (.astore_n 1, 1) := dk_76 (dk_at dksX0_valley_1 21 rfl rfl)
theorem dX0_valley_46 : decode cX0_valley 46 = .ok (.aload_n 0, 1) := dk_42 (dk_at dksX0_valley_1 22 rfl rfl)
theorem dX0_valley_47 : decode cX0_valley 47 = .ok (.bipush (-2), 2) := dk_16 254 (dk_at dksX0_valley_2 0 rfl rfl)
theorem dX0_valley_49 : decode cX0_valley 49 = .ok (.invokevirtual 63, 3) := dk_182 0 63 (dk_at dksX0_valley_2 2 rfl rfl)
theorem dX0_valley_52 : decode cX0_valley 52 = .ok (.pop, 1) := dk_87 (dk_at dksX0_valley_2 5 rfl rfl)
theorem dX0_valley_53 : decode cX0_valley 53 = .ok (.bipush (-20), 2) := dk_16 236 (dk_at dksX0_valley_2 6 rfl rfl)
theorem dX0_valley_55 : decode cX0_valley 55 = .ok (.aload_n 1, 1) := dk_43 (dk_at dksX0_valley_2 8 rfl rfl)
theorem dX0_valley_56 : decode cX0_valley 56 = .ok (.getfield 229, 3) := dk_180 0 229 (dk_at dksX0_valley_2 9 rfl rfl)
theorem dX0_valley_59 : decode cX0_valley 59 = .ok (.isub, 1) := dk_100 (dk_at dksX0_valley_2 12 rfl rfl)
theorem dX0_valley_60 : decode cX0_valley 60 = .ok (.istore_n 2, 1) := dk_61 (dk_at dksX0_valley_2 13 rfl rfl)
theorem dX0_valley_61 : decode cX0_valley 61 = .ok (.aload_n 0, 1) := dk_42 (dk_at dksX0_valley_2 14 rfl rfl)
theorem dX0_valley_62 : decode cX0_valley 62 = .ok (.iconst 0, 1) := dk_3 (dk_at dksX0_valley_2 15 rfl rfl)
theorem dX0_valley_63 : decode cX0_valley 63 = .ok (.putfield 209, 3) := dk_181 0 209 (dk_at dksX0_valley_2 16 rfl rfl)
theorem dX0_valley_66 : decode cX0_valley 66 = .ok (.iload_n 2, 1) := dk_28 (dk_at dksX0_valley_2 19 rfl rfl)
theorem dX0_valley_67 : decode cX0_valley 67 = .ok (.ireturn, 1) := dk_172 (dk_at dksX0_valley_2 20 rfl rfl)
theorem dX0_valley_68 : decode cX0_valley 68 = .ok (.astore 4, 2) := dk_58 4 (dk_at dksX0_valley_2 21 rfl rfl)
theorem dX0_valley_70 : decode cX0_valley 70 = .ok (.aload_n 0, 1) := dk_42 (dk_at dksX0_valley_2 23 rfl rfl)
theorem dX0_valley_71 : decode cX0_valley 71 = .ok (.iconst 0, 1) := dk_3 (dk_at dksX0_valley_3 0 rfl rfl)
theorem dX0_valley_72 : decode cX0_valley 72 = .ok (.putfield 209, 3) := dk_181 0 209 (dk_at dksX0_valley_3 1 rfl rfl)
theorem dX0_valley_75 : decode cX0_valley 75 = .ok (.aload 4, 2) := dk_25 4 (dk_at dksX0_valley_3 4 rfl rfl)
theorem dX0_valley_77 : decode cX0_valley 77 = .ok (.athrow, 1) := dk_191 (dk_at dksX0_valley_3 6 rfl rfl)
abbrev cX0_innOf : ByteArray := prog_1_method_37_code
def yX0_innOf : MethodName := ⟨RX0, "innOf", "(II)I"⟩
def dkwX0_innOf_5 : List UInt8 := [16, 254, 182, 0, 63, 172]
abbrev dktX0_innOf_5 : List UInt8 := dkwX0_innOf_5 ++ []
def dkwX0_innOf_4 : List UInt8 := [46, 172, 42, 180, 0, 39, 180, 0, 200, 27, 46, 172, 42, 180, 0, 39, 180, 0, 238, 27, 46, 172, 42]
abbrev dktX0_innOf_4 : List UInt8 := dkwX0_innOf_4 ++ dktX0_innOf_5
def dkwX0_innOf_3 : List UInt8 := [180, 0, 235, 27, 46, 172, 42, 180, 0, 39, 180, 0, 186, 27, 46, 172, 42, 180, 0, 39, 180, 0, 189, 27]
abbrev dktX0_innOf_3 : List UInt8 := dkwX0_innOf_3 ++ dktX0_innOf_4
def dkwX0_innOf_2 : List UInt8 := [42, 180, 0, 39, 180, 0, 183, 27, 46, 172, 42, 180, 0, 39, 180, 0, 232, 27, 46, 172, 42, 180, 0, 39]
abbrev dktX0_innOf_2 : List UInt8 := dkwX0_innOf_2 ++ dktX0_innOf_3
def dkwX0_innOf_1 : List UInt8 := [170, 0, 0, 0, 111, 0, 0, 0, 0, 0, 0, 0, 6, 0, 0, 0, 41, 0, 0, 0, 51, 0, 0, 0, 61, 0, 0, 0, 71, 0, 0, 0, 81, 0, 0, 0, 91, 0, 0, 0, 101]
abbrev dktX0_innOf_1 : List UInt8 := dkwX0_innOf_1 ++ dktX0_innOf_2
def dkwX0_innOf_0 : List UInt8 := [42, 180, 0, 39, 27, 182, 0, 180, 154, 0, 10, 42, 16, 254, 182, 0, 63, 172, 28]
abbrev dktX0_innOf_0 : List UInt8 := dkwX0_innOf_0 ++ dktX0_innOf_1
theorem dksX0_innOf_0 : cX0_innOf.data.toList.drop 0 = dktX0_innOf_0 := by decide +kernel
theorem dksX0_innOf_1 : cX0_innOf.data.toList.drop 19 = dktX0_innOf_1 := dk_seg dksX0_innOf_0 19 rfl rfl
theorem dksX0_innOf_2 : cX0_innOf.data.toList.drop 60 = dktX0_innOf_2 := dk_seg dksX0_innOf_1 41 rfl rfl
theorem dksX0_innOf_3 : cX0_innOf.data.toList.drop 84 = dktX0_innOf_3 := dk_seg dksX0_innOf_2 24 rfl rfl
theorem dksX0_innOf_4 : cX0_innOf.data.toList.drop 108 = dktX0_innOf_4 := dk_seg dksX0_innOf_3 24 rfl rfl
theorem dksX0_innOf_5 : cX0_innOf.data.toList.drop 131 = dktX0_innOf_5 := dk_seg dksX0_innOf_4 23 rfl rfl
theorem dX0_innOf_0 : decode cX0_innOf 0 = .ok (.aload_n 0, 1) := dk_42 (dk_at dksX0_innOf_0 0 rfl rfl)
theorem dX0_innOf_1 : decode cX0_innOf 1 = .ok (.getfield 39, 3) := dk_180 0 39 (dk_at dksX0_innOf_0 1 rfl rfl)
theorem dX0_innOf_4 : decode cX0_innOf 4 = .ok (.iload_n 1, 1) := dk_27 (dk_at dksX0_innOf_0 4 rfl rfl)
theorem dX0_innOf_5 : decode cX0_innOf 5 = .ok (.invokevirtual 180, 3) := dk_182 0 180 (dk_at dksX0_innOf_0 5 rfl rfl)
theorem dX0_innOf_8 : decode cX0_innOf 8 = .ok (.ifCond .ne 10, 3) := dk_154 0 10 (dk_at dksX0_innOf_0 8 rfl rfl)
theorem dX0_innOf_11 : decode cX0_innOf 11 = .ok (.aload_n 0, 1) := dk_42 (dk_at dksX0_innOf_0 11 rfl rfl)
theorem dX0_innOf_12 : decode cX0_innOf 12 = .ok (.bipush (-2), 2) := dk_16 254 (dk_at dksX0_innOf_0 12 rfl rfl)
theorem dX0_innOf_14 : decode cX0_innOf 14 = .ok (.invokevirtual 63, 3) := dk_182 0 63 (dk_at dksX0_innOf_0 14 rfl rfl)
theorem dX0_innOf_17 : decode cX0_innOf 17 = .ok (.ireturn, 1) := dk_172 (dk_at dksX0_innOf_0 17 rfl rfl)
theorem dX0_innOf_18 : decode cX0_innOf 18 = .ok (.iload_n 2, 1) := dk_28 (dk_at dksX0_innOf_0 18 rfl rfl)
theorem dX0_innOf_19 : decode cX0_innOf 19 = .ok (.tableswitch 111 0 6 #[41, 51, 61, 71, 81, 91, 101], 41) := by decide +kernel
theorem dX0_innOf_60 : decode cX0_innOf 60 = .ok (.aload_n 0, 1) := dk_42 (dk_at dksX0_innOf_2 0 rfl rfl)
theorem dX0_innOf_61 : decode cX0_innOf 61 = .ok (.getfield 39, 3) := dk_180 0 39 (dk_at dksX0_innOf_2 1 rfl rfl)
theorem dX0_innOf_64 : decode cX0_innOf 64 = .ok (.getfield 183, 3) := dk_180 0 183 (dk_at dksX0_innOf_2 4 rfl rfl)
theorem dX0_innOf_67 : decode cX0_innOf 67 = .ok (.iload_n 1, 1) := dk_27 (dk_at dksX0_innOf_2 7 rfl rfl)
theorem dX0_innOf_68 : decode cX0_innOf 68 = .ok (.iaload, 1) := dk_46 (dk_at dksX0_innOf_2 8 rfl rfl)
theorem dX0_innOf_69 : decode cX0_innOf 69 = .ok (.ireturn, 1) := dk_172 (dk_at dksX0_innOf_2 9 rfl rfl)
theorem dX0_innOf_70 : decode cX0_innOf 70 = .ok (.aload_n 0, 1) := dk_42 (dk_at dksX0_innOf_2 10 rfl rfl)
theorem dX0_innOf_71 : decode cX0_innOf 71 = .ok (.getfield 39, 3) := dk_180 0 39 (dk_at dksX0_innOf_2 11 rfl rfl)
theorem dX0_innOf_74 : decode cX0_innOf 74 = .ok (.getfield 232, 3) := dk_180 0 232 (dk_at dksX0_innOf_2 14 rfl rfl)
theorem dX0_innOf_77 : decode cX0_innOf 77 = .ok (.iload_n 1, 1) := dk_27 (dk_at dksX0_innOf_2 17 rfl rfl)
theorem dX0_innOf_78 : decode cX0_innOf 78 = .ok (.iaload, 1) := dk_46 (dk_at dksX0_innOf_2 18 rfl rfl)
theorem dX0_innOf_79 : decode cX0_innOf 79 = .ok (.ireturn, 1) := dk_172 (dk_at dksX0_innOf_2 19 rfl rfl)
theorem dX0_innOf_80 : decode cX0_innOf 80 = .ok (.aload_n 0, 1) := dk_42 (dk_at dksX0_innOf_2 20 rfl rfl)
theorem dX0_innOf_81 : decode cX0_innOf 81 = .ok (.getfield 39, 3) := dk_180 0 39 (dk_at dksX0_innOf_2 21 rfl rfl)
theorem dX0_innOf_84 : decode cX0_innOf 84 = .ok (.getfield 235, 3) := dk_180 0 235 (dk_at dksX0_innOf_3 0 rfl rfl)
theorem dX0_innOf_87 : decode cX0_innOf 87 = .ok (.iload_n 1, 1) := dk_27 (dk_at dksX0_innOf_3 3 rfl rfl)
theorem dX0_innOf_88 : decode cX0_innOf 88 = .ok (.iaload, 1) := dk_46 (dk_at dksX0_innOf_3 4 rfl rfl)
theorem dX0_innOf_89 : decode cX0_innOf 89 = .ok (.ireturn, 1) := dk_172 (dk_at dksX0_innOf_3 5 rfl rfl)
theorem dX0_innOf_90 : decode cX0_innOf 90 = .ok (.aload_n 0, 1) := dk_42 (dk_at dksX0_innOf_3 6 rfl rfl)
theorem dX0_innOf_91 : decode cX0_innOf 91 = .ok (.getfield 39, 3) := dk_180 0 39 (dk_at dksX0_innOf_3 7 rfl rfl)
theorem dX0_innOf_94 : decode cX0_innOf 94 = .ok (.getfield 186, 3) := dk_180 0 186 (dk_at dksX0_innOf_3 10 rfl rfl)
theorem dX0_innOf_97 : decode cX0_innOf 97 = .ok (.iload_n 1, 1) := dk_27 (dk_at dksX0_innOf_3 13 rfl rfl)
theorem dX0_innOf_98 : decode cX0_innOf 98 = .ok (.iaload, 1) := dk_46 (dk_at dksX0_innOf_3 14 rfl rfl)
theorem dX0_innOf_99 : decode cX0_innOf 99 = .ok (.ireturn, 1) := dk_172 (dk_at dksX0_innOf_3 15 rfl rfl)
theorem dX0_innOf_100 : decode cX0_innOf 100 = .ok (.aload_n 0, 1) := dk_42 (dk_at dksX0_innOf_3 16 rfl rfl)
theorem dX0_innOf_101 : decode cX0_innOf 101 = .ok (.getfield 39, 3) := dk_180 0 39 (dk_at dksX0_innOf_3 17 rfl rfl)
theorem dX0_innOf_104 : decode cX0_innOf 104 = .ok (.getfield 189, 3) := dk_180 0 189 (dk_at dksX0_innOf_3 20 rfl rfl)
theorem dX0_innOf_107 : decode cX0_innOf 107 = .ok (.iload_n 1, 1) := dk_27 (dk_at dksX0_innOf_3 23 rfl rfl)
theorem dX0_innOf_108 : decode cX0_innOf 108 = .ok (.iaload, 1) := dk_46 (dk_at dksX0_innOf_4 0 rfl rfl)
theorem dX0_innOf_109 : decode cX0_innOf 109 = .ok (.ireturn, 1) := dk_172 (dk_at dksX0_innOf_4 1 rfl rfl)
theorem dX0_innOf_110 : decode cX0_innOf 110 = .ok (.aload_n 0, 1) := dk_42 (dk_at dksX0_innOf_4 2 rfl rfl)
theorem dX0_innOf_111 : decode cX0_innOf 111 = .ok (.getfield 39, 3) := dk_180 0 39 (dk_at dksX0_innOf_4 3 rfl rfl)
theorem dX0_innOf_114 : decode cX0_innOf 114 = .ok (.getfield 200, 3) := dk_180 0 200 (dk_at dksX0_innOf_4 6 rfl rfl)
theorem dX0_innOf_117 : decode cX0_innOf 117 = .ok (.iload_n 1, 1) := dk_27 (dk_at dksX0_innOf_4 9 rfl rfl)
theorem dX0_innOf_118 : decode cX0_innOf 118 = .ok (.iaload, 1) := dk_46 (dk_at dksX0_innOf_4 10 rfl rfl)
theorem dX0_innOf_119 : decode cX0_innOf 119 = .ok (.ireturn, 1) := dk_172 (dk_at dksX0_innOf_4 11 rfl rfl)
theorem dX0_innOf_120 : decode cX0_innOf 120 = .ok (.aload_n 0, 1) := dk_42 (dk_at dksX0_innOf_4 12 rfl rfl)
theorem dX0_innOf_121 : decode cX0_innOf 121 = .ok (.getfield 39, 3) := dk_180 0 39 (dk_at dksX0_innOf_4 13 rfl rfl)
theorem dX0_innOf_124 : decode cX0_innOf 124 = .ok (.getfield 238, 3) := dk_180 0 238 (dk_at dksX0_innOf_4 16 rfl rfl)
theorem dX0_innOf_127 : decode cX0_innOf 127 = .ok (.iload_n 1, 1) := dk_27 (dk_at dksX0_innOf_4 19 rfl rfl)
theorem dX0_innOf_128 : decode cX0_innOf 128 = .ok (.iaload, 1) := dk_46 (dk_at dksX0_innOf_4 20 rfl rfl)
theorem dX0_innOf_129 : decode cX0_innOf 129 = .ok (.ireturn, 1) := dk_172 (dk_at dksX0_innOf_4 21 rfl rfl)
theorem dX0_innOf_130 : decode cX0_innOf 130 = .ok (.aload_n 0, 1) := dk_42 (dk_at dksX0_innOf_4 22 rfl rfl)
theorem dX0_innOf_131 : decode cX0_innOf 131 = .ok (.bipush (-2), 2) := dk_16 254 (dk_at dksX0_innOf_5 0 rfl rfl)
theorem dX0_innOf_133 : decode cX0_innOf 133 = .ok (.invokevirtual 63, 3) := dk_182 0 63 (dk_at dksX0_innOf_5 2 rfl rfl)
theorem dX0_innOf_136 : decode cX0_innOf 136 = .ok (.ireturn, 1) := dk_172 (dk_at dksX0_innOf_5 5 rfl rfl)
abbrev cX0_goerOf : ByteArray := prog_1_method_38_code
def yX0_goerOf : MethodName := ⟨RX0, "goerOf", "(II)I"⟩
def dkwX0_goerOf_3 : List UInt8 := [172]
abbrev dktX0_goerOf_3 : List UInt8 := dkwX0_goerOf_3 ++ []
def dkwX0_goerOf_2 : List UInt8 := [42, 180, 0, 39, 180, 0, 161, 27, 46, 167, 0, 15, 42, 180, 0, 39, 180, 0, 146, 27, 50, 180, 0, 244]
abbrev dktX0_goerOf_2 : List UInt8 := dkwX0_goerOf_2 ++ dktX0_goerOf_3
def dkwX0_goerOf_1 : List UInt8 := [28, 154, 0, 18, 42, 180, 0, 39, 180, 0, 146, 27, 50, 182, 0, 241, 167, 0, 32, 28, 4, 160, 0, 15]
abbrev dktX0_goerOf_1 : List UInt8 := dkwX0_goerOf_1 ++ dktX0_goerOf_2
def dkwX0_goerOf_0 : List UInt8 := [42, 27, 182, 0, 143, 153, 0, 12, 28, 3, 5, 184, 0, 67, 154, 0, 10, 42, 16, 254, 182, 0, 63, 172]
abbrev dktX0_goerOf_0 : List UInt8 := dkwX0_goerOf_0 ++ dktX0_goerOf_1
theorem dksX0_goerOf_0 : cX0_goerOf.data.toList.drop 0 = dktX0_goerOf_0 := by decide +kernel
theorem dksX0_goerOf_1 : cX0_goerOf.data.toList.drop 24 = dktX0_goerOf_1 := dk_seg dksX0_goerOf_0 24 rfl rfl
theorem dksX0_goerOf_2 : cX0_goerOf.data.toList.drop 48 = dktX0_goerOf_2 := dk_seg dksX0_goerOf_1 24 rfl rfl
theorem dksX0_goerOf_3 : cX0_goerOf.data.toList.drop 72 = dktX0_goerOf_3 := dk_seg dksX0_goerOf_2 24 rfl rfl
theorem dX0_goerOf_0 : decode cX0_goerOf 0 = .ok (.aload_n 0, 1) := dk_42 (dk_at dksX0_goerOf_0 0 rfl rfl)
theorem dX0_goerOf_1 : decode cX0_goerOf 1 = .ok (.iload_n 1, 1) := dk_27 (dk_at dksX0_goerOf_0 1 rfl rfl)
theorem dX0_goerOf_2 : decode cX0_goerOf 2 = .ok (.invokevirtual 143, 3) := dk_182 0 143 (dk_at dksX0_goerOf_0 2 rfl rfl)
theorem dX0_goerOf_5 : decode cX0_goerOf 5 = .ok (.ifCond .eq 12, 3) := dk_153 0 12 (dk_at dksX0_goerOf_0 5 rfl rfl)
theorem dX0_goerOf_8 : decode cX0_goerOf 8 = .ok (.iload_n 2, 1) := dk_28 (dk_at dksX0_goerOf_0 8 rfl rfl)
theorem dX0_goerOf_9 : decode cX0_goerOf 9 = .ok (.iconst 0, 1) := dk_3 (dk_at dksX0_goerOf_0 9 rfl rfl)
theorem dX0_goerOf_10 : decode cX0_goerOf 10 = .ok (.iconst 2, 1) := dk_5 (dk_at dksX0_goerOf_0 10 rfl rfl)
theorem dX0_goerOf_11 : decode cX0_goerOf 11 = .ok (.invokestatic 67, 3) := dk_184 0 67 (dk_at dksX0_goerOf_0 11 rfl rfl)
theorem dX0_goerOf_14 : decode cX0_goerOf 14 = .ok (.ifCond .ne 10, 3) := dk_154 0 10 (dk_at dksX0_goerOf_0 14 rfl rfl)
theorem dX0_goerOf_17 : decode cX0_goerOf 17 = .ok (.aload_n 0, 1) := dk_42 (dk_at dksX0_goerOf_0 17 rfl rfl)
theorem dX0_goerOf_18 : decode cX0_goerOf 18 = .ok (.bipush (-2), 2) := dk_16 254 (dk_at dksX0_goerOf_0 18 rfl rfl)
theorem dX0_goerOf_20 : decode cX0_goerOf 20 = .ok (.invokevirtual 63, 3) := dk_182 0 63 (dk_at dksX0_goerOf_0 20 rfl rfl)
theorem dX0_goerOf_23 : decode cX0_goerOf 23 = .ok (.ireturn, 1) := dk_172 (dk_at dksX0_goerOf_0 23 rfl rfl)
theorem dX0_goerOf_24 : decode cX0_goerOf 24 = .ok (.iload_n 2, 1) := dk_28 (dk_at dksX0_goerOf_1 0 rfl rfl)
theorem dX0_goerOf_25 : decode cX0_goerOf 25 = .ok (.ifCond .ne 18, 3) := dk_154 0 18 (dk_at dksX0_goerOf_1 1 rfl rfl)
theorem dX0_goerOf_28 : decode cX0_goerOf 28 = .ok (.aload_n 0, 1) := dk_42 (dk_at dksX0_goerOf_1 4 rfl rfl)
theorem dX0_goerOf_29 : decode cX0_goerOf 29 = .ok (.getfield 39, 3) := dk_180 0 39 (dk_at dksX0_goerOf_1 5 rfl rfl)
theorem dX0_goerOf_32 : decode cX0_goerOf 32 = .ok (.getfield 146, 3) := dk_180 0 146 (dk_at dksX0_goerOf_1 8 rfl rfl)
theorem dX0_goerOf_35 : decode cX0_goerOf 35 = .ok (.iload_n 1, 1) := dk_27 (dk_at dksX0_goerOf_1 11 rfl rfl)
theorem dX0_goerOf_36 : decode cX0_goerOf 36 = .ok (.aaload, 1) := dk_50 (dk_at dksX0_goerOf_1 12 rfl rfl)
theorem dX0_goerOf_37 : decode cX0_goerOf 37 = .ok (.invokevirtual 241, 3) := dk_182 0 241 (dk_at dksX0_goerOf_1 13 rfl rfl)
theorem dX0_goerOf_40 : decode cX0_goerOf 40 = .ok (.goto 32, 3) := dk_167 0 32 (dk_at dksX0_goerOf_1 16 rfl rfl)
theorem dX0_goerOf_43 : decode cX0_goerOf 43 = .ok (.iload_n 2, 1) := dk_28 (dk_at dksX0_goerOf_1 19 rfl rfl)
theorem dX0_goerOf_44 : decode cX0_goerOf 44 = .ok (.iconst 1, 1) := dk_4 (dk_at dksX0_goerOf_1 20 rfl rfl)
theorem dX0_goerOf_45 : decode cX0_goerOf 45 = .ok (.if_icmp .ne 15, 3) := dk_160 0 15 (dk_at dksX0_goerOf_1 21 rfl rfl)
theorem dX0_goerOf_48 : decode cX0_goerOf 48 = .ok (.aload_n 0, 1) := dk_42 (dk_at dksX0_goerOf_2 0 rfl rfl)
theorem dX0_goerOf_49 : decode cX0_goerOf 49 = .ok (.getfield 39, 3) := dk_180 0 39 (dk_at dksX0_goerOf_2 1 rfl rfl)
theorem dX0_goerOf_52 : decode cX0_goerOf 52 = .ok (.getfield 161, 3) := dk_180 0 161 (dk_at dksX0_goerOf_2 4 rfl rfl)
theorem dX0_goerOf_55 : decode cX0_goerOf 55 = .ok (.iload_n 1, 1) := dk_27 (dk_at dksX0_goerOf_2 7 rfl rfl)
theorem dX0_goerOf_56 : decode cX0_goerOf 56 = .ok (.iaload, 1) := dk_46 (dk_at dksX0_goerOf_2 8 rfl rfl)
theorem dX0_goerOf_57 : decode cX0_goerOf 57 = .ok (.goto 15, 3) := dk_167 0 15 (dk_at dksX0_goerOf_2 9 rfl rfl)
theorem dX0_goerOf_60 : decode cX0_goerOf 60 = .ok (.aload_n 0, 1) := dk_42 (dk_at dksX0_goerOf_2 12 rfl rfl)
theorem dX0_goerOf_61 : decode cX0_goerOf 61 = .ok (.getfield 39, 3) := dk_180 0 39 (dk_at dksX0_goerOf_2 13 rfl rfl)
theorem dX0_goerOf_64 : decode cX0_goerOf 64 = .ok (.getfield 146, 3) := dk_180 0 146 (dk_at dksX0_goerOf_2 16 rfl rfl)
theorem dX0_goerOf_67 : decode cX0_goerOf 67 = .ok (.iload_n 1, 1) := dk_27 (dk_at dksX0_goerOf_2 19 rfl rfl)
theorem dX0_goerOf_68 : decode cX0_goerOf 68 = .ok (.aaload, 1) := dk_50 (dk_at dksX0_goerOf_2 20 rfl rfl)
theorem dX0_goerOf_69 : decode cX0_goerOf 69 = .ok (.getfield 244, 3) := dk_180 0 244 (dk_at dksX0_goerOf_2 21 rfl rfl)
theorem dX0_goerOf_72 : decode cX0_goerOf 72 = .ok (.ireturn, 1) := dk_172 (dk_at dksX0_goerOf_3 0 rfl rfl)
abbrev cX0_score : ByteArray := prog_1_method_39_code
def yX0_score : MethodName := ⟨RX0, "score", "(II)I"⟩
def dkwX0_score_1 : List UInt8 := [180, 0, 146, 27, 50, 42, 180, 0, 39, 28, 182, 0, 247, 167, 0, 9, 42, 16, 254, 182, 0, 250, 172]
abbrev dktX0_score_1 : List UInt8 := dkwX0_score_1 ++ []
def dkwX0_score_0 : List UInt8 := [42, 27, 182, 0, 143, 153, 0, 34, 42, 180, 0, 39, 28, 182, 0, 180, 153, 0, 23, 42, 180, 0, 39]
abbrev dktX0_score_0 : List UInt8 := dkwX0_score_0 ++ dktX0_score_1
theorem dksX0_score_0 : cX0_score.data.toList.drop 0 = dktX0_score_0 := by decide +kernel
theorem dksX0_score_1 : cX0_score.data.toList.drop 23 = dktX0_score_1 := dk_seg dksX0_score_0 23 rfl rfl
theorem dX0_score_0 : decode cX0_score 0 = .ok (.aload_n 0, 1) := dk_42 (dk_at dksX0_score_0 0 rfl rfl)
theorem dX0_score_1 : decode cX0_score 1 = .ok (.iload_n 1, 1) := dk_27 (dk_at dksX0_score_0 1 rfl rfl)
theorem dX0_score_2 : decode cX0_score 2 = .ok (.invokevirtual 143, 3) := dk_182 0 143 (dk_at dksX0_score_0 2 rfl rfl)
theorem dX0_score_5 : decode cX0_score 5 = .ok (.ifCond .eq 34, 3) := dk_153 0 34 (dk_at dksX0_score_0 5 rfl rfl)
theorem dX0_score_8 : decode cX0_score 8 = .ok (.aload_n 0, 1) := dk_42 (dk_at dksX0_score_0 8 rfl rfl)
theorem dX0_score_9 : decode cX0_score 9 = .ok (.getfield 39, 3) := dk_180 0 39 (dk_at dksX0_score_0 9 rfl rfl)
theorem dX0_score_12 : decode cX0_score 12 = .ok (.iload_n 2, 1) := dk_28 (dk_at dksX0_score_0 12 rfl rfl)
theorem dX0_score_13 : decode cX0_score 13 = .ok (.invokevirtual 180, 3) := dk_182 0 180 (dk_at dksX0_score_0 13 rfl rfl)
theorem dX0_score_16 : decode cX0_score 16 = .ok (.ifCond .eq 23, 3) := dk_153 0 23 (dk_at dksX0_score_0 16 rfl rfl)
theorem dX0_score_19 : decode cX0_score 19 = .ok (.aload_n 0, 1) := dk_42 (dk_at dksX0_score_0 19 rfl rfl)
theorem dX0_score_20 : decode cX0_score 20 = .ok (.getfield 39, 3) := dk_180 0 39 (dk_at dksX0_score_0 20 rfl rfl)
theorem dX0_score_23 : decode cX0_score 23 = .ok (.getfield 146, 3) := dk_180 0 146 (dk_at dksX0_score_1 0 rfl rfl)
theorem dX0_score_26 : decode cX0_score 26 = .ok (.iload_n 1, 1) := dk_27 (dk_at dksX0_score_1 3 rfl rfl)
theorem dX0_score_27 : decode cX0_score 27 = .ok (.aaload, 1) := dk_50 (dk_at dksX0_score_1 4 rfl rfl)
theorem dX0_score_28 : decode cX0_score 28 = .ok (.aload_n 0, 1) := dk_42 (dk_at dksX0_score_1 5 rfl rfl)
theorem dX0_score_29 : decode cX0_score 29 = .ok (.getfield 39, 3) := dk_180 0 39 (dk_at dksX0_score_1 6 rfl rfl)
theorem dX0_score_32 : decode cX0_score 32 = .ok (.iload_n 2, 1) := dk_28 (dk_at dksX0_score_1 9 rfl rfl)
theorem dX0_score_33 : decode cX0_score 33 = .ok (.invokevirtual 247, 3) := dk_182 0 247 (dk_at dksX0_score_1 10 rfl rfl)
theorem dX0_score_36 : decode cX0_score 36 = .ok (.goto 9, 3) := dk_167 0 9 (dk_at dksX0_score_1 13 rfl rfl)
theorem dX0_score_39 : decode cX0_score 39 = .ok (.aload_n 0, 1) := dk_42 (dk_at dksX0_score_1 16 rfl rfl)
theorem dX0_score_40 : decode cX0_score 40 = .ok (.bipush (-2), 2) := dk_16 254 (dk_at dksX0_score_1 17 rfl rfl)
theorem dX0_score_42 : decode cX0_score 42 = .ok (.invokevirtual 250, 3) := dk_182 0 250 (dk_at dksX0_score_1 19 rfl rfl)
theorem dX0_score_45 : decode cX0_score 45 = .ok (.ireturn, 1) := dk_172 (dk_at dksX0_score_1 22 rfl rfl)
abbrev cX0_noLow : ByteArray := prog_1_method_7_code
def yX0_noLow : MethodName := ⟨RX0, "noLow", "(I)I"⟩
def dkwX0_noLow_0 : List UInt8 := [18, 62, 42, 27, 182, 0, 63, 96, 172]
abbrev dktX0_noLow_0 : List UInt8 := dkwX0_noLow_0 ++ []
theorem dksX0_noLow_0 : cX0_noLow.data.toList.drop 0 = dktX0_noLow_0 := by decide +kernel
theorem dX0_noLow_0 : decode cX0_noLow 0 = .ok (.ldc 62, 2) := dk_18 62 (dk_at dksX0_noLow_0 0 rfl rfl)
theorem dX0_noLow_2 : decode cX0_noLow 2 = .ok (.aload_n 0, 1) := dk_42 (dk_at dksX0_noLow_0 2 rfl rfl)
theorem dX0_noLow_3 : decode cX0_noLow 3 = .ok (.iload_n 1, 1) := dk_27 (dk_at dksX0_noLow_0 3 rfl rfl)
theorem dX0_noLow_4 : decode cX0_noLow 4 = .ok (.invokevirtual 63, 3) := dk_182 0 63 (dk_at dksX0_noLow_0 4 rfl rfl)
theorem dX0_noLow_7 : decode cX0_noLow 7 = .ok (.iadd, 1) := dk_96 (dk_at dksX0_noLow_0 7 rfl rfl)
theorem dX0_noLow_8 : decode cX0_noLow 8 = .ok (.ireturn, 1) := dk_172 (dk_at dksX0_noLow_0 8 rfl rfl)
abbrev cX0_sleeps : ByteArray := prog_1_method_40_code
def yX0_sleeps : MethodName := ⟨RX0, "sleeps", "(II)I"⟩
def dkwX0_sleeps_1 : List UInt8 := [182, 0, 253, 180, 1, 0, 27, 50, 28, 46, 167, 0, 9, 42, 16, 254, 182, 0, 63, 172]
abbrev dktX0_sleeps_1 : List UInt8 := dkwX0_sleeps_1 ++ []
def dkwX0_sleeps_0 : List UInt8 := [42, 27, 182, 0, 143, 153, 0, 31, 42, 180, 0, 39, 28, 182, 0, 180, 153, 0, 20, 42, 180, 0, 39]
abbrev dktX0_sleeps_0 : List UInt8 := dkwX0_sleeps_0 ++ dktX0_sleeps_1
theorem dksX0_sleeps_0 : cX0_sleeps.data.toList.drop 0 = dktX0_sleeps_0 := by decide +kernel
theorem dksX0_sleeps_1 : cX0_sleeps.data.toList.drop 23 = dktX0_sleeps_1 := dk_seg dksX0_sleeps_0 23 rfl rfl
theorem dX0_sleeps_0 : decode cX0_sleeps 0 = .ok (.aload_n 0, 1) := dk_42 (dk_at dksX0_sleeps_0 0 rfl rfl)
theorem dX0_sleeps_1 : decode cX0_sleeps 1 = .ok (.iload_n 1, 1) := dk_27 (dk_at dksX0_sleeps_0 1 rfl rfl)
theorem dX0_sleeps_2 : decode cX0_sleeps 2 = .ok (.invokevirtual 143, 3) := dk_182 0 143 (dk_at dksX0_sleeps_0 2 rfl rfl)
theorem dX0_sleeps_5 : decode cX0_sleeps 5 = .ok (.ifCond .eq 31, 3) := dk_153 0 31 (dk_at dksX0_sleeps_0 5 rfl rfl)
theorem dX0_sleeps_8 : decode cX0_sleeps 8 = .ok (.aload_n 0, 1) := dk_42 (dk_at dksX0_sleeps_0 8 rfl rfl)
theorem dX0_sleeps_9 : decode cX0_sleeps 9 = .ok (.getfield 39, 3) := dk_180 0 39 (dk_at dksX0_sleeps_0 9 rfl rfl)
theorem dX0_sleeps_12 : decode cX0_sleeps 12 = .ok (.iload_n 2, 1) := dk_28 (dk_at dksX0_sleeps_0 12 rfl rfl)
theorem dX0_sleeps_13 : decode cX0_sleeps 13 = .ok (.invokevirtual 180, 3) := dk_182 0 180 (dk_at dksX0_sleeps_0 13 rfl rfl)
theorem dX0_sleeps_16 : decode cX0_sleeps 16 = .ok (.ifCond .eq 20, 3) := dk_153 0 20 (dk_at dksX0_sleeps_0 16 rfl rfl)
theorem dX0_sleeps_19 : decode cX0_sleeps 19 = .ok (.aload_n 0, 1) := dk_42 (dk_at dksX0_sleeps_0 19 rfl rfl)
theorem dX0_sleeps_20 : decode cX0_sleeps 20 = .ok (.getfield 39, 3) := dk_180 0 39 (dk_at dksX0_sleeps_0 20 rfl rfl)
theorem dX0_sleeps_23 : decode cX0_sleeps 23 = .ok (.invokevirtual 253, 3) := dk_182 0 253 (dk_at dksX0_sleeps_1 0 rfl rfl)
theorem dX0_sleeps_26 : decode cX0_sleeps 26 = .ok (.getfield 256, 3) := dk_180 1 0 (dk_at dksX0_sleeps_1 3 rfl rfl)
theorem dX0_sleeps_29 : decode cX0_sleeps 29 = .ok (.iload_n 1, 1) := dk_27 (dk_at dksX0_sleeps_1 6 rfl rfl)
theorem dX0_sleeps_30 : decode cX0_sleeps 30 = .ok (.aaload, 1) := dk_50 (dk_at dksX0_sleeps_1 7 rfl rfl)
theorem dX0_sleeps_31 : decode cX0_sleeps 31 = .ok (.iload_n 2, 1) := dk_28 (dk_at dksX0_sleeps_1 8 rfl rfl)
theorem dX0_sleeps_32 : decode cX0_sleeps 32 = .ok (.iaload, 1) := dk_46 (dk_at dksX0_sleeps_1 9 rfl rfl)
theorem dX0_sleeps_33 : decode cX0_sleeps 33 = .ok (.goto 9, 3) := dk_167 0 9 (dk_at dksX0_sleeps_1 10 rfl rfl)
theorem dX0_sleeps_36 : decode cX0_sleeps 36 = .ok (.aload_n 0, 1) := dk_42 (dk_at dksX0_sleeps_1 13 rfl rfl)
theorem dX0_sleeps_37 : decode cX0_sleeps 37 = .ok (.bipush (-2), 2) := dk_16 254 (dk_at dksX0_sleeps_1 14 rfl rfl)
theorem dX0_sleeps_39 : decode cX0_sleeps 39 = .ok (.invokevirtual 63, 3) := dk_182 0 63 (dk_at dksX0_sleeps_1 16 rfl rfl)
theorem dX0_sleeps_42 : decode cX0_sleeps 42 = .ok (.ireturn, 1) := dk_172 (dk_at dksX0_sleeps_1 19 rfl rfl)
abbrev cX0_guests : ByteArray := prog_1_method_41_code
def yX0_guests : MethodName := ⟨RX0, "guests", "(I)I"⟩
def dkwX0_guests_1 : List UInt8 := [167, 0, 9, 42, 16, 254, 182, 0, 63, 172]
abbrev dktX0_guests_1 : List UInt8 := dkwX0_guests_1 ++ []
def dkwX0_guests_0 : List UInt8 := [42, 180, 0, 39, 27, 182, 0, 180, 153, 0, 18, 42, 180, 0, 39, 182, 0, 253, 180, 1, 4, 27, 46]
abbrev dktX0_guests_0 : List UInt8 := dkwX0_guests_0 ++ dktX0_guests_1
theorem dksX0_guests_0 : cX0_guests.data.toList.drop 0 = dktX0_guests_0 := by decide +kernel
theorem dksX0_guests_1 : cX0_guests.data.toList.drop 23 = dktX0_guests_1 := dk_seg dksX0_guests_0 23 rfl rfl
theorem dX0_guests_0 : decode cX0_guests 0 = .ok (.aload_n 0, 1) := dk_42 (dk_at dksX0_guests_0 0 rfl rfl)
theorem dX0_guests_1 : decode cX0_guests 1 = .ok (.getfield 39, 3) := dk_180 0 39 (dk_at dksX0_guests_0 1 rfl rfl)
theorem dX0_guests_4 : decode cX0_guests 4 = .ok (.iload_n 1, 1) := dk_27 (dk_at dksX0_guests_0 4 rfl rfl)
theorem dX0_guests_5 : decode cX0_guests 5 = .ok (.invokevirtual 180, 3) := dk_182 0 180 (dk_at dksX0_guests_0 5 rfl rfl)
theorem dX0_guests_8 : decode cX0_guests 8 = .ok (.ifCond .eq 18, 3) := dk_153 0 18 (dk_at dksX0_guests_0 8 rfl rfl)
theorem dX0_guests_11 : decode cX0_guests 11 = .ok (.aload_n 0, 1) := dk_42 (dk_at dksX0_guests_0 11 rfl rfl)
theorem dX0_guests_12 : decode cX0_guests 12 = .ok (.getfield 39, 3) := dk_180 0 39 (dk_at dksX0_guests_0 12 rfl rfl)
theorem dX0_guests_15 : decode cX0_guests 15 = .ok (.invokevirtual 253, 3) := dk_182 0 253 (dk_at dksX0_guests_0 15 rfl rfl)
theorem dX0_guests_18 : decode cX0_guests 18 = .ok (.getfield 260, 3) := dk_180 1 4 (dk_at dksX0_guests_0 18 rfl rfl)
theorem dX0_guests_21 : decode cX0_guests 21 = .ok (.iload_n 1, 1) := dk_27 (dk_at dksX0_guests_0 21 rfl rfl)
theorem dX0_guests_22 : decode cX0_guests 22 = .ok (.iaload, 1) := dk_46 (dk_at dksX0_guests_0 22 rfl rfl)
theorem dX0_guests_23 : decode cX0_guests 23 = .ok (.goto 9, 3) := dk_167 0 9 (dk_at dksX0_guests_1 0 rfl rfl)
theorem dX0_guests_26 : decode cX0_guests 26 = .ok (.aload_n 0, 1) := dk_42 (dk_at dksX0_guests_1 3 rfl rfl)
theorem dX0_guests_27 : decode cX0_guests 27 = .ok (.bipush (-2), 2) := dk_16 254 (dk_at dksX0_guests_1 4 rfl rfl)
theorem dX0_guests_29 : decode cX0_guests 29 = .ok (.invokevirtual 63, 3) := dk_182 0 63 (dk_at dksX0_guests_1 6 rfl rfl)
theorem dX0_guests_32 : decode cX0_guests 32 = .ok (.ireturn, 1) := dk_172 (dk_at dksX0_guests_1 9 rfl rfl)
abbrev cX0_out : ByteArray := prog_1_method_42_code
def yX0_out : MethodName := ⟨RX0, "out", "(I)I"⟩
def dkwX0_out_3 : List UInt8 := [132, 3, 1, 167, 255, 216, 28, 172]
abbrev dktX0_out_3 : List UInt8 := dkwX0_out_3 ++ []
def dkwX0_out_2 : List UInt8 := [159, 0, 8, 27, 29, 160, 0, 15, 42, 180, 0, 39, 180, 1, 7, 29, 46, 167, 0, 4, 3, 96, 61]
abbrev dktX0_out_2 : List UInt8 := dkwX0_out_2 ++ dktX0_out_3
def dkwX0_out_1 : List UInt8 := [182, 0, 253, 87, 3, 61, 3, 62, 29, 42, 180, 0, 39, 180, 0, 71, 162, 0, 35, 28, 27, 2]
abbrev dktX0_out_1 : List UInt8 := dkwX0_out_1 ++ dktX0_out_2
def dkwX0_out_0 : List UInt8 := [27, 2, 159, 0, 18, 42, 27, 182, 0, 143, 154, 0, 10, 42, 16, 254, 182, 0, 63, 172, 42, 180, 0, 39]
abbrev dktX0_out_0 : List UInt8 := dkwX0_out_0 ++ dktX0_out_1
theorem dksX0_out_0 : cX0_out.data.toList.drop 0 = dktX0_out_0 := by decide +kernel
theorem dksX0_out_1 : cX0_out.data.toList.drop 24 = dktX0_out_1 := dk_seg dksX0_out_0 24 rfl rfl
theorem dksX0_out_2 : cX0_out.data.toList.drop 46 = dktX0_out_2 := dk_seg dksX0_out_1 22 rfl rfl
theorem dksX0_out_3 : cX0_out.data.toList.drop 69 = dktX0_out_3 := dk_seg dksX0_out_2 23 rfl rfl
theorem dX0_out_0 : decode cX0_out 0 = .ok (.iload_n 1, 1) := dk_27 (dk_at dksX0_out_0 0 rfl rfl)
theorem dX0_out_1 : decode cX0_out 1 = .ok (.iconst (-1), 1) := dk_2 (dk_at dksX0_out_0 1 rfl rfl)
theorem dX0_out_2 : decode cX0_out 2 = .ok (.if_icmp .eq 18, 3) := dk_159 0 18 (dk_at dksX0_out_0 2 rfl rfl)
theorem dX0_out_5 : decode cX0_out 5 = .ok (.aload_n 0, 1) := dk_42 (dk_at dksX0_out_0 5 rfl rfl)
theorem dX0_out_6 : decode cX0_out 6 = .ok (.iload_n 1, 1) := dk_27 (dk_at dksX0_out_0 6 rfl rfl)
theorem dX0_out_7 : decode cX0_out 7 = .ok (.invokevirtual 143, 3) := dk_182 0 143 (dk_at dksX0_out_0 7 rfl rfl)
theorem dX0_out_10 : decode cX0_out 10 = .ok (.ifCond .ne 10, 3) := dk_154 0 10 (dk_at dksX0_out_0 10 rfl rfl)
theorem dX0_out_13 : decode cX0_out 13 = .ok (.aload_n 0, 1) := dk_42 (dk_at dksX0_out_0 13 rfl rfl)
theorem dX0_out_14 : decode cX0_out 14 = .ok (.bipush (-2), 2) := dk_16 254 (dk_at dksX0_out_0 14 rfl rfl)
theorem dX0_out_16 : decode cX0_out 16 = .ok (.invokevirtual 63, 3) := dk_182 0 63 (dk_at dksX0_out_0 16 rfl rfl)
theorem dX0_out_19 : decode cX0_out 19 = .ok (.ireturn, 1) := dk_172 (dk_at dksX0_out_0 19 rfl rfl)
theorem dX0_out_20 : decode cX0_out 20 = .ok (.aload_n 0, 1) := dk_42 (dk_at dksX0_out_0 20 rfl rfl)
theorem dX0_out_21 : decode cX0_out 21 = .ok (.getfield 39, 3) := dk_180 0 39 (dk_at dksX0_out_0 21 rfl rfl)
theorem dX0_out_24 : decode cX0_out 24 = .ok (.invokevirtual 253, 3) := dk_182 0 253 (dk_at dksX0_out_1 0 rfl rfl)
theorem dX0_out_27 : decode cX0_out 27 = .ok (.pop, 1) := dk_87 (dk_at dksX0_out_1 3 rfl rfl)
theorem dX0_out_28 : decode cX0_out 28 = .ok (.iconst 0, 1) := dk_3 (dk_at dksX0_out_1 4 rfl rfl)
theorem dX0_out_29 : decode cX0_out 29 = .ok (.istore_n 2, 1) := dk_61 (dk_at dksX0_out_1 5 rfl rfl)
theorem dX0_out_30 : decode cX0_out 30 = .ok (.iconst 0, 1) := dk_3 (dk_at dksX0_out_1 6 rfl rfl)
theorem dX0_out_31 : decode cX0_out 31 = .ok (.istore_n 3, 1) := dk_62 (dk_at dksX0_out_1 7 rfl rfl)
theorem dX0_out_32 : decode cX0_out 32 = .ok (.iload_n 3, 1) := dk_29 (dk_at dksX0_out_1 8 rfl rfl)
theorem dX0_out_33 : decode cX0_out 33 = .ok (.aload_n 0, 1) := dk_42 (dk_at dksX0_out_1 9 rfl rfl)
theorem dX0_out_34 : decode cX0_out 34 = .ok (.getfield 39, 3) := dk_180 0 39 (dk_at dksX0_out_1 10 rfl rfl)
theorem dX0_out_37 : decode cX0_out 37 = .ok (.getfield 71, 3) := dk_180 0 71 (dk_at dksX0_out_1 13 rfl rfl)
theorem dX0_out_40 : decode cX0_out 40 = .ok (.if_icmp .ge 35, 3) := dk_162 0 35 (dk_at dksX0_out_1 16 rfl rfl)
theorem dX0_out_43 : decode cX0_out 43 = .ok (.iload_n 2, 1) := dk_28 (dk_at dksX0_out_1 19 rfl rfl)
theorem dX0_out_44 : decode cX0_out 44 = .ok (.iload_n 1, 1) := dk_27 (dk_at dksX0_out_1 20 rfl rfl)
theorem dX0_out_45 : decode cX0_out 45 = .ok (.iconst (-1), 1) := dk_2 (dk_at dksX0_out_1 21 rfl rfl)
theorem dX0_out_46 : decode cX0_out 46 = .ok (.if_icmp .eq 8, 3) := dk_159 0 8 (dk_at dksX0_out_2 0 rfl rfl)
theorem dX0_out_49 : decode cX0_out 49 = .ok (.iload_n 1, 1) := dk_27 (dk_at dksX0_out_2 3 rfl rfl)
theorem dX0_out_50 : decode cX0_out 50 = .ok (.iload_n 3, 1) := dk_29 (dk_at dksX0_out_2 4 rfl rfl)
theorem dX0_out_51 : decode cX0_out 51 = .ok (.if_icmp .ne 15, 3) := dk_160 0 15 (dk_at dksX0_out_2 5 rfl rfl)
theorem dX0_out_54 : decode cX0_out 54 = .ok (.aload_n 0, 1) := dk_42 (dk_at dksX0_out_2 8 rfl rfl)
theorem dX0_out_55 : decode cX0_out 55 = .ok (.getfield 39, 3) := dk_180 0 39 (dk_at dksX0_out_2 9 rfl rfl)
theorem dX0_out_58 : decode cX0_out 58 = .ok (.getfield 263, 3) := dk_180 1 7 (dk_at dksX0_out_2 12 rfl rfl)
theorem dX0_out_61 : decode cX0_out 61 = .ok (.iload_n 3, 1) := dk_29 (dk_at dksX0_out_2 15 rfl rfl)
theorem dX0_out_62 : decode cX0_out 62 = .ok (.iaload, 1) := dk_46 (dk_at dksX0_out_2 16 rfl rfl)
theorem dX0_out_63 : decode cX0_out 63 = .ok (.goto 4, 3) := dk_167 0 4 (dk_at dksX0_out_2 17 rfl rfl)
theorem dX0_out_66 : decode cX0_out 66 = .ok (.iconst 0, 1) := dk_3 (dk_at dksX0_out_2 20 rfl rfl)
theorem dX0_out_67 : decode cX0_out 67 = .ok (.iadd, 1) := dk_96 (dk_at dksX0_out_2 21 rfl rfl)
theorem dX0_out_68 : decode cX0_out 68 = .ok (.istore_n 2, 1) := dk_61 (dk_at dksX0_out_2 22 rfl rfl)
theorem dX0_out_69 : decode cX0_out 69 = .ok (.iinc 3 1, 3) := dk_132 3 1 (dk_at dksX0_out_3 0 rfl rfl)
theorem dX0_out_72 : decode cX0_out 72 = .ok (.goto (-40), 3) := dk_167 255 216 (dk_at dksX0_out_3 3 rfl rfl)
theorem dX0_out_75 : decode cX0_out 75 = .ok (.iload_n 2, 1) := dk_28 (dk_at dksX0_out_3 6 rfl rfl)
theorem dX0_out_76 : decode cX0_out 76 = .ok (.ireturn, 1) := dk_172 (dk_at dksX0_out_3 7 rfl rfl)
abbrev cX0_full : ByteArray := prog_1_method_43_code
def yX0_full : MethodName := ⟨RX0, "full", "()I"⟩
def dkwX0_full_2 : List UInt8 := [167, 255, 221, 27, 172]
abbrev dktX0_full_2 : List UInt8 := dkwX0_full_2 ++ []
def dkwX0_full_1 : List UInt8 := [42, 180, 0, 39, 28, 182, 1, 10, 153, 0, 9, 4, 28, 120, 167, 0, 4, 3, 128, 60, 132, 2, 1]
abbrev dktX0_full_1 : List UInt8 := dkwX0_full_1 ++ dktX0_full_2
def dkwX0_full_0 : List UInt8 := [42, 180, 0, 39, 182, 0, 253, 87, 3, 60, 3, 61, 28, 42, 180, 0, 39, 180, 0, 150, 162, 0, 30, 27]
abbrev dktX0_full_0 : List UInt8 := dkwX0_full_0 ++ dktX0_full_1
theorem dksX0_full_0 : cX0_full.data.toList.drop 0 = dktX0_full_0 := by decide +kernel
theorem dksX0_full_1 : cX0_full.data.toList.drop 24 = dktX0_full_1 := dk_seg dksX0_full_0 24 rfl rfl
theorem dksX0_full_2 : cX0_full.data.toList.drop 47 = dktX0_full_2 := dk_seg dksX0_full_1 23 rfl rfl
theorem dX0_full_0 : decode cX0_full 0 = .ok (.aload_n 0, 1) := dk_42 (dk_at dksX0_full_0 0 rfl rfl)
theorem dX0_full_1 : decode cX0_full 1 = .ok (.getfield 39, 3) := dk_180 0 39 (dk_at dksX0_full_0 1 rfl rfl)
theorem dX0_full_4 : decode cX0_full 4 = .ok (.invokevirtual 253, 3) := dk_182 0 253 (dk_at dksX0_full_0 4 rfl rfl)
theorem dX0_full_7 : decode cX0_full 7 = .ok (.pop, 1) := dk_87 (dk_at dksX0_full_0 7 rfl rfl)
theorem dX0_full_8 : decode cX0_full 8 = .ok (.iconst 0, 1) := dk_3 (dk_at dksX0_full_0 8 rfl rfl)
theorem dX0_full_9 : decode cX0_full 9 = .ok (.istore_n 1, 1) := dk_60 (dk_at dksX0_full_0 9 rfl rfl)
theorem dX0_full_10 : decode cX0_full 10 = .ok (.iconst 0, 1) := dk_3 (dk_at dksX0_full_0 10 rfl rfl)
theorem dX0_full_11 : decode cX0_full 11 = .ok (.istore_n 2, 1) := dk_61 (dk_at dksX0_full_0 11 rfl rfl)
theorem dX0_full_12 : decode cX0_full 12 = .ok (.iload_n 2, 1) := dk_28 (dk_at dksX0_full_0 12 rfl rfl)
theorem dX0_full_13 : decode cX0_full 13 = .ok (.aload_n 0, 1) := dk_42 (dk_at dksX0_full_0 13 rfl rfl)
theorem dX0_full_14 : decode cX0_full 14 = .ok (.getfield 39, 3) := dk_180 0 39 (dk_at dksX0_full_0 14 rfl rfl)
theorem dX0_full_17 : decode cX0_full 17 = .ok (.getfield 150, 3) := dk_180 0 150 (dk_at dksX0_full_0 17 rfl rfl)
theorem dX0_full_20 : decode cX0_full 20 = .ok (.if_icmp .ge 30, 3) := dk_162 0 30 (dk_at dksX0_full_0 20 rfl rfl)
theorem dX0_full_23 : decode cX0_full 23 = .ok (.iload_n 1, 1) := dk_27 (dk_at dksX0_full_0 23 rfl rfl)
theorem dX0_full_24 : decode cX0_full 24 = .ok (.aload_n 0, 1) := dk_42 (dk_at dksX0_full_1 0 rfl rfl)
theorem dX0_full_25 : decode cX0_full 25 = .ok (.getfield 39, 3) := dk_180 0 39 (dk_at dksX0_full_1 1 rfl rfl)
theorem dX0_full_28 : decode cX0_full 28 = .ok (.iload_n 2, 1) := dk_28 (dk_at dksX0_full_1 4 rfl rfl)
theorem dX0_full_29 : decode cX0_full 29 = .ok (.invokevirtual 266, 3) := dk_182 1 10 (dk_at dksX0_full_1 5 rfl rfl)
theorem dX0_full_32 : decode cX0_full 32 = .ok (.ifCond .eq 9, 3) := dk_153 0 9 (dk_at dksX0_full_1 8 rfl rfl)
theorem dX0_full_35 : decode cX0_full 35 = .ok (.iconst 1, 1) := dk_4 (dk_at dksX0_full_1 11 rfl rfl)
theorem dX0_full_36 : decode cX0_full 36 = .ok (.iload_n 2, 1) := dk_28 (dk_at dksX0_full_1 12 rfl rfl)
theorem dX0_full_37 : decode cX0_full 37 = .ok (.ishl, 1) := dk_120 (dk_at dksX0_full_1 13 rfl rfl)
theorem dX0_full_38 : decode cX0_full 38 = .ok (.goto 4, 3) := dk_167 0 4 (dk_at dksX0_full_1 14 rfl rfl)
theorem dX0_full_41 : decode cX0_full 41 = .ok (.iconst 0, 1) := dk_3 (dk_at dksX0_full_1 17 rfl rfl)
theorem dX0_full_42 : decode cX0_full 42 = .ok (.ior, 1) := dk_128 (dk_at dksX0_full_1 18 rfl rfl)
theorem dX0_full_43 : decode cX0_full 43 = .ok (.istore_n 1, 1) := dk_60 (dk_at dksX0_full_1 19 rfl rfl)
theorem dX0_full_44 : decode cX0_full 44 = .ok (.iinc 2 1, 3) := dk_132 2 1 (dk_at dksX0_full_1 20 rfl rfl)
theorem dX0_full_47 : decode cX0_full 47 = .ok (.goto (-35), 3) := dk_167 255 221 (dk_at dksX0_full_2 0 rfl rfl)
theorem dX0_full_50 : decode cX0_full 50 = .ok (.iload_n 1, 1) := dk_27 (dk_at dksX0_full_2 3 rfl rfl)
theorem dX0_full_51 : decode cX0_full 51 = .ok (.ireturn, 1) := dk_172 (dk_at dksX0_full_2 4 rfl rfl)
abbrev cX0_joy : ByteArray := prog_1_method_44_code
def yX0_joy : MethodName := ⟨RX0, "joy", "(I)I"⟩
def dkwX0_joy_1 : List UInt8 := [167, 0, 9, 42, 16, 254, 182, 0, 250, 172]
abbrev dktX0_joy_1 : List UInt8 := dkwX0_joy_1 ++ []
def dkwX0_joy_0 : List UInt8 := [27, 2, 159, 0, 11, 42, 27, 182, 0, 143, 153, 0, 17, 42, 180, 0, 39, 182, 0, 253, 27, 182, 1, 13]
abbrev dktX0_joy_0 : List UInt8 := dkwX0_joy_0 ++ dktX0_joy_1
theorem dksX0_joy_0 : cX0_joy.data.toList.drop 0 = dktX0_joy_0 := by decide +kernel
theorem dksX0_joy_1 : cX0_joy.data.toList.drop 24 = dktX0_joy_1 := dk_seg dksX0_joy_0 24 rfl rfl
theorem dX0_joy_0 : decode cX0_joy 0 = .ok (.iload_n 1, 1) := dk_27 (dk_at dksX0_joy_0 0 rfl rfl)
theorem dX0_joy_1 : decode cX0_joy 1 = .ok (.iconst (-1), 1) := dk_2 (dk_at dksX0_joy_0 1 rfl rfl)
theorem dX0_joy_2 : decode cX0_joy 2 = .ok (.if_icmp .eq 11, 3) := dk_159 0 11 (dk_at dksX0_joy_0 2 rfl rfl)
theorem dX0_joy_5 : decode cX0_joy 5 = .ok (.aload_n 0, 1) := dk_42 (dk_at dksX0_joy_0 5 rfl rfl)
theorem dX0_joy_6 : decode cX0_joy 6 = .ok (.iload_n 1, 1) := dk_27 (dk_at dksX0_joy_0 6 rfl rfl)
theorem dX0_joy_7 : decode cX0_joy 7 = .ok (.invokevirtual 143, 3) := dk_182 0 143 (dk_at dksX0_joy_0 7 rfl rfl)
theorem dX0_joy_10 : decode cX0_joy 10 = .ok (.ifCond .eq 17, 3) := dk_153 0 17 (dk_at dksX0_joy_0 10 rfl rfl)
theorem dX0_joy_13 : decode cX0_joy 13 = .ok (.aload_n 0, 1) := dk_42 (dk_at dksX0_joy_0 13 rfl rfl)
theorem dX0_joy_14 : decode cX0_joy 14 = .ok (.getfield 39, 3) := dk_180 0 39 (dk_at dksX0_joy_0 14 rfl rfl)
theorem dX0_joy_17 : decode cX0_joy 17 = .ok (.invokevirtual 253, 3) := dk_182 0 253 (dk_at dksX0_joy_0 17 rfl rfl)
theorem dX0_joy_20 : decode cX0_joy 20 = .ok (.iload_n 1, 1) := dk_27 (dk_at dksX0_joy_0 20 rfl rfl)
theorem dX0_joy_21 : decode cX0_joy 21 = .ok (.invokevirtual 269, 3) := dk_182 1 13 (dk_at dksX0_joy_0 21 rfl rfl)
theorem dX0_joy_24 : decode cX0_joy 24 = .ok (.goto 9, 3) := dk_167 0 9 (dk_at dksX0_joy_1 0 rfl rfl)
theorem dX0_joy_27 : decode cX0_joy 27 = .ok (.aload_n 0, 1) := dk_42 (dk_at dksX0_joy_1 3 rfl rfl)
theorem dX0_joy_28 : decode cX0_joy 28 = .ok (.bipush (-2), 2) := dk_16 254 (dk_at dksX0_joy_1 4 rfl rfl)
theorem dX0_joy_30 : decode cX0_joy 30 = .ok (.invokevirtual 250, 3) := dk_182 0 250 (dk_at dksX0_joy_1 6 rfl rfl)
theorem dX0_joy_33 : decode cX0_joy 33 = .ok (.ireturn, 1) := dk_172 (dk_at dksX0_joy_1 9 rfl rfl)
abbrev cX0_taken : ByteArray := prog_1_method_45_code
def yX0_taken : MethodName := ⟨RX0, "taken", "(I)I"⟩
def dkwX0_taken_1 : List UInt8 := [180, 0, 39, 180, 0, 186, 27, 46, 104, 167, 0, 9, 42, 16, 254, 182, 0, 63, 172]
abbrev dktX0_taken_1 : List UInt8 := dkwX0_taken_1 ++ []
def dkwX0_taken_0 : List UInt8 := [42, 180, 0, 39, 27, 182, 0, 180, 153, 0, 28, 42, 180, 0, 39, 182, 0, 253, 180, 1, 4, 27, 46, 42]
abbrev dktX0_taken_0 : List UInt8 := dkwX0_taken_0 ++ dktX0_taken_1
theorem dksX0_taken_0 : cX0_taken.data.toList.drop 0 = dktX0_taken_0 := by decide +kernel
theorem dksX0_taken_1 : cX0_taken.data.toList.drop 24 = dktX0_taken_1 := dk_seg dksX0_taken_0 24 rfl rfl
theorem dX0_taken_0 : decode cX0_taken 0 = .ok (.aload_n 0, 1) := dk_42 (dk_at dksX0_taken_0 0 rfl rfl)
theorem dX0_taken_1 : decode cX0_taken 1 = .ok (.getfield 39, 3) := dk_180 0 39 (dk_at dksX0_taken_0 1 rfl rfl)
theorem dX0_taken_4 : decode cX0_taken 4 = .ok (.iload_n 1, 1) := dk_27 (dk_at dksX0_taken_0 4 rfl rfl)
theorem dX0_taken_5 : decode cX0_taken 5 = .ok (.invokevirtual 180, 3) := dk_182 0 180 (dk_at dksX0_taken_0 5 rfl rfl)
theorem dX0_taken_8 : decode cX0_taken 8 = .ok (.ifCond .eq 28, 3) := dk_153 0 28 (dk_at dksX0_taken_0 8 rfl rfl)
theorem dX0_taken_11 : decode cX0_taken 11 = .ok (.aload_n 0, 1) := dk_42 (dk_at dksX0_taken_0 11 rfl rfl)
theorem dX0_taken_12 : decode cX0_taken 12 = .ok (.getfield 39, 3) := dk_180 0 39 (dk_at dksX0_taken_0 12 rfl rfl)
theorem dX0_taken_15 : decode cX0_taken 15 = .ok (.invokevirtual 253, 3) := dk_182 0 253 (dk_at dksX0_taken_0 15 rfl rfl)
theorem dX0_taken_18 : decode cX0_taken 18 = .ok (.getfield 260, 3) := dk_180 1 4 (dk_at dksX0_taken_0 18 rfl rfl)
theorem dX0_taken_21 : decode cX0_taken 21 = .ok (.iload_n 1, 1) := dk_27 (dk_at dksX0_taken_0 21 rfl rfl)
theorem dX0_taken_22 : decode cX0_taken 22 = .ok (.iaload, 1) := dk_46 (dk_at dksX0_taken_0 22 rfl rfl)
theorem dX0_taken_23 : decode cX0_taken 23 = .ok (.aload_n 0, 1) := dk_42 (dk_at dksX0_taken_0 23 rfl rfl)
theorem dX0_taken_24 : decode cX0_taken 24 = .ok (.getfield 39, 3) := dk_180 0 39 (dk_at dksX0_taken_1 0 rfl rfl)
theorem dX0_taken_27 : decode cX0_taken 27 = .ok (.getfield 186, 3) := dk_180 0 186 (dk_at dksX0_taken_1 3 rfl rfl)
theorem dX0_taken_30 : decode cX0_taken 30 = .ok (.iload_n 1, 1) := dk_27 (dk_at dksX0_taken_1 6 rfl rfl)
theorem dX0_taken_31 : decode cX0_taken 31 = .ok (.iaload, 1) := dk_46 (dk_at dksX0_taken_1 7 rfl rfl)
theorem dX0_taken_32 : decode cX0_taken 32 = .ok (.imul, 1) := dk_104 (dk_at dksX0_taken_1 8 rfl rfl)
theorem dX0_taken_33 : decode cX0_taken 33 = .ok (.goto 9, 3) := dk_167 0 9 (dk_at dksX0_taken_1 9 rfl rfl)
theorem dX0_taken_36 : decode cX0_taken 36 = .ok (.aload_n 0, 1) := dk_42 (dk_at dksX0_taken_1 12 rfl rfl)
theorem dX0_taken_37 : decode cX0_taken 37 = .ok (.bipush (-2), 2) := dk_16 254 (dk_at dksX0_taken_1 13 rfl rfl)
theorem dX0_taken_39 : decode cX0_taken 39 = .ok (.invokevirtual 63, 3) := dk_182 0 63 (dk_at dksX0_taken_1 15 rfl rfl)
theorem dX0_taken_42 : decode cX0_taken 42 = .ok (.ireturn, 1) := dk_172 (dk_at dksX0_taken_1 18 rfl rfl)
abbrev cX0_crowd : ByteArray := prog_1_method_46_code
def yX0_crowd : MethodName := ⟨RX0, "crowd", "(I)I"⟩
def dkwX0_crowd_3 : List UInt8 := [180, 0, 161, 29, 46, 167, 0, 4, 3, 96, 61, 132, 3, 1, 167, 255, 194, 28, 172]
abbrev dktX0_crowd_3 : List UInt8 := dkwX0_crowd_3 ++ []
def dkwX0_crowd_2 : List UInt8 := [153, 0, 32, 42, 42, 180, 0, 39, 180, 0, 146, 29, 50, 182, 0, 164, 27, 160, 0, 15, 42, 180, 0, 39]
abbrev dktX0_crowd_2 : List UInt8 := dkwX0_crowd_2 ++ dktX0_crowd_3
def dkwX0_crowd_1 : List UInt8 := [180, 0, 39, 180, 0, 71, 162, 0, 57, 28, 42, 180, 0, 39, 180, 0, 146, 29, 50, 193, 0, 16]
abbrev dktX0_crowd_1 : List UInt8 := dkwX0_crowd_1 ++ dktX0_crowd_2
def dkwX0_crowd_0 : List UInt8 := [42, 180, 0, 39, 27, 182, 0, 180, 154, 0, 10, 42, 16, 254, 182, 0, 63, 172, 3, 61, 3, 62, 29, 42]
abbrev dktX0_crowd_0 : List UInt8 := dkwX0_crowd_0 ++ dktX0_crowd_1
theorem dksX0_crowd_0 : cX0_crowd.data.toList.drop 0 = dktX0_crowd_0 := by decide +kernel
theorem dksX0_crowd_1 : cX0_crowd.data.toList.drop 24 = dktX0_crowd_1 := dk_seg dksX0_crowd_0 24 rfl rfl
theorem dksX0_crowd_2 : cX0_crowd.data.toList.drop 46 = dktX0_crowd_2 := dk_seg dksX0_crowd_1 22 rfl rfl
theorem dksX0_crowd_3 : cX0_crowd.data.toList.drop 70 = dktX0_crowd_3 := dk_seg dksX0_crowd_2 24 rfl rfl
theorem dX0_crowd_0 : decode cX0_crowd 0 = .ok (.aload_n 0, 1) := dk_42 (dk_at dksX0_crowd_0 0 rfl rfl)
theorem dX0_crowd_1 : decode cX0_crowd 1 = .ok (.getfield 39, 3) := dk_180 0 39 (dk_at dksX0_crowd_0 1 rfl rfl)
theorem dX0_crowd_4 : decode cX0_crowd 4 = .ok (.iload_n 1, 1) := dk_27 (dk_at dksX0_crowd_0 4 rfl rfl)
theorem dX0_crowd_5 : decode cX0_crowd 5 = .ok (.invokevirtual 180, 3) := dk_182 0 180 (dk_at dksX0_crowd_0 5 rfl rfl)
theorem dX0_crowd_8 : decode cX0_crowd 8 = .ok (.ifCond .ne 10, 3) := dk_154 0 10 (dk_at dksX0_crowd_0 8 rfl rfl)
theorem dX0_crowd_11 : decode cX0_crowd 11 = .ok (.aload_n 0, 1) := dk_42 (dk_at dksX0_crowd_0 11 rfl rfl)
theorem dX0_crowd_12 : decode cX0_crowd 12 = .ok (.bipush (-2), 2) := dk_16 254 (dk_at dksX0_crowd_0 12 rfl rfl)
theorem dX0_crowd_14 : decode cX0_crowd 14 = .ok (.invokevirtual 63, 3) := dk_182 0 63 (dk_at dksX0_crowd_0 14 rfl rfl)
theorem dX0_crowd_17 : decode cX0_crowd 17 = .ok (.ireturn, 1) := dk_172 (dk_at dksX0_crowd_0 17 rfl rfl)
theorem dX0_crowd_18 : decode cX0_crowd 18 = .ok (.iconst 0, 1) := dk_3 (dk_at dksX0_crowd_0 18 rfl rfl)
theorem dX0_crowd_19 : decode cX0_crowd 19 = .ok (.istore_n 2, 1) := dk_61 (dk_at dksX0_crowd_0 19 rfl rfl)
theorem dX0_crowd_20 : decode cX0_crowd 20 = .ok (.iconst 0, 1) := dk_3 (dk_at dksX0_crowd_0 20 rfl rfl)
theorem dX0_crowd_21 : decode cX0_crowd 21 = .ok (.istore_n 3, 1) := dk_62 (dk_at dksX0_crowd_0 21 rfl rfl)
theorem dX0_crowd_22 : decode cX0_crowd 22 = .ok (.iload_n 3, 1) := dk_29 (dk_at dksX0_crowd_0 22 rfl rfl)
theorem dX0_crowd_23 : decode cX0_crowd 23 = .ok (.aload_n 0, 1) := dk_42 (dk_at dksX0_crowd_0 23 rfl rfl)
theorem dX0_crowd_24 : decode cX0_crowd 24 = .ok (.getfield 39, 3) := dk_180 0 39 (dk_at dksX0_crowd_1 0 rfl rfl)
theorem dX0_crowd_27 : decode cX0_crowd 27 = .ok (.getfield 71, 3) := dk_180 0 71 (dk_at dksX0_crowd_1 3 rfl rfl)
theorem dX0_crowd_30 : decode cX0_crowd 30 = .ok (.if_icmp .ge 57, 3) := dk_162 0 57 (dk_at dksX0_crowd_1 6 rfl rfl)
theorem dX0_crowd_33 : decode cX0_crowd 33 = .ok (.iload_n 2, 1) := dk_28 (dk_at dksX0_crowd_1 9 rfl rfl)
theorem dX0_crowd_34 : decode cX0_crowd 34 = .ok (.aload_n 0, 1) := dk_42 (dk_at dksX0_crowd_1 10 rfl rfl)
theorem dX0_crowd_35 : decode cX0_crowd 35 = .ok (.getfield 39, 3) := dk_180 0 39 (dk_at dksX0_crowd_1 11 rfl rfl)
theorem dX0_crowd_38 : decode cX0_crowd 38 = .ok (.getfield 146, 3) := dk_180 0 146 (dk_at dksX0_crowd_1 14 rfl rfl)
theorem dX0_crowd_41 : decode cX0_crowd 41 = .ok (.iload_n 3, 1) := dk_29 (dk_at dksX0_crowd_1 17 rfl rfl)
theorem dX0_crowd_42 : decode cX0_crowd 42 = .ok (.aaload, 1) := dk_50 (dk_at dksX0_crowd_1 18 rfl rfl)
theorem dX0_crowd_43 : decode cX0_crowd 43 = .ok (.instanceof 16, 3) := dk_193 0 16 (dk_at dksX0_crowd_1 19 rfl rfl)
theorem dX0_crowd_46 : decode cX0_crowd 46 = .ok (.ifCond .eq 32, 3) := dk_153 0 32 (dk_at dksX0_crowd_2 0 rfl rfl)
theorem dX0_crowd_49 : decode cX0_crowd 49 = .ok (.aload_n 0, 1) := dk_42 (dk_at dksX0_crowd_2 3 rfl rfl)
theorem dX0_crowd_50 : decode cX0_crowd 50 = .ok (.aload_n 0, 1) := dk_42 (dk_at dksX0_crowd_2 4 rfl rfl)
theorem dX0_crowd_51 : decode cX0_crowd 51 = .ok (.getfield 39, 3) := dk_180 0 39 (dk_at dksX0_crowd_2 5 rfl rfl)
theorem dX0_crowd_54 : decode cX0_crowd 54 = .ok (.getfield 146, 3) := dk_180 0 146 (dk_at dksX0_crowd_2 8 rfl rfl)
theorem dX0_crowd_57 : decode cX0_crowd 57 = .ok (.iload_n 3, 1) := dk_29 (dk_at dksX0_crowd_2 11 rfl rfl)
theorem dX0_crowd_58 : decode cX0_crowd 58 = .ok (.aaload, 1) := dk_50 (dk_at dksX0_crowd_2 12 rfl rfl)
theorem dX0_crowd_59 : decode cX0_crowd 59 = .ok (.invokevirtual 164, 3) := dk_182 0 164 (dk_at dksX0_crowd_2 13 rfl rfl)
theorem dX0_crowd_62 : decode cX0_crowd 62 = .ok (.iload_n 1, 1) := dk_27 (dk_at dksX0_crowd_2 16 rfl rfl)
theorem dX0_crowd_63 : decode cX0_crowd 63 = .ok (.if_icmp .ne 15, 3) := dk_160 0 15 (dk_at dksX0_crowd_2 17 rfl rfl)
theorem dX0_crowd_66 : decode cX0_crowd 66 = .ok (.aload_n 0, 1) := dk_42 (dk_at dksX0_crowd_2 20 rfl rfl)
theorem dX0_crowd_67 : decode cX0_crowd 67 = .ok (.getfield 39, 3) := dk_180 0 39 (dk_at dksX0_crowd_2 21 rfl rfl)
theorem dX0_crowd_70 : decode cX0_crowd 70 = .ok (.getfield 161, 3) := dk_180 0 161 (dk_at dksX0_crowd_3 0 rfl rfl)
theorem dX0_crowd_73 : decode cX0_crowd 73 = .ok (.iload_n 3, 1) := dk_29 (dk_at dksX0_crowd_3 3 rfl rfl)
theorem dX0_crowd_74 : decode cX0_crowd 74 = .ok (.iaload, 1) := dk_46 (dk_at dksX0_crowd_3 4 rfl rfl)
theorem dX0_crowd_75 : decode cX0_crowd 75 = .ok (.goto 4, 3) := dk_167 0 4 (dk_at dksX0_crowd_3 5 rfl rfl)
theorem dX0_crowd_78 : decode cX0_crowd 78 = .ok (.iconst 0, 1) := dk_3 (dk_at dksX0_crowd_3 8 rfl rfl)
theorem dX0_crowd_79 : decode cX0_crowd 79 = .ok (.iadd, 1) := dk_96 (dk_at dksX0_crowd_3 9 rfl rfl)
theorem dX0_crowd_80 : decode cX0_crowd 80 = .ok (.istore_n 2, 1) := dk_61 (dk_at dksX0_crowd_3 10 rfl rfl)
theorem dX0_crowd_81 : decode cX0_crowd 81 = .ok (.iinc 3 1, 3) := dk_132 3 1 (dk_at dksX0_crowd_3 11 rfl rfl)
theorem dX0_crowd_84 : decode cX0_crowd 84 = .ok (.goto (-62), 3) := dk_167 255 194 (dk_at dksX0_crowd_3 14 rfl rfl)
theorem dX0_crowd_87 : decode cX0_crowd 87 = .ok (.iload_n 2, 1) := dk_28 (dk_at dksX0_crowd_3 17 rfl rfl)
theorem dX0_crowd_88 : decode cX0_crowd 88 = .ok (.ireturn, 1) := dk_172 (dk_at dksX0_crowd_3 18 rfl rfl)
abbrev cX0_lean : ByteArray := prog_1_method_47_code
def yX0_lean : MethodName := ⟨RX0, "lean", "(I)I"⟩
def dkwX0_lean_2 : List UInt8 := [27, 46, 42, 180, 0, 39, 180, 0, 200, 27, 46, 108, 42, 180, 0, 39, 180, 0, 183, 27, 46, 100, 172]
abbrev dktX0_lean_2 : List UInt8 := dkwX0_lean_2 ++ []
def dkwX0_lean_1 : List UInt8 := [180, 0, 200, 27, 46, 154, 0, 12, 42, 16, 251, 182, 0, 250, 167, 0, 32, 42, 180, 0, 39, 180, 0, 238]
abbrev dktX0_lean_1 : List UInt8 := dkwX0_lean_1 ++ dktX0_lean_2
def dkwX0_lean_0 : List UInt8 := [42, 180, 0, 39, 27, 182, 0, 180, 154, 0, 10, 42, 16, 254, 182, 0, 250, 172, 42, 180, 0, 39]
abbrev dktX0_lean_0 : List UInt8 := dkwX0_lean_0 ++ dktX0_lean_1
theorem dksX0_lean_0 : cX0_lean.data.toList.drop 0 = dktX0_lean_0 := by decide +kernel
theorem dksX0_lean_1 : cX0_lean.data.toList.drop 22 = dktX0_lean_1 := dk_seg dksX0_lean_0 22 rfl rfl
theorem dksX0_lean_2 : cX0_lean.data.toList.drop 46 = dktX0_lean_2 := dk_seg dksX0_lean_1 24 rfl rfl
theorem dX0_lean_0 : decode cX0_lean 0 = .ok (.aload_n 0, 1) := dk_42 (dk_at dksX0_lean_0 0 rfl rfl)
theorem dX0_lean_1 : decode cX0_lean 1 = .ok (.getfield 39, 3) := dk_180 0 39 (dk_at dksX0_lean_0 1 rfl rfl)
theorem dX0_lean_4 : decode cX0_lean 4 = .ok (.iload_n 1, 1) := dk_27 (dk_at dksX0_lean_0 4 rfl rfl)
theorem dX0_lean_5 : decode cX0_lean 5 = .ok (.invokevirtual 180, 3) := dk_182 0 180 (dk_at dksX0_lean_0 5 rfl rfl)
theorem dX0_lean_8 : decode cX0_lean 8 = .ok (.ifCond .ne 10, 3) := dk_154 0 10 (dk_at dksX0_lean_0 8 rfl rfl)
theorem dX0_lean_11 : decode cX0_lean 11 = .ok (.aload_n 0, 1) := dk_42 (dk_at dksX0_lean_0 11 rfl rfl)
theorem dX0_lean_12 : decode cX0_lean 12 = .ok (.bipush (-2), 2) := dk_16 254 (dk_at dksX0_lean_0 12 rfl rfl)
theorem dX0_lean_14 : decode cX0_lean 14 = .ok (.invokevirtual 250, 3) := dk_182 0 250 (dk_at dksX0_lean_0 14 rfl rfl)
theorem dX0_lean_17 : decode cX0_lean 17 = .ok (.ireturn, 1) := dk_172 (dk_at dksX0_lean_0 17 rfl rfl)
theorem dX0_lean_18 : decode cX0_lean 18 = .ok (.aload_n 0, 1) := dk_42 (dk_at dksX0_lean_0 18 rfl rfl)
theorem dX0_lean_19 : decode cX0_lean 19 = .ok (.getfield 39, 3) := dk_180 0 39 (dk_at dksX0_lean_0 19 rfl rfl)
theorem dX0_lean_22 : decode cX0_lean 22 = .ok (.getfield 200, 3) := dk_180 0 200 (dk_at dksX0_lean_1 0 rfl rfl)
theorem dX0_lean_25 : decode cX0_lean 25 = .ok (.iload_n 1, 1) := dk_27 (dk_at dksX0_lean_1 3 rfl rfl)
theorem dX0_lean_26 : decode cX0_lean 26 = .ok (.iaload, 1) := dk_46 (dk_at dksX0_lean_1 4 rfl rfl)
theorem dX0_lean_27 : decode cX0_lean 27 = .ok (.ifCond .ne 12, 3) := dk_154 0 12 (dk_at dksX0_lean_1 5 rfl rfl)
theorem dX0_lean_30 : decode cX0_lean 30 = .ok (.aload_n 0, 1) := dk_42 (dk_at dksX0_lean_1 8 rfl rfl)
theorem dX0_lean_31 : decode cX0_lean 31 = .ok (.bipush (-5), 2) := dk_16 251 (dk_at dksX0_lean_1 9 rfl rfl)
theorem dX0_lean_33 : decode cX0_lean 33 = .ok (.invokevirtual 250, 3) := dk_182 0 250 (dk_at dksX0_lean_1 11 rfl rfl)
theorem dX0_lean_36 : decode cX0_lean 36 = .ok (.goto 32, 3) := dk_167 0 32 (dk_at dksX0_lean_1 14 rfl rfl)
theorem dX0_lean_39 : decode cX0_lean 39 = .ok (.aload_n 0, 1) := dk_42 (dk_at dksX0_lean_1 17 rfl rfl)
theorem dX0_lean_40 : decode cX0_lean 40 = .ok (.getfield 39, 3) := dk_180 0 39 (dk_at dksX0_lean_1 18 rfl rfl)
theorem dX0_lean_43 : decode cX0_lean 43 = .ok (.getfield 238, 3) := dk_180 0 238 (dk_at dksX0_lean_1 21 rfl rfl)
theorem dX0_lean_46 : decode cX0_lean 46 = .ok (.iload_n 1, 1) := dk_27 (dk_at dksX0_lean_2 0 rfl rfl)
theorem dX0_lean_47 : decode cX0_lean 47 = .ok (.iaload, 1) := dk_46 (dk_at dksX0_lean_2 1 rfl rfl)
theorem dX0_lean_48 : decode cX0_lean 48 = .ok (.aload_n 0, 1) := dk_42 (dk_at dksX0_lean_2 2 rfl rfl)
theorem dX0_lean_49 : decode cX0_lean 49 = .ok (.getfield 39, 3) := dk_180 0 39 (dk_at dksX0_lean_2 3 rfl rfl)
theorem dX0_lean_52 : decode cX0_lean 52 = .ok (.getfield 200, 3) := dk_180 0 200 (dk_at dksX0_lean_2 6 rfl rfl)
theorem dX0_lean_55 : decode cX0_lean 55 = .ok (.iload_n 1, 1) := dk_27 (dk_at dksX0_lean_2 9 rfl rfl)
theorem dX0_lean_56 : decode cX0_lean 56 = .ok (.iaload, 1) := dk_46 (dk_at dksX0_lean_2 10 rfl rfl)
theorem dX0_lean_57 : decode cX0_lean 57 = .ok (.idiv, 1) := dk_108 (dk_at dksX0_lean_2 11 rfl rfl)
theorem dX0_lean_58 : decode cX0_lean 58 = .ok (.aload_n 0, 1) := dk_42 (dk_at dksX0_lean_2 12 rfl rfl)
theorem dX0_lean_59 : decode cX0_lean 59 = .ok (.getfield 39, 3) := dk_180 0 39 (dk_at dksX0_lean_2 13 rfl rfl)
theorem dX0_lean_62 : decode cX0_lean 62 = .ok (.getfield 183, 3) := dk_180 0 183 (dk_at dksX0_lean_2 16 rfl rfl)
theorem dX0_lean_65 : decode cX0_lean 65 = .ok (.iload_n 1, 1) := dk_27 (dk_at dksX0_lean_2 19 rfl rfl)
theorem dX0_lean_66 : decode cX0_lean 66 = .ok (.iaload, 1) := dk_46 (dk_at dksX0_lean_2 20 rfl rfl)
theorem dX0_lean_67 : decode cX0_lean 67 = .ok (.isub, 1) := dk_100 (dk_at dksX0_lean_2 21 rfl rfl)
theorem dX0_lean_68 : decode cX0_lean 68 = .ok (.ireturn, 1) := dk_172 (dk_at dksX0_lean_2 22 rfl rfl)
abbrev cX0_truest : ByteArray := prog_1_method_48_code
def yX0_truest : MethodName := ⟨RX0, "truest", "()I"⟩
def dkwX0_truest_3 : List UInt8 := [167, 255, 190, 27, 2, 160, 0, 12, 42, 16, 251, 182, 0, 63, 167, 0, 4, 27, 172]
abbrev dktX0_truest_3 : List UInt8 := dkwX0_truest_3 ++ []
def dkwX0_truest_2 : List UInt8 := [42, 180, 0, 39, 180, 0, 186, 27, 46, 100, 164, 0, 7, 28, 167, 0, 4, 27, 60, 132, 2, 1]
abbrev dktX0_truest_2 : List UInt8 := dkwX0_truest_2 ++ dktX0_truest_3
def dkwX0_truest_1 : List UInt8 := [180, 0, 183, 28, 46, 42, 180, 0, 39, 180, 0, 186, 28, 46, 100, 42, 180, 0, 39, 180, 0, 183, 27, 46]
abbrev dktX0_truest_1 : List UInt8 := dkwX0_truest_1 ++ dktX0_truest_2
def dkwX0_truest_0 : List UInt8 := [2, 60, 3, 61, 28, 42, 180, 0, 39, 180, 0, 150, 162, 0, 61, 27, 2, 159, 0, 44, 42, 180, 0, 39]
abbrev dktX0_truest_0 : List UInt8 := dkwX0_truest_0 ++ dktX0_truest_1
theorem dksX0_truest_0 : cX0_truest.data.toList.drop 0 = dktX0_truest_0 := by decide +kernel
theorem dksX0_truest_1 : cX0_truest.data.toList.drop 24 = dktX0_truest_1 := dk_seg dksX0_truest_0 24 rfl rfl
theorem dksX0_truest_2 : cX0_truest.data.toList.drop 48 = dktX0_truest_2 := dk_seg dksX0_truest_1 24 rfl rfl
theorem dksX0_truest_3 : cX0_truest.data.toList.drop 70 = dktX0_truest_3 := dk_seg dksX0_truest_2 22 rfl rfl
theorem dX0_truest_0 : decode cX0_truest 0 = .ok (.iconst (-1), 1) := dk_2 (dk_at dksX0_truest_0 0 rfl rfl)
theorem dX0_truest_1 : decode cX0_truest 1 = .ok (.istore_n 1, 1) := dk_60 (dk_at dksX0_truest_0 1 rfl rfl)
theorem dX0_truest_2 : decode cX0_truest 2 = .ok (.iconst 0, 1) := dk_3 (dk_at dksX0_truest_0 2 rfl rfl)
theorem dX0_truest_3 : decode cX0_truest 3 = .ok (.istore_n 2, 1) := dk_61 (dk_at dksX0_truest_0 3 rfl rfl)
theorem dX0_truest_4 : decode cX0_truest 4 = .ok (.iload_n 2, 1) := dk_28 (dk_at dksX0_truest_0 4 rfl rfl)
theorem dX0_truest_5 : decode cX0_truest 5 = .ok (.aload_n 0, 1) := dk_42 (dk_at dksX0_truest_0 5 rfl rfl)
theorem dX0_truest_6 : decode cX0_truest 6 = .ok (.getfield 39, 3) := dk_180 0 39 (dk_at dksX0_truest_0 6 rfl rfl)
theorem dX0_truest_9 : decode cX0_truest 9 = .ok (.getfield 150, 3) := dk_180 0 150 (dk_at dksX0_truest_0 9 rfl rfl)
theorem dX0_truest_12 : decode cX0_truest 12 = .ok (.if_icmp .ge 61, 3) := dk_162 0 61 (dk_at dksX0_truest_0 12 rfl rfl)
theorem dX0_truest_15 : decode cX0_truest 15 = .ok (.iload_n 1, 1) := dk_27 (dk_at dksX0_truest_0 15 rfl rfl)
theorem dX0_truest_16 : decode cX0_truest 16 = .ok (.iconst (-1), 1) := dk_2 (dk_at dksX0_truest_0 16 rfl rfl)
theorem dX0_truest_17 : decode cX0_truest 17 = .ok (.if_icmp .eq 44, 3) := dk_159 0 44 (dk_at dksX0_truest_0 17 rfl rfl)
theorem dX0_truest_20 : decode cX0_truest 20 = .ok (.aload_n 0, 1) := dk_42 (dk_at dksX0_truest_0 20 rfl rfl)
theorem dX0_truest_21 : decode cX0_truest 21 = .ok (.getfield 39, 3) := dk_180 0 39 (dk_at dksX0_truest_0 21 rfl rfl)
theorem dX0_truest_24 : decode cX0_truest 24 = .ok (.getfield 183, 3) := dk_180 0 183 (dk_at dksX0_truest_1 0 rfl rfl)
theorem dX0_truest_27 : decode cX0_truest 27 = .ok (.iload_n 2, 1) := dk_28 (dk_at dksX0_truest_1 3 rfl rfl)
theorem dX0_truest_28 : decode cX0_truest 28 = .ok (.iaload, 1) := dk_46 (dk_at dksX0_truest_1 4 rfl rfl)
theorem dX0_truest_29 : decode cX0_truest 29 = .ok (.aload_n 0, 1) := dk_42 (dk_at dksX0_truest_1 5 rfl rfl)
theorem dX0_truest_30 : decode cX0_truest 30 = .ok (.getfield 39, 3) := dk_180 0 39 (dk_at dksX0_truest_1 6 rfl rfl)
theorem dX0_truest_33 : decode cX0_truest 33 = .ok (.getfield 186, 3) := dk_180 0 186 (dk_at dksX0_truest_1 9 rfl rfl)
theorem dX0_truest_36 : decode cX0_truest 36 = .ok (.iload_n 2, 1) := dk_28 (dk_at dksX0_truest_1 12 rfl rfl)
theorem dX0_truest_37 : decode cX0_truest 37 = .ok (.iaload, 1) := dk_46 (dk_at dksX0_truest_1 13 rfl rfl)
theorem dX0_truest_38 : decode cX0_truest 38 = .ok (.isub, 1) := dk_100 (dk_at dksX0_truest_1 14 rfl rfl)
theorem dX0_truest_39 : decode cX0_truest 39 = .ok (.aload_n 0, 1) := dk_42 (dk_at dksX0_truest_1 15 rfl rfl)
theorem dX0_truest_40 : decode cX0_truest 40 = .ok (.getfield 39, 3) := dk_180 0 39 (dk_at dksX0_truest_1 16 rfl rfl)
theorem dX0_truest_43 : decode cX0_truest 43 = .ok (.getfield 183, 3) := dk_180 0 183 (dk_at dksX0_truest_1 19 rfl rfl)
theorem dX0_truest_46 : decode cX0_truest 46 = .ok (.iload_n 1, 1) := dk_27 (dk_at dksX0_truest_1 22 rfl rfl)
theorem dX0_truest_47 : decode cX0_truest 47 = .ok (.iaload, 1) := dk_46 (dk_at dksX0_truest_1 23 rfl rfl)
theorem dX0_truest_48 : decode cX0_truest 48 = .ok (.aload_n 0, 1) := dk_42 (dk_at dksX0_truest_2 0 rfl rfl)
theorem dX0_truest_49 : decode cX0_truest 49 = .ok (.getfield 39, 3) := dk_180 0 39 (dk_at dksX0_truest_2 1 rfl rfl)
theorem dX0_truest_52 : decode cX0_truest 52 = .ok (.getfield 186, 3) := dk_180 0 186 (dk_at dksX0_truest_2 4 rfl rfl)
theorem dX0_truest_55 : decode cX0_truest 55 = .ok (.iload_n 1, 1) := dk_27 (dk_at dksX0_truest_2 7 rfl rfl)
theorem dX0_truest_56 : decode cX0_truest 56 = .ok (.iaload, 1) := dk_46 (dk_at dksX0_truest_2 8 rfl rfl)
theorem dX0_truest_57 : decode cX0_truest 57 = .ok (.isub, 1) := dk_100 (dk_at dksX0_truest_2 9 rfl rfl)
theorem dX0_truest_58 : decode cX0_truest 58 = .ok (.if_icmp .le 7, 3) := dk_164 0 7 (dk_at dksX0_truest_2 10 rfl rfl)
theorem dX0_truest_61 : decode cX0_truest 61 = .ok (.iload_n 2, 1) := dk_28 (dk_at dksX0_truest_2 13 rfl rfl)
theorem dX0_truest_62 : decode cX0_truest 62 = .ok (.goto 4, 3) := dk_167 0 4 (dk_at dksX0_truest_2 14 rfl rfl)
theorem dX0_truest_65 : decode cX0_truest 65 = .ok (.iload_n 1, 1) := dk_27 (dk_at dksX0_truest_2 17 rfl rfl)
theorem dX0_truest_66 : decode cX0_truest 66 = .ok (.istore_n 1, 1) := dk_60 (dk_at dksX0_truest_2 18 rfl rfl)
theorem dX0_truest_67 : decode cX0_truest 67 = .ok (.iinc 2 1, 3) := dk_132 2 1 (dk_at dksX0_truest_2 19 rfl rfl)
theorem dX0_truest_70 : decode cX0_truest 70 = .ok (.goto (-66), 3) := dk_167 255 190 (dk_at dksX0_truest_3 0 rfl rfl)
theorem dX0_truest_73 : decode cX0_truest 73 = .ok (.iload_n 1, 1) := dk_27 (dk_at dksX0_truest_3 3 rfl rfl)
theorem dX0_truest_74 : decode cX0_truest 74 = .ok (.iconst (-1), 1) := dk_2 (dk_at dksX0_truest_3 4 rfl rfl)
theorem dX0_truest_75 : decode cX0_truest 75 = .ok (.if_icmp .ne 12, 3) := dk_160 0 12 (dk_at dksX0_truest_3 5 rfl rfl)
theorem dX0_truest_78 : decode cX0_truest 78 = .ok (.aload_n 0, 1) := dk_42 (dk_at dksX0_truest_3 8 rfl rfl)
theorem dX0_truest_79 : decode cX0_truest 79 = .ok (.bipush (-5), 2) := dk_16 251 (dk_at dksX0_truest_3 9 rfl rfl)
theorem dX0_truest_81 : decode cX0_truest 81 = .ok (.invokevirtual 63, 3) := dk_182 0 63 (dk_at dksX0_truest_3 11 rfl rfl)
theorem dX0_truest_84 : decode cX0_truest 84 = .ok (.goto 4, 3) := dk_167 0 4 (dk_at dksX0_truest_3 14 rfl rfl)
theorem dX0_truest_87 : decode cX0_truest 87 = .ok (.iload_n 1, 1) := dk_27 (dk_at dksX0_truest_3 17 rfl rfl)
theorem dX0_truest_88 : decode cX0_truest 88 = .ok (.ireturn, 1) := dk_172 (dk_at dksX0_truest_3 18 rfl rfl)
abbrev cX0_oldest : ByteArray := prog_1_method_49_code
def yX0_oldest : MethodName := ⟨RX0, "oldest", "()I"⟩
def dkwX0_oldest_3 : List UInt8 := [132, 3, 1, 167, 255, 189, 27, 172]
abbrev dktX0_oldest_3 : List UInt8 := dkwX0_oldest_3 ++ []
def dkwX0_oldest_2 : List UInt8 := [29, 46, 2, 159, 0, 19, 27, 2, 159, 0, 9, 21, 4, 28, 164, 0, 8, 29, 60, 21, 4, 61]
abbrev dktX0_oldest_2 : List UInt8 := dkwX0_oldest_2 ++ dktX0_oldest_3
def dkwX0_oldest_1 : List UInt8 := [29, 46, 42, 180, 0, 39, 180, 0, 183, 29, 46, 100, 184, 1, 16, 54, 4, 42, 180, 0, 39, 180, 0, 189]
abbrev dktX0_oldest_1 : List UInt8 := dkwX0_oldest_1 ++ dktX0_oldest_2
def dkwX0_oldest_0 : List UInt8 := [2, 60, 3, 61, 3, 62, 29, 42, 180, 0, 39, 180, 0, 150, 162, 0, 62, 42, 180, 0, 39, 180, 0, 189]
abbrev dktX0_oldest_0 : List UInt8 := dkwX0_oldest_0 ++ dktX0_oldest_1
theorem dksX0_oldest_0 : cX0_oldest.data.toList.drop 0 = dktX0_oldest_0 := by decide +kernel
theorem dksX0_oldest_1 : cX0_oldest.data.toList.drop 24 = dktX0_oldest_1 := dk_seg dksX0_oldest_0 24 rfl rfl
theorem dksX0_oldest_2 : cX0_oldest.data.toList.drop 48 = dktX0_oldest_2 := dk_seg dksX0_oldest_1 24 rfl rfl
theorem dksX0_oldest_3 : cX0_oldest.data.toList.drop 70 = dktX0_oldest_3 := dk_seg dksX0_oldest_2 22 rfl rfl
theorem dX0_oldest_0 : decode cX0_oldest 0 = .ok (.iconst (-1), 1) := dk_2 (dk_at dksX0_oldest_0 0 rfl rfl)
theorem dX0_oldest_1 : decode cX0_oldest 1 = .ok (.istore_n 1, 1) := dk_60 (dk_at dksX0_oldest_0 1 rfl rfl)
theorem dX0_oldest_2 : decode cX0_oldest 2 = .ok (.iconst 0, 1) := dk_3 (dk_at dksX0_oldest_0 2 rfl rfl)
theorem dX0_oldest_3 : decode cX0_oldest 3 = .ok (.istore_n 2, 1) := dk_61 (dk_at dksX0_oldest_0 3 rfl rfl)
theorem dX0_oldest_4 : decode cX0_oldest 4 = .ok (.iconst 0, 1) := dk_3 (dk_at dksX0_oldest_0 4 rfl rfl)
theorem dX0_oldest_5 : decode cX0_oldest 5 = .ok (.istore_n 3, 1) := dk_62 (dk_at dksX0_oldest_0 5 rfl rfl)
theorem dX0_oldest_6 : decode cX0_oldest 6 = .ok (.iload_n 3, 1) := dk_29 (dk_at dksX0_oldest_0 6 rfl rfl)
theorem dX0_oldest_7 : decode cX0_oldest 7 = .ok (.aload_n 0, 1) := dk_42 (dk_at dksX0_oldest_0 7 rfl rfl)
theorem dX0_oldest_8 : decode cX0_oldest 8 = .ok (.getfield 39, 3) := dk_180 0 39 (dk_at dksX0_oldest_0 8 rfl rfl)
theorem dX0_oldest_11 : decode cX0_oldest 11 = .ok (.getfield 150, 3) := dk_180 0 150 (dk_at dksX0_oldest_0 11 rfl rfl)
theorem dX0_oldest_14 : decode cX0_oldest 14 = .ok (.if_icmp .ge 62, 3) := dk_162 0 62 (dk_at dksX0_oldest_0 14 rfl rfl)
theorem dX0_oldest_17 : decode cX0_oldest 17 = .ok (.aload_n 0, 1) := dk_42 (dk_at dksX0_oldest_0 17 rfl rfl)
theorem dX0_oldest_18 : decode cX0_oldest 18 = .ok (.getfield 39, 3) := dk_180 0 39 (dk_at dksX0_oldest_0 18 rfl rfl)
theorem dX0_oldest_21 : decode cX0_oldest 21 = .ok (.getfield 189, 3) := dk_180 0 189 (dk_at dksX0_oldest_0 21 rfl rfl)
theorem dX0_oldest_24 : decode cX0_oldest 24 = .ok (.iload_n 3, 1) := dk_29 (dk_at dksX0_oldest_1 0 rfl rfl)
theorem dX0_oldest_25 : decode cX0_oldest 25 = .ok (.iaload, 1) := dk_46 (dk_at dksX0_oldest_1 1 rfl rfl)
theorem dX0_oldest_26 : decode cX0_oldest 26 = .ok (.aload_n 0, 1) := dk_42 (dk_at dksX0_oldest_1 2 rfl rfl)
theorem dX0_oldest_27 : decode cX0_oldest 27 = .ok (.getfield 39, 3) := dk_180 0 39 (dk_at dksX0_oldest_1 3 rfl rfl)
theorem dX0_oldest_30 : decode cX0_oldest 30 = .ok (.getfield 183, 3) := dk_180 0 183 (dk_at dksX0_oldest_1 6 rfl rfl)
theorem dX0_oldest_33 : decode cX0_oldest 33 = .ok (.iload_n 3, 1) := dk_29 (dk_at dksX0_oldest_1 9 rfl rfl)
theorem dX0_oldest_34 : decode cX0_oldest 34 = .ok (.iaload, 1) := dk_46 (dk_at dksX0_oldest_1 10 rfl rfl)
theorem dX0_oldest_35 : decode cX0_oldest 35 = .ok (.isub, 1) := dk_100 (dk_at dksX0_oldest_1 11 rfl rfl)
theorem dX0_oldest_36 : decode cX0_oldest 36 = .ok (.invokestatic 272, 3) := dk_184 1 16 (dk_at dksX0_oldest_1 12 rfl rfl)
theorem dX0_oldest_39 : decode cX0_oldest 39 = .ok (.istore 4, 2) := dk_54 4 (dk_at dksX0_oldest_1 15 rfl rfl)
theorem dX0_oldest_41 : decode cX0_oldest 41 = .ok (.aload_n 0, 1) := dk_42 (dk_at dksX0_oldest_1 17 rfl rfl)
theorem dX0_oldest_42 : decode cX0_oldest 42 = .ok (.getfield 39, 3) := dk_180 0 39 (dk_at dksX0_oldest_1 18 rfl rfl)
theorem dX0_oldest_45 : decode cX0_oldest 45 = .ok (.getfield 189, 3) := dk_180 0 189 (dk_at dksX0_oldest_1 21 rfl rfl)
theorem dX0_oldest_48 : decode cX0_oldest 48 = .ok (.iload_n 3, 1) := dk_29 (dk_at dksX0_oldest_2 0 rfl rfl)
theorem dX0_oldest_49 : decode cX0_oldest 49 = .ok (.iaload, 1) := dk_46 (dk_at dksX0_oldest_2 1 rfl rfl)
theorem dX0_oldest_50 : decode cX0_oldest 50 = .ok (.iconst (-1), 1) := dk_2 (dk_at dksX0_oldest_2 2 rfl rfl)
theorem dX0_oldest_51 : decode cX0_oldest 51 = .ok (.if_icmp .eq 19, 3) := dk_159 0 19 (dk_at dksX0_oldest_2 3 rfl rfl)
theorem dX0_oldest_54 : decode cX0_oldest 54 = .ok (.iload_n 1, 1) := dk_27 (dk_at dksX0_oldest_2 6 rfl rfl)
theorem dX0_oldest_55 : decode cX0_oldest 55 = .ok (.iconst (-1), 1) := dk_2 (dk_at dksX0_oldest_2 7 rfl rfl)
theorem dX0_oldest_56 : decode cX0_oldest 56 = .ok (.if_icmp .eq 9, 3) := dk_159 0 9 (dk_at dksX0_oldest_2 8 rfl rfl)
theorem dX0_oldest_59 : decode cX0_oldest 59 = .ok (.iload 4, 2) := dk_21 4 (dk_at dksX0_oldest_2 11 rfl rfl)
theorem dX0_oldest_61 : decode cX0_oldest 61 = .ok (.iload_n 2, 1) := dk_28 (dk_at dksX0_oldest_2 13 rfl rfl)
theorem dX0_oldest_62 : decode cX0_oldest 62 = .ok (.if_icmp .le 8, 3) := dk_164 0 8 (dk_at dksX0_oldest_2 14 rfl rfl)
theorem dX0_oldest_65 : decode cX0_oldest 65 = .ok (.iload_n 3, 1) := dk_29 (dk_at dksX0_oldest_2 17 rfl rfl)
theorem dX0_oldest_66 : decode cX0_oldest 66 = .ok (.istore_n 1, 1) := dk_60 (dk_at dksX0_oldest_2 18 rfl rfl)
theorem dX0_oldest_67 : decode cX0_oldest 67 = .ok (.iload 4, 2) := dk_21 4 (dk_at dksX0_oldest_2 19 rfl rfl)
theorem dX0_oldest_69 : decode cX0_oldest 69 = .ok (.istore_n 2, 1) := dk_61 (dk_at dksX0_oldest_2 21 rfl rfl)
theorem dX0_oldest_70 : decode cX0_oldest 70 = .ok (.iinc 3 1, 3) := dk_132 3 1 (dk_at dksX0_oldest_3 0 rfl rfl)
theorem dX0_oldest_73 : decode cX0_oldest 73 = .ok (.goto (-67), 3) := dk_167 255 189 (dk_at dksX0_oldest_3 3 rfl rfl)
theorem dX0_oldest_76 : decode cX0_oldest 76 = .ok (.iload_n 1, 1) := dk_27 (dk_at dksX0_oldest_3 6 rfl rfl)
theorem dX0_oldest_77 : decode cX0_oldest 77 = .ok (.ireturn, 1) := dk_172 (dk_at dksX0_oldest_3 7 rfl rfl)
abbrev cX0_enough : ByteArray := prog_1_method_50_code
def yX0_enough : MethodName := ⟨RX0, "enough", "(I)I"⟩
def dkwX0_enough_2 : List UInt8 := [154, 0, 5, 29, 172, 132, 3, 1, 167, 255, 227, 2, 172]
abbrev dktX0_enough_2 : List UInt8 := dkwX0_enough_2 ++ []
def dkwX0_enough_1 : List UInt8 := [62, 29, 16, 20, 163, 0, 29, 44, 180, 0, 235, 27, 29, 79, 44, 182, 0, 253, 27, 182, 1, 10]
abbrev dktX0_enough_1 : List UInt8 := dkwX0_enough_1 ++ dktX0_enough_2
def dkwX0_enough_0 : List UInt8 := [42, 180, 0, 39, 27, 182, 0, 180, 154, 0, 10, 42, 16, 254, 182, 0, 63, 172, 42, 182, 1, 19, 77, 4]
abbrev dktX0_enough_0 : List UInt8 := dkwX0_enough_0 ++ dktX0_enough_1
theorem dksX0_enough_0 : cX0_enough.data.toList.drop 0 = dktX0_enough_0 := by decide +kernel
theorem dksX0_enough_1 : cX0_enough.data.toList.drop 24 = dktX0_enough_1 := dk_seg dksX0_enough_0 24 rfl rfl
theorem dksX0_enough_2 : cX0_enough.data.toList.drop 46 = dktX0_enough_2 := dk_seg dksX0_enough_1 22 rfl rfl
theorem dX0_enough_0 : decode cX0_enough 0 = .ok (.aload_n 0, 1) := dk_42 (dk_at dksX0_enough_0 0 rfl rfl)
theorem dX0_enough_1 : decode cX0_enough 1 = .ok (.getfield 39, 3) := dk_180 0 39 (dk_at dksX0_enough_0 1 rfl rfl)
theorem dX0_enough_4 : decode cX0_enough 4 = .ok (.iload_n 1, 1) := dk_27 (dk_at dksX0_enough_0 4 rfl rfl)
theorem dX0_enough_5 : decode cX0_enough 5 = .ok (.invokevirtual 180, 3) := dk_182 0 180 (dk_at dksX0_enough_0 5 rfl rfl)
theorem dX0_enough_8 : decode cX0_enough 8 = .ok (.ifCond .ne 10, 3) := dk_154 0 10 (dk_at dksX0_enough_0 8 rfl rfl)
theorem dX0_enough_11 : decode cX0_enough 11 = .ok (.aload_n 0, 1) := dk_42 (dk_at dksX0_enough_0 11 rfl rfl)
theorem dX0_enough_12 : decode cX0_enough 12 = .ok (.bipush (-2), 2) := dk_16 254 (dk_at dksX0_enough_0 12 rfl rfl)
theorem dX0_enough_14 : decode cX0_enough 14 = .ok (.invokevirtual 63, 3) := dk_182 0 63 (dk_at dksX0_enough_0 14 rfl rfl)
theorem dX0_enough_17 : decode cX0_enough 17 = .ok (.ireturn, 1) := dk_172 (dk_at dksX0_enough_0 17 rfl rfl)
theorem dX0_enough_18 : decode cX0_enough 18 = .ok (.aload_n 0, 1) := dk_42 (dk_at dksX0_enough_0 18 rfl rfl)
theorem dX0_enough_19 : decode cX0_enough 19 = .ok (.invokevirtual 275, 3) := dk_182 1 19 (dk_at dksX0_enough_0 19 rfl rfl)
theorem dX0_enough_22 : decode cX0_enough 22 = .ok (.astore_n 2, 1) := dk_77 (dk_at dksX0_enough_0 22 rfl rfl)
theorem dX0_enough_23 : decode cX0_enough 23 = .ok (.iconst 1, 1) := dk_4 (dk_at dksX0_enough_0 23 rfl rfl)
theorem dX0_enough_24 : decode cX0_enough 24 = .ok (.istore_n 3, 1) := dk_62 (dk_at dksX0_enough_1 0 rfl rfl)
theorem dX0_enough_25 : decode cX0_enough 25 = .ok (.iload_n 3, 1) := dk_29 (dk_at dksX0_enough_1 1 rfl rfl)
theorem dX0_enough_26 : decode cX0_enough 26 = .ok (.bipush 20, 2) := dk_16 20 (dk_at dksX0_enough_1 2 rfl rfl)
theorem dX0_enough_28 : decode cX0_enough 28 = .ok (.if_icmp .gt 29, 3) := dk_163 0 29 (dk_at dksX0_enough_1 4 rfl rfl)
theorem dX0_enough_31 : decode cX0_enough 31 = .ok (.aload_n 2, 1) := dk_44 (dk_at dksX0_enough_1 7 rfl rfl)
theorem dX0_enough_32 : decode cX0_enough 32 = .ok (.getfield 235, 3) := dk_180 0 235 (dk_at dksX0_enough_1 8 rfl rfl)
theorem dX0_enough_35 : decode cX0_enough 35 = .ok (.iload_n 1, 1) := dk_27 (dk_at dksX0_enough_1 11 rfl rfl)
theorem dX0_enough_36 : decode cX0_enough 36 = .ok (.iload_n 3, 1) := dk_29 (dk_at dksX0_enough_1 12 rfl rfl)
theorem dX0_enough_37 : decode cX0_enough 37 = .ok (.iastore, 1) := dk_79 (dk_at dksX0_enough_1 13 rfl rfl)
theorem dX0_enough_38 : decode cX0_enough 38 = .ok (.aload_n 2, 1) := dk_44 (dk_at dksX0_enough_1 14 rfl rfl)
theorem dX0_enough_39 : decode cX0_enough 39 = .ok (.invokevirtual 253, 3) := dk_182 0 253 (dk_at dksX0_enough_1 15 rfl rfl)
theorem dX0_enough_42 : decode cX0_enough 42 = .ok (.iload_n 1, 1) := dk_27 (dk_at dksX0_enough_1 18 rfl rfl)
theorem dX0_enough_43 : decode cX0_enough 43 = .ok (.invokevirtual 266, 3) := dk_182 1 10 (dk_at dksX0_enough_1 19 rfl rfl)
theorem dX0_enough_46 : decode cX0_enough 46 = .ok (.ifCond .ne 5, 3) := dk_154 0 5 (dk_at dksX0_enough_2 0 rfl rfl)
theorem dX0_enough_49 : decode cX0_enough 49 = .ok (.iload_n 3, 1) := dk_29 (dk_at dksX0_enough_2 3 rfl rfl)
theorem dX0_enough_50 : decode cX0_enough 50 = .ok (.ireturn, 1) := dk_172 (dk_at dksX0_enough_2 4 rfl rfl)
theorem dX0_enough_51 : decode cX0_enough 51 = .ok (.iinc 3 1, 3) := dk_132 3 1 (dk_at dksX0_enough_2 5 rfl rfl)
theorem dX0_enough_54 : decode cX0_enough 54 = .ok (.goto (-29), 3) := dk_167 255 227 (dk_at dksX0_enough_2 8 rfl rfl)
theorem dX0_enough_57 : decode cX0_enough 57 = .ok (.iconst (-1), 1) := dk_2 (dk_at dksX0_enough_2 11 rfl rfl)
theorem dX0_enough_58 : decode cX0_enough 58 = .ok (.ireturn, 1) := dk_172 (dk_at dksX0_enough_2 12 rfl rfl)
abbrev cX0_tried : ByteArray := prog_1_method_11_code
def yX0_tried : MethodName := ⟨RX0, "tried", "()LEverybodyHasTheBook$Valley;"⟩
def dkwX0_tried_0 : List UInt8 := [42, 180, 0, 45, 42, 180, 0, 39, 182, 0, 75, 176]
abbrev dktX0_tried_0 : List UInt8 := dkwX0_tried_0 ++ []
theorem dksX0_tried_0 : cX0_tried.data.toList.drop 0 = dktX0_tried_0 := by decide +kernel
theorem dX0_tried_0 : decode cX0_tried 0 = .ok (.aload_n 0, 1) := dk_42 (dk_at dksX0_tried_0 0 rfl rfl)
theorem dX0_tried_1 : decode cX0_tried 1 = .ok (.getfield 45, 3) := dk_180 0 45 (dk_at dksX0_tried_0 1 rfl rfl)
theorem dX0_tried_4 : decode cX0_tried 4 = .ok (.aload_n 0, 1) := dk_42 (dk_at dksX0_tried_0 4 rfl rfl)
theorem dX0_tried_5 : decode cX0_tried 5 = .ok (.getfield 39, 3) := dk_180 0 39 (dk_at dksX0_tried_0 5 rfl rfl)
theorem dX0_tried_8 : decode cX0_tried 8 = .ok (.invokevirtual 75, 3) := dk_182 0 75 (dk_at dksX0_tried_0 8 rfl rfl)
theorem dX0_tried_11 : decode cX0_tried 11 = .ok (.areturn, 1) := dk_176 (dk_at dksX0_tried_0 11 rfl rfl)
abbrev cX0_better : ByteArray := prog_1_method_51_code
def yX0_better : MethodName := ⟨RX0, "better", "(I)I"⟩
def dkwX0_better_4 : List UInt8 := [172]
abbrev dktX0_better_4 : List UInt8 := dkwX0_better_4 ++ []
def dkwX0_better_3 : List UInt8 := [159, 0, 10, 21, 6, 21, 4, 164, 0, 10, 21, 5, 62, 21, 6, 54, 4, 132, 5, 1, 167, 255, 193, 29]
abbrev dktX0_better_3 : List UInt8 := dkwX0_better_3 ++ dktX0_better_4
def dkwX0_better_2 : List UInt8 := [180, 0, 146, 27, 50, 180, 0, 244, 184, 0, 173, 83, 44, 182, 0, 253, 27, 182, 1, 13, 54, 6, 29, 2]
abbrev dktX0_better_2 : List UInt8 := dkwX0_better_2 ++ dktX0_better_3
def dkwX0_better_1 : List UInt8 := [54, 4, 3, 54, 5, 21, 5, 16, 6, 162, 0, 62, 44, 180, 0, 146, 27, 21, 5, 27, 42, 180, 0, 39]
abbrev dktX0_better_1 : List UInt8 := dkwX0_better_1 ++ dktX0_better_2
def dkwX0_better_0 : List UInt8 := [42, 27, 182, 0, 143, 154, 0, 10, 42, 16, 254, 182, 0, 63, 172, 42, 182, 1, 19, 77, 2, 62, 3]
abbrev dktX0_better_0 : List UInt8 := dkwX0_better_0 ++ dktX0_better_1
theorem dksX0_better_0 : cX0_better.data.toList.drop 0 = dktX0_better_0 := by decide +kernel
theorem dksX0_better_1 : cX0_better.data.toList.drop 23 = dktX0_better_1 := dk_seg dksX0_better_0 23 rfl rfl
theorem dksX0_better_2 : cX0_better.data.toList.drop 47 = dktX0_better_2 := dk_seg dksX0_better_1 24 rfl rfl
theorem dksX0_better_3 : cX0_better.data.toList.drop 71 = dktX0_better_3 := dk_seg dksX0_better_2 24 rfl rfl
theorem dksX0_better_4 : cX0_better.data.toList.drop 95 = dktX0_better_4 := dk_seg dksX0_better_3 24 rfl rfl
theorem dX0_better_0 : decode cX0_better 0 = .ok (.aload_n 0, 1) := dk_42 (dk_at dksX0_better_0 0 rfl rfl)
theorem dX0_better_1 : decode cX0_better 1 = .ok (.iload_n 1, 1) := dk_27 (dk_at dksX0_better_0 1 rfl rfl)
theorem dX0_better_2 : decode cX0_better 2 = .ok (.invokevirtual 143, 3) := dk_182 0 143 (dk_at dksX0_better_0 2 rfl rfl)
theorem dX0_better_5 : decode cX0_better 5 = .ok (.ifCond .ne 10, 3) := dk_154 0 10 (dk_at dksX0_better_0 5 rfl rfl)
theorem dX0_better_8 : decode cX0_better 8 = .ok (.aload_n 0, 1) := dk_42 (dk_at dksX0_better_0 8 rfl rfl)
theorem dX0_better_9 : decode cX0_better 9 = .ok (.bipush (-2), 2) := dk_16 254 (dk_at dksX0_better_0 9 rfl rfl)
theorem dX0_better_11 : decode cX0_better 11 = .ok (.invokevirtual 63, 3) := dk_182 0 63 (dk_at dksX0_better_0 11 rfl rfl)
theorem dX0_better_14 : decode cX0_better 14 = .ok (.ireturn, 1) := dk_172 (dk_at dksX0_better_0 14 rfl rfl)
theorem dX0_better_15 : decode cX0_better 15 = .ok (.aload_n 0, 1) := dk_42 (dk_at dksX0_better_0 15 rfl rfl)
theorem dX0_better_16 : decode cX0_better 16 = .ok (.invokevirtual 275, 3) := dk_182 1 19 (dk_at dksX0_better_0 16 rfl rfl)
theorem dX0_better_19 : decode cX0_better 19 = .ok (.astore_n 2, 1) := dk_77 (dk_at dksX0_better_0 19 rfl rfl)
theorem dX0_better_20 : decode cX0_better 20 = .ok (.iconst (-1), 1) := dk_2 (dk_at dksX0_better_0 20 rfl rfl)
theorem dX0_better_21 : decode cX0_better 21 = .ok (.istore_n 3, 1) := dk_62 (dk_at dksX0_better_0 21 rfl rfl)
theorem dX0_better_22 : decode cX0_better 22 = .ok (.iconst 0, 1) := dk_3 (dk_at dksX0_better_0 22 rfl rfl)
theorem dX0_better_23 : decode cX0_better 23 = .ok (.istore 4, 2) := dk_54 4 (dk_at dksX0_better_1 0 rfl rfl)
theorem dX0_better_25 : decode cX0_better 25 = .ok (.iconst 0, 1) := dk_3 (dk_at dksX0_better_1 2 rfl rfl)
theorem dX0_better_26 : decode cX0_better 26 = .ok (.istore 5, 2) := dk_54 5 (dk_at dksX0_better_1 3 rfl rfl)
theorem dX0_better_28 : decode cX0_better 28 = .ok (.iload 5, 2) := dk_21 5 (dk_at dksX0_better_1 5 rfl rfl)
theorem dX0_better_30 : decode cX0_better 30 = .ok (.bipush 6, 2) := dk_16 6 (dk_at dksX0_better_1 7 rfl rfl)
theorem dX0_better_32 : decode cX0_better 32 = .ok (.if_icmp .ge 62, 3) := dk_162 0 62 (dk_at dksX0_better_1 9 rfl rfl)
theorem dX0_better_35 : decode cX0_better 35 = .ok (.aload_n 2, 1) := dk_44 (dk_at dksX0_better_1 12 rfl rfl)
theorem dX0_better_36 : decode cX0_better 36 = .ok (.getfield 146, 3) := dk_180 0 146 (dk_at dksX0_better_1 13 rfl rfl)
theorem dX0_better_39 : decode cX0_better 39 = .ok (.iload_n 1, 1) := dk_27 (dk_at dksX0_better_1 16 rfl rfl)
theorem dX0_better_40 : decode cX0_better 40 = .ok (.iload 5, 2) := dk_21 5 (dk_at dksX0_better_1 17 rfl rfl)
theorem dX0_better_42 : decode cX0_better 42 = .ok (.iload_n 1, 1) := dk_27 (dk_at dksX0_better_1 19 rfl rfl)
theorem dX0_better_43 : decode cX0_better 43 = .ok (.aload_n 0, 1) := dk_42 (dk_at dksX0_better_1 20 rfl rfl)
theorem dX0_better_44 : decode cX0_better 44 = .ok (.getfield 39, 3) := dk_180 0 39 (dk_at dksX0_better_1 21 rfl rfl)
theorem dX0_better_47 : decode cX0_better 47 = .ok (.getfield 146, 3) := dk_180 0 146 (dk_at dksX0_better_2 0 rfl rfl)
theorem dX0_better_50 : decode cX0_better 50 = .ok (.iload_n 1, 1) := dk_27 (dk_at dksX0_better_2 3 rfl rfl)
theorem dX0_better_51 : decode cX0_better 51 = .ok (.aaload, 1) := dk_50 (dk_at dksX0_better_2 4 rfl rfl)
theorem dX0_better_52 : decode cX0_better 52 = .ok (.getfield 244, 3) := dk_180 0 244 (dk_at dksX0_better_2 5 rfl rfl)
theorem dX0_better_55 : decode cX0_better 55 = .ok (.invokestatic 173, 3) := dk_184 0 173 (dk_at dksX0_better_2 8 rfl rfl)
theorem dX0_better_58 : decode cX0_better 58 = .ok (.aastore, 1) := dk_83 (dk_at dksX0_better_2 11 rfl rfl)
theorem dX0_better_59 : decode cX0_better 59 = .ok (.aload_n 2, 1) := dk_44 (dk_at dksX0_better_2 12 rfl rfl)
theorem dX0_better_60 : decode cX0_better 60 = .ok (.invokevirtual 253, 3) := dk_182 0 253 (dk_at dksX0_better_2 13 rfl rfl)
theorem dX0_better_63 : decode cX0_better 63 = .ok (.iload_n 1, 1) := dk_27 (dk_at dksX0_better_2 16 rfl rfl)
theorem dX0_better_64 : decode cX0_better 64 = .ok (.invokevirtual 269, 3) := dk_182 1 13 (dk_at dksX0_better_2 17 rfl rfl)
theorem dX0_better_67 : decode cX0_better 67 = .ok (.istore 6, 2) := dk_54 6 (dk_at dksX0_better_2 20 rfl rfl)
theorem dX0_better_69 : decode cX0_better 69 = .ok (.iload_n 3, 1) := dk_29 (dk_at dksX0_better_2 22 rfl rfl)
theorem dX0_better_70 : decode cX0_better 70 = .ok (.iconst (-1), 1) := dk_2 (dk_at dksX0_better_2 23 rfl rfl)
theorem dX0_better_71 : decode cX0_better 71 = .ok (.if_icmp .eq 10, 3) := dk_159 0 10 (dk_at dksX0_better_3 0 rfl rfl)
theorem dX0_better_74 : decode cX0_better 74 = .ok (.iload 6, 2) := dk_21 6 (dk_at dksX0_better_3 3 rfl rfl)
theorem dX0_better_76 : decode cX0_better 76 = .ok (.iload 4, 2) := dk_21 4 (dk_at dksX0_better_3 5 rfl rfl)
theorem dX0_better_78 : decode cX0_better 78 = .ok (.if_icmp .le 10, 3) := dk_164 0 10 (dk_at dksX0_better_3 7 rfl rfl)
theorem dX0_better_81 : decode cX0_better 81 = .ok (.iload 5, 2) := dk_21 5 (dk_at dksX0_better_3 10 rfl rfl)
theorem dX0_better_83 : decode cX0_better 83 = .ok (.istore_n 3, 1) := dk_62 (dk_at dksX0_better_3 12 rfl rfl)
theorem dX0_better_84 : decode cX0_better 84 = .ok (.iload 6, 2) := dk_21 6 (dk_at dksX0_better_3 13 rfl rfl)
theorem dX0_better_86 : decode cX0_better 86 = .ok (.istore 4, 2) := dk_54 4 (dk_at dksX0_better_3 15 rfl rfl)
theorem dX0_better_88 : decode cX0_better 88 = .ok (.iinc 5 1, 3) := dk_132 5 1 (dk_at dksX0_better_3 17 rfl rfl)
theorem dX0_better_91 : decode cX0_better 91 = .ok (.goto (-63), 3) := dk_167 255 193 (dk_at dksX0_better_3 20 rfl rfl)
theorem dX0_better_94 : decode cX0_better 94 = .ok (.iload_n 3, 1) := dk_29 (dk_at dksX0_better_3 23 rfl rfl)
theorem dX0_better_95 : decode cX0_better 95 = .ok (.ireturn, 1) := dk_172 (dk_at dksX0_better_4 0 rfl rfl)
abbrev cX0_trust : ByteArray := prog_1_method_53_code
def yX0_trust : MethodName := ⟨RX0, "trust", "(I)I"⟩
def dkwX0_trust_2 : List UInt8 := [132, 3, 255, 167, 255, 233, 2, 172]
abbrev dktX0_trust_2 : List UInt8 := dkwX0_trust_2 ++ []
def dkwX0_trust_1 : List UInt8 := [16, 99, 62, 29, 155, 0, 25, 44, 29, 181, 0, 206, 42, 44, 27, 182, 1, 21, 153, 0, 5, 29, 172]
abbrev dktX0_trust_1 : List UInt8 := dkwX0_trust_1 ++ dktX0_trust_2
def dkwX0_trust_0 : List UInt8 := [42, 180, 0, 39, 27, 182, 0, 180, 154, 0, 10, 42, 16, 254, 182, 0, 63, 172, 42, 182, 1, 19, 77]
abbrev dktX0_trust_0 : List UInt8 := dkwX0_trust_0 ++ dktX0_trust_1
theorem dksX0_trust_0 : cX0_trust.data.toList.drop 0 = dktX0_trust_0 := by decide +kernel
theorem dksX0_trust_1 : cX0_trust.data.toList.drop 23 = dktX0_trust_1 := dk_seg dksX0_trust_0 23 rfl rfl
theorem dksX0_trust_2 : cX0_trust.data.toList.drop 46 = dktX0_trust_2 := dk_seg dksX0_trust_1 23 rfl rfl
theorem dX0_trust_0 : decode cX0_trust 0 = .ok (.aload_n 0, 1) := dk_42 (dk_at dksX0_trust_0 0 rfl rfl)
theorem dX0_trust_1 : decode cX0_trust 1 = .ok (.getfield 39, 3) := dk_180 0 39 (dk_at dksX0_trust_0 1 rfl rfl)
theorem dX0_trust_4 : decode cX0_trust 4 = .ok (.iload_n 1, 1) := dk_27 (dk_at dksX0_trust_0 4 rfl rfl)
theorem dX0_trust_5 : decode cX0_trust 5 = .ok (.invokevirtual 180, 3) := dk_182 0 180 (dk_at dksX0_trust_0 5 rfl rfl)
theorem dX0_trust_8 : decode cX0_trust 8 = .ok (.ifCond .ne 10, 3) := dk_154 0 10 (dk_at dksX0_trust_0 8 rfl rfl)
theorem dX0_trust_11 : decode cX0_trust 11 = .ok (.aload_n 0, 1) := dk_42 (dk_at dksX0_trust_0 11 rfl rfl)
theorem dX0_trust_12 : decode cX0_trust 12 = .ok (.bipush (-2), 2) := dk_16 254 (dk_at dksX0_trust_0 12 rfl rfl)
theorem dX0_trust_14 : decode cX0_trust 14 = .ok (.invokevirtual 63, 3) := dk_182 0 63 (dk_at dksX0_trust_0 14 rfl rfl)
theorem dX0_trust_17 : decode cX0_trust 17 = .ok (.ireturn, 1) := dk_172 (dk_at dksX0_trust_0 17 rfl rfl)
theorem dX0_trust_18 : decode cX0_trust 18 = .ok (.aload_n 0, 1) := dk_42 (dk_at dksX0_trust_0 18 rfl rfl)
theorem dX0_trust_19 : decode cX0_trust 19 = .ok (.invokevirtual 275, 3) := dk_182 1 19 (dk_at dksX0_trust_0 19 rfl rfl)
theorem dX0_trust_22 : decode cX0_trust 22 = .ok (.astore_n 2, 1) := dk_77 (dk_at dksX0_trust_0 22 rfl rfl)
theorem dX0_trust_23 : decode cX0_trust 23 = .ok (.bipush 99, 2) := dk_16 99 (dk_at dksX0_trust_1 0 rfl rfl)
theorem dX0_trust_25 : decode cX0_trust 25 = .ok (.istore_n 3, 1) := dk_62 (dk_at dksX0_trust_1 2 rfl rfl)
theorem dX0_trust_26 : decode cX0_trust 26 = .ok (.iload_n 3, 1) := dk_29 (dk_at dksX0_trust_1 3 rfl rfl)
theorem dX0_trust_27 : decode cX0_trust 27 = .ok (.ifCond .lt 25, 3) := dk_155 0 25 (dk_at dksX0_trust_1 4 rfl rfl)
theorem dX0_trust_30 : decode cX0_trust 30 = .ok (.aload_n 2, 1) := dk_44 (dk_at dksX0_trust_1 7 rfl rfl)
theorem dX0_trust_31 : decode cX0_trust 31 = .ok (.iload_n 3, 1) := dk_29 (dk_at dksX0_trust_1 8 rfl rfl)
theorem dX0_trust_32 : decode cX0_trust 32 = .ok (.putfield 206, 3) := dk_181 0 206 (dk_at dksX0_trust_1 9 rfl rfl)
theorem dX0_trust_35 : decode cX0_trust 35 = .ok (.aload_n 0, 1) := dk_42 (dk_at dksX0_trust_1 12 rfl rfl)
theorem dX0_trust_36 : decode cX0_trust 36 = .ok (.aload_n 2, 1) := dk_44 (dk_at dksX0_trust_1 13 rfl rfl)
theorem dX0_trust_37 : decode cX0_trust 37 = .ok (.iload_n 1, 1) := dk_27 (dk_at dksX0_trust_1 14 rfl rfl)
theorem dX0_trust_38 : decode cX0_trust 38 = .ok (.invokevirtual 277, 3) := dk_182 1 21 (dk_at dksX0_trust_1 15 rfl rfl)
theorem dX0_trust_41 : decode cX0_trust 41 = .ok (.ifCond .eq 5, 3) := dk_153 0 5 (dk_at dksX0_trust_1 18 rfl rfl)
theorem dX0_trust_44 : decode cX0_trust 44 = .ok (.iload_n 3, 1) := dk_29 (dk_at dksX0_trust_1 21 rfl rfl)
theorem dX0_trust_45 : decode cX0_trust 45 = .ok (.ireturn, 1) := dk_172 (dk_at dksX0_trust_1 22 rfl rfl)
theorem dX0_trust_46 : decode cX0_trust 46 = .ok (.iinc 3 (-1), 3) := dk_132 3 255 (dk_at dksX0_trust_2 0 rfl rfl)
theorem dX0_trust_49 : decode cX0_trust 49 = .ok (.goto (-23), 3) := dk_167 255 233 (dk_at dksX0_trust_2 3 rfl rfl)
theorem dX0_trust_52 : decode cX0_trust 52 = .ok (.iconst (-1), 1) := dk_2 (dk_at dksX0_trust_2 6 rfl rfl)
theorem dX0_trust_53 : decode cX0_trust 53 = .ok (.ireturn, 1) := dk_172 (dk_at dksX0_trust_2 7 rfl rfl)
abbrev cX0_isWanted : ByteArray := prog_1_method_52_code
def yX0_isWanted : MethodName := ⟨RX0, "isWanted", "(LEverybodyHasTheBook$Valley;I)Z"⟩
def dkwX0_isWanted_2 : List UInt8 := [160, 0, 5, 4, 172, 132, 3, 1, 167, 255, 204, 3, 172]
abbrev dktX0_isWanted_2 : List UInt8 := dkwX0_isWanted_2 ++ []
def dkwX0_isWanted_1 : List UInt8 := [193, 0, 16, 153, 0, 26, 42, 180, 0, 39, 180, 0, 146, 29, 50, 43, 42, 182, 0, 153, 182, 0, 157, 28]
abbrev dktX0_isWanted_1 : List UInt8 := dkwX0_isWanted_1 ++ dktX0_isWanted_2
def dkwX0_isWanted_0 : List UInt8 := [3, 62, 29, 42, 180, 0, 39, 180, 0, 71, 162, 0, 47, 42, 180, 0, 39, 180, 0, 146, 29, 50]
abbrev dktX0_isWanted_0 : List UInt8 := dkwX0_isWanted_0 ++ dktX0_isWanted_1
theorem dksX0_isWanted_0 : cX0_isWanted.data.toList.drop 0 = dktX0_isWanted_0 := by decide +kernel
theorem dksX0_isWanted_1 : cX0_isWanted.data.toList.drop 22 = dktX0_isWanted_1 := dk_seg dksX0_isWanted_0 22 rfl rfl
theorem dksX0_isWanted_2 : cX0_isWanted.data.toList.drop 46 = dktX0_isWanted_2 := dk_seg dksX0_isWanted_1 24 rfl rfl
theorem dX0_isWanted_0 : decode cX0_isWanted 0 = .ok (.iconst 0, 1) := dk_3 (dk_at dksX0_isWanted_0 0 rfl rfl)
theorem dX0_isWanted_1 : decode cX0_isWanted 1 = .ok (.istore_n 3, 1) := dk_62 (dk_at dksX0_isWanted_0 1 rfl rfl)
theorem dX0_isWanted_2 : decode cX0_isWanted 2 = .ok (.iload_n 3, 1) := dk_29 (dk_at dksX0_isWanted_0 2 rfl rfl)
theorem dX0_isWanted_3 : decode cX0_isWanted 3 = .ok (.aload_n 0, 1) := dk_42 (dk_at dksX0_isWanted_0 3 rfl rfl)
theorem dX0_isWanted_4 : decode cX0_isWanted 4 = .ok (.getfield 39, 3) := dk_180 0 39 (dk_at dksX0_isWanted_0 4 rfl rfl)
theorem dX0_isWanted_7 : decode cX0_isWanted 7 = .ok (.getfield 71, 3) := dk_180 0 71 (dk_at dksX0_isWanted_0 7 rfl rfl)
theorem dX0_isWanted_10 : decode cX0_isWanted 10 = .ok (.if_icmp .ge 47, 3) := dk_162 0 47 (dk_at dksX0_isWanted_0 10 rfl rfl)
theorem dX0_isWanted_13 : decode cX0_isWanted 13 = .ok (.aload_n 0, 1) := dk_42 (dk_at dksX0_isWanted_0 13 rfl rfl)
theorem dX0_isWanted_14 : decode cX0_isWanted 14 = .ok (.getfield 39, 3) := dk_180 0 39 (dk_at dksX0_isWanted_0 14 rfl rfl)
theorem dX0_isWanted_17 : decode cX0_isWanted 17 = .ok (.getfield 146, 3) := dk_180 0 146 (dk_at dksX0_isWanted_0 17 rfl rfl)
theorem dX0_isWanted_20 : decode cX0_isWanted 20 = .ok (.iload_n 3, 1) := dk_29 (dk_at dksX0_isWanted_0 20 rfl rfl)
theorem dX0_isWanted_21 : decode cX0_isWanted 21 = .ok (.aaload, 1) := dk_50 (dk_at dksX0_isWanted_0 21 rfl rfl)
theorem dX0_isWanted_22 : decode cX0_isWanted 22 = .ok (.instanceof 16, 3) := dk_193 0 16 (dk_at dksX0_isWanted_1 0 rfl rfl)
theorem dX0_isWanted_25 : decode cX0_isWanted 25 = .ok (.ifCond .eq 26, 3) := dk_153 0 26 (dk_at dksX0_isWanted_1 3 rfl rfl)
theorem dX0_isWanted_28 : decode cX0_isWanted 28 = .ok (.aload_n 0, 1) := dk_42 (dk_at dksX0_isWanted_1 6 rfl rfl)
theorem dX0_isWanted_29 : decode cX0_isWanted 29 = .ok (.getfield 39, 3) := dk_180 0 39 (dk_at dksX0_isWanted_1 7 rfl rfl)
theorem dX0_isWanted_32 : decode cX0_isWanted 32 = .ok (.getfield 146, 3) := dk_180 0 146 (dk_at dksX0_isWanted_1 10 rfl rfl)
theorem dX0_isWanted_35 : decode cX0_isWanted 35 = .ok (.iload_n 3, 1) := dk_29 (dk_at dksX0_isWanted_1 13 rfl rfl)
theorem dX0_isWanted_36 : decode cX0_isWanted 36 = .ok (.aaload, 1) := dk_50 (dk_at dksX0_isWanted_1 14 rfl rfl)
theorem dX0_isWanted_37 : decode cX0_isWanted 37 = .ok (.aload_n 1, 1) := dk_43 (dk_at dksX0_isWanted_1 15 rfl rfl)
theorem dX0_isWanted_38 : decode cX0_isWanted 38 = .ok (.aload_n 0, 1) := dk_42 (dk_at dksX0_isWanted_1 16 rfl rfl)
theorem dX0_isWanted_39 : decode cX0_isWanted 39 = .ok (.invokevirtual 153, 3) := dk_182 0 153 (dk_at dksX0_isWanted_1 17 rfl rfl)
theorem dX0_isWanted_42 : decode cX0_isWanted 42 = .ok (.invokevirtual 157, 3) := dk_182 0 157 (dk_at dksX0_isWanted_1 20 rfl rfl)
theorem dX0_isWanted_45 : decode cX0_isWanted 45 = .ok (.iload_n 2, 1) := dk_28 (dk_at dksX0_isWanted_1 23 rfl rfl)
theorem dX0_isWanted_46 : decode cX0_isWanted 46 = .ok (.if_icmp .ne 5, 3) := dk_160 0 5 (dk_at dksX0_isWanted_2 0 rfl rfl)
theorem dX0_isWanted_49 : decode cX0_isWanted 49 = .ok (.iconst 1, 1) := dk_4 (dk_at dksX0_isWanted_2 3 rfl rfl)
theorem dX0_isWanted_50 : decode cX0_isWanted 50 = .ok (.ireturn, 1) := dk_172 (dk_at dksX0_isWanted_2 4 rfl rfl)
theorem dX0_isWanted_51 : decode cX0_isWanted 51 = .ok (.iinc 3 1, 3) := dk_132 3 1 (dk_at dksX0_isWanted_2 5 rfl rfl)
theorem dX0_isWanted_54 : decode cX0_isWanted 54 = .ok (.goto (-52), 3) := dk_167 255 204 (dk_at dksX0_isWanted_2 8 rfl rfl)
theorem dX0_isWanted_57 : decode cX0_isWanted 57 = .ok (.iconst 0, 1) := dk_3 (dk_at dksX0_isWanted_2 11 rfl rfl)
theorem dX0_isWanted_58 : decode cX0_isWanted 58 = .ok (.ireturn, 1) := dk_172 (dk_at dksX0_isWanted_2 12 rfl rfl)
abbrev cX0_share : ByteArray := prog_1_method_54_code
def yX0_share : MethodName := ⟨RX0, "share", "(I)I"⟩
def dkwX0_share_2 : List UInt8 := [180, 1, 0, 27, 50, 28, 46, 104, 42, 180, 0, 39, 180, 0, 161, 27, 46, 108, 172]
abbrev dktX0_share_2 : List UInt8 := dkwX0_share_2 ++ []
def dkwX0_share_1 : List UInt8 := [154, 0, 10, 42, 16, 251, 182, 0, 63, 172, 42, 182, 1, 25, 61, 16, 100, 42, 180, 0, 39, 182, 0, 253]
abbrev dktX0_share_1 : List UInt8 := dkwX0_share_1 ++ dktX0_share_2
def dkwX0_share_0 : List UInt8 := [42, 27, 182, 0, 143, 154, 0, 10, 42, 16, 254, 182, 0, 63, 172, 42, 180, 0, 39, 180, 0, 150]
abbrev dktX0_share_0 : List UInt8 := dkwX0_share_0 ++ dktX0_share_1
theorem dksX0_share_0 : cX0_share.data.toList.drop 0 = dktX0_share_0 := by decide +kernel
theorem dksX0_share_1 : cX0_share.data.toList.drop 22 = dktX0_share_1 := dk_seg dksX0_share_0 22 rfl rfl
theorem dksX0_share_2 : cX0_share.data.toList.drop 46 = dktX0_share_2 := dk_seg dksX0_share_1 24 rfl rfl
theorem dX0_share_0 : decode cX0_share 0 = .ok (.aload_n 0, 1) := dk_42 (dk_at dksX0_share_0 0 rfl rfl)
theorem dX0_share_1 : decode cX0_share 1 = .ok (.iload_n 1, 1) := dk_27 (dk_at dksX0_share_0 1 rfl rfl)
theorem dX0_share_2 : decode cX0_share 2 = .ok (.invokevirtual 143, 3) := dk_182 0 143 (dk_at dksX0_share_0 2 rfl rfl)
theorem dX0_share_5 : decode cX0_share 5 = .ok (.ifCond .ne 10, 3) := dk_154 0 10 (dk_at dksX0_share_0 5 rfl rfl)
theorem dX0_share_8 : decode cX0_share 8 = .ok (.aload_n 0, 1) := dk_42 (dk_at dksX0_share_0 8 rfl rfl)
theorem dX0_share_9 : decode cX0_share 9 = .ok (.bipush (-2), 2) := dk_16 254 (dk_at dksX0_share_0 9 rfl rfl)
theorem dX0_share_11 : decode cX0_share 11 = .ok (.invokevirtual 63, 3) := dk_182 0 63 (dk_at dksX0_share_0 11 rfl rfl)
theorem dX0_share_14 : decode cX0_share 14 = .ok (.ireturn, 1) := dk_172 (dk_at dksX0_share_0 14 rfl rfl)
theorem dX0_share_15 : decode cX0_share 15 = .ok (.aload_n 0, 1) := dk_42 (dk_at dksX0_share_0 15 rfl rfl)
theorem dX0_share_16 : decode cX0_share 16 = .ok (.getfield 39, 3) := dk_180 0 39 (dk_at dksX0_share_0 16 rfl rfl)
theorem dX0_share_19 : decode cX0_share 19 = .ok (.getfield 150, 3) := dk_180 0 150 (dk_at dksX0_share_0 19 rfl rfl)
theorem dX0_share_22 : decode cX0_share 22 = .ok (.ifCond .ne 10, 3) := dk_154 0 10 (dk_at dksX0_share_1 0 rfl rfl)
theorem dX0_share_25 : decode cX0_share 25 = .ok (.aload_n 0, 1) := dk_42 (dk_at dksX0_share_1 3 rfl rfl)
theorem dX0_share_26 : decode cX0_share 26 = .ok (.bipush (-5), 2) := dk_16 251 (dk_at dksX0_share_1 4 rfl rfl)
theorem dX0_share_28 : decode cX0_share 28 = .ok (.invokevirtual 63, 3) := dk_182 0 63 (dk_at dksX0_share_1 6 rfl rfl)
theorem dX0_share_31 : decode cX0_share 31 = .ok (.ireturn, 1) := dk_172 (dk_at dksX0_share_1 9 rfl rfl)
theorem dX0_share_32 : decode cX0_share 32 = .ok (.aload_n 0, 1) := dk_42 (dk_at dksX0_share_1 10 rfl rfl)
theorem dX0_share_33 : decode cX0_share 33 = .ok (.invokevirtual 281, 3) := dk_182 1 25 (dk_at dksX0_share_1 11 rfl rfl)
theorem dX0_share_36 : decode cX0_share 36 = .ok (.istore_n 2, 1) := dk_61 (dk_at dksX0_share_1 14 rfl rfl)
theorem dX0_share_37 : decode cX0_share 37 = .ok (.bipush 100, 2) := dk_16 100 (dk_at dksX0_share_1 15 rfl rfl)
theorem dX0_share_39 : decode cX0_share 39 = .ok (.aload_n 0, 1) := dk_42 (dk_at dksX0_share_1 17 rfl rfl)
theorem dX0_share_40 : decode cX0_share 40 = .ok (.getfield 39, 3) := dk_180 0 39 (dk_at dksX0_share_1 18 rfl rfl)
theorem dX0_share_43 : decode cX0_share 43 = .ok (.invokevirtual 253, 3) := dk_182 0 253 (dk_at dksX0_share_1 21 rfl rfl)
theorem dX0_share_46 : decode cX0_share 46 = .ok (.getfield 256, 3) := dk_180 1 0 (dk_at dksX0_share_2 0 rfl rfl)
theorem dX0_share_49 : decode cX0_share 49 = .ok (.iload_n 1, 1) := dk_27 (dk_at dksX0_share_2 3 rfl rfl)
theorem dX0_share_50 : decode cX0_share 50 = .ok (.aaload, 1) := dk_50 (dk_at dksX0_share_2 4 rfl rfl)
theorem dX0_share_51 : decode cX0_share 51 = .ok (.iload_n 2, 1) := dk_28 (dk_at dksX0_share_2 5 rfl rfl)
theorem dX0_share_52 : decode cX0_share 52 = .ok (.iaload, 1) := dk_46 (dk_at dksX0_share_2 6 rfl rfl)
theorem dX0_share_53 : decode cX0_share 53 = .ok (.imul, 1) := dk_104 (dk_at dksX0_share_2 7 rfl rfl)
theorem dX0_share_54 : decode cX0_share 54 = .ok (.aload_n 0, 1) := dk_42 (dk_at dksX0_share_2 8 rfl rfl)
theorem dX0_share_55 : decode cX0_share 55 = .ok (.getfield 39, 3) := dk_180 0 39 (dk_at dksX0_share_2 9 rfl rfl)
theorem dX0_share_58 : decode cX0_share 58 = .ok (.getfield 161, 3) := dk_180 0 161 (dk_at dksX0_share_2 12 rfl rfl)
theorem dX0_share_61 : decode cX0_share 61 = .ok (.iload_n 1, 1) := dk_27 (dk_at dksX0_share_2 15 rfl rfl)
theorem dX0_share_62 : decode cX0_share 62 = .ok (.iaload, 1) := dk_46 (dk_at dksX0_share_2 16 rfl rfl)
theorem dX0_share_63 : decode cX0_share 63 = .ok (.idiv, 1) := dk_108 (dk_at dksX0_share_2 17 rfl rfl)
theorem dX0_share_64 : decode cX0_share 64 = .ok (.ireturn, 1) := dk_172 (dk_at dksX0_share_2 18 rfl rfl)
abbrev cX0_nine : ByteArray := prog_1_method_55_code
def yX0_nine : MethodName := ⟨RX0, "nine", "(III)I"⟩
def dkwX0_nine_3 : List UInt8 := [46, 100, 172]
abbrev dktX0_nine_3 : List UInt8 := dkwX0_nine_3 ++ []
def dkwX0_nine_2 : List UInt8 := [28, 29, 104, 96, 42, 180, 0, 39, 180, 0, 200, 27, 46, 28, 96, 108, 42, 180, 0, 39, 180, 0, 183, 27]
abbrev dktX0_nine_2 : List UInt8 := dkwX0_nine_2 ++ dktX0_nine_3
def dkwX0_nine_1 : List UInt8 := [16, 100, 184, 0, 67, 154, 0, 10, 42, 16, 254, 182, 0, 250, 172, 42, 180, 0, 39, 180, 0, 238, 27, 46]
abbrev dktX0_nine_1 : List UInt8 := dkwX0_nine_1 ++ dktX0_nine_2
def dkwX0_nine_0 : List UInt8 := [42, 180, 0, 39, 27, 182, 0, 180, 153, 0, 23, 28, 4, 16, 40, 184, 0, 67, 153, 0, 13, 29, 3]
abbrev dktX0_nine_0 : List UInt8 := dkwX0_nine_0 ++ dktX0_nine_1
theorem dksX0_nine_0 : cX0_nine.data.toList.drop 0 = dktX0_nine_0 := by decide +kernel
theorem dksX0_nine_1 : cX0_nine.data.toList.drop 23 = dktX0_nine_1 := dk_seg dksX0_nine_0 23 rfl rfl
theorem dksX0_nine_2 : cX0_nine.data.toList.drop 47 = dktX0_nine_2 := dk_seg dksX0_nine_1 24 rfl rfl
theorem dksX0_nine_3 : cX0_nine.data.toList.drop 71 = dktX0_nine_3 := dk_seg dksX0_nine_2 24 rfl rfl
theorem dX0_nine_0 : decode cX0_nine 0 = .ok (.aload_n 0, 1) := dk_42 (dk_at dksX0_nine_0 0 rfl rfl)
theorem dX0_nine_1 : decode cX0_nine 1 = .ok (.getfield 39, 3) := dk_180 0 39 (dk_at dksX0_nine_0 1 rfl rfl)
theorem dX0_nine_4 : decode cX0_nine 4 = .ok (.iload_n 1, 1) := dk_27 (dk_at dksX0_nine_0 4 rfl rfl)
theorem dX0_nine_5 : decode cX0_nine 5 = .ok (.invokevirtual 180, 3) := dk_182 0 180 (dk_at dksX0_nine_0 5 rfl rfl)
theorem dX0_nine_8 : decode cX0_nine 8 = .ok (.ifCond .eq 23, 3) := dk_153 0 23 (dk_at dksX0_nine_0 8 rfl rfl)
theorem dX0_nine_11 : decode cX0_nine 11 = .ok (.iload_n 2, 1) := dk_28 (dk_at dksX0_nine_0 11 rfl rfl)
theorem dX0_nine_12 : decode cX0_nine 12 = .ok (.iconst 1, 1) := dk_4 (dk_at dksX0_nine_0 12 rfl rfl)
theorem dX0_nine_13 : decode cX0_nine 13 = .ok (.bipush 40, 2) := dk_16 40 (dk_at dksX0_nine_0 13 rfl rfl)
theorem dX0_nine_15 : decode cX0_nine 15 = .ok (.invokestatic 67, 3) := dk_184 0 67 (dk_at dksX0_nine_0 15 rfl rfl)
theorem dX0_nine_18 : decode cX0_nine 18 = .ok (.ifCond .eq 13, 3) := dk_153 0 13 (dk_at dksX0_nine_0 18 rfl rfl)
theorem dX0_nine_21 : decode cX0_nine 21 = .ok (.iload_n 3, 1) := dk_29 (dk_at dksX0_nine_0 21 rfl rfl)
theorem dX0_nine_22 : decode cX0_nine 22 = .ok (.iconst 0, 1) := dk_3 (dk_at dksX0_nine_0 22 rfl rfl)
theorem dX0_nine_23 : decode cX0_nine 23 = .ok (.bipush 100, 2) := dk_16 100 (dk_at dksX0_nine_1 0 rfl rfl)
theorem dX0_nine_25 : decode cX0_nine 25 = .ok (.invokestatic 67, 3) := dk_184 0 67 (dk_at dksX0_nine_1 2 rfl rfl)
theorem dX0_nine_28 : decode cX0_nine 28 = .ok (.ifCond .ne 10, 3) := dk_154 0 10 (dk_at dksX0_nine_1 5 rfl rfl)
theorem dX0_nine_31 : decode cX0_nine 31 = .ok (.aload_n 0, 1) := dk_42 (dk_at dksX0_nine_1 8 rfl rfl)
theorem dX0_nine_32 : decode cX0_nine 32 = .ok (.bipush (-2), 2) := dk_16 254 (dk_at dksX0_nine_1 9 rfl rfl)
theorem dX0_nine_34 : decode cX0_nine 34 = .ok (.invokevirtual 250, 3) := dk_182 0 250 (dk_at dksX0_nine_1 11 rfl rfl)
theorem dX0_nine_37 : decode cX0_nine 37 = .ok (.ireturn, 1) := dk_172 (dk_at dksX0_nine_1 14 rfl rfl)
theorem dX0_nine_38 : decode cX0_nine 38 = .ok (.aload_n 0, 1) := dk_42 (dk_at dksX0_nine_1 15 rfl rfl)
theorem dX0_nine_39 : decode cX0_nine 39 = .ok (.getfield 39, 3) := dk_180 0 39 (dk_at dksX0_nine_1 16 rfl rfl)
theorem dX0_nine_42 : decode cX0_nine 42 = .ok (.getfield 238, 3) := dk_180 0 238 (dk_at dksX0_nine_1 19 rfl rfl)
theorem dX0_nine_45 : decode cX0_nine 45 = .ok (.iload_n 1, 1) := dk_27 (dk_at dksX0_nine_1 22 rfl rfl)
theorem dX0_nine_46 : decode cX0_nine 46 = .ok (.iaload, 1) := dk_46 (dk_at dksX0_nine_1 23 rfl rfl)
theorem dX0_nine_47 : decode cX0_nine 47 = .ok (.iload_n 2, 1) := dk_28 (dk_at dksX0_nine_2 0 rfl rfl)
theorem dX0_nine_48 : decode cX0_nine 48 = .ok (.iload_n 3, 1) := dk_29 (dk_at dksX0_nine_2 1 rfl rfl)
theorem dX0_nine_49 : decode cX0_nine 49 = .ok (.imul, 1) := dk_104 (dk_at dksX0_nine_2 2 rfl rfl)
theorem dX0_nine_50 : decode cX0_nine 50 = .ok (.iadd, 1) := dk_96 (dk_at dksX0_nine_2 3 rfl rfl)
theorem dX0_nine_51 : decode cX0_nine 51 = .ok (.aload_n 0, 1) := dk_42 (dk_at dksX0_nine_2 4 rfl rfl)
theorem dX0_nine_52 : decode cX0_nine 52 = .ok (.getfield 39, 3) := dk_180 0 39 (dk_at dksX0_nine_2 5 rfl rfl)
theorem dX0_nine_55 : decode cX0_nine 55 = .ok (.getfield 200, 3) := dk_180 0 200 (dk_at dksX0_nine_2 8 rfl rfl)
theorem dX0_nine_58 : decode cX0_nine 58 = .ok (.iload_n 1, 1) := dk_27 (dk_at dksX0_nine_2 11 rfl rfl)
theorem dX0_nine_59 : decode cX0_nine 59 = .ok (.iaload, 1) := dk_46 (dk_at dksX0_nine_2 12 rfl rfl)
theorem dX0_nine_60 : decode cX0_nine 60 = .ok (.iload_n 2, 1) := dk_28 (dk_at dksX0_nine_2 13 rfl rfl)
theorem dX0_nine_61 : decode cX0_nine 61 = .ok (.iadd, 1) := dk_96 (dk_at dksX0_nine_2 14 rfl rfl)
theorem dX0_nine_62 : decode cX0_nine 62 = .ok (.idiv, 1) := dk_108 (dk_at dksX0_nine_2 15 rfl rfl)
theorem dX0_nine_63 : decode cX0_nine 63 = .ok (.aload_n 0, 1) := dk_42 (dk_at dksX0_nine_2 16 rfl rfl)
theorem dX0_nine_64 : decode cX0_nine 64 = .ok (.getfield 39, 3) := dk_180 0 39 (dk_at dksX0_nine_2 17 rfl rfl)
theorem dX0_nine_67 : decode cX0_nine 67 = .ok (.getfield 183, 3) := dk_180 0 183 (dk_at dksX0_nine_2 20 rfl rfl)
theorem dX0_nine_70 : decode cX0_nine 70 = .ok (.iload_n 1, 1) := dk_27 (dk_at dksX0_nine_2 23 rfl rfl)
theorem dX0_nine_71 : decode cX0_nine 71 = .ok (.iaload, 1) := dk_46 (dk_at dksX0_nine_3 0 rfl rfl)
theorem dX0_nine_72 : decode cX0_nine 72 = .ok (.isub, 1) := dk_100 (dk_at dksX0_nine_3 1 rfl rfl)
theorem dX0_nine_73 : decode cX0_nine 73 = .ok (.ireturn, 1) := dk_172 (dk_at dksX0_nine_3 2 rfl rfl)
abbrev cX0_two : ByteArray := prog_1_method_56_code
def yX0_two : MethodName := ⟨RX0, "two", "(II)I"⟩
def dkwX0_two_1 : List UInt8 := [42, 16, 254, 182, 0, 250, 172, 42, 182, 1, 19, 27, 28, 182, 1, 28, 2, 182, 1, 13, 172]
abbrev dktX0_two_1 : List UInt8 := dkwX0_two_1 ++ []
def dkwX0_two_0 : List UInt8 := [27, 3, 42, 182, 0, 153, 184, 0, 67, 153, 0, 15, 28, 3, 42, 182, 0, 153, 184, 0, 67, 154, 0, 10]
abbrev dktX0_two_0 : List UInt8 := dkwX0_two_0 ++ dktX0_two_1
theorem dksX0_two_0 : cX0_two.data.toList.drop 0 = dktX0_two_0 := by decide +kernel
theorem dksX0_two_1 : cX0_two.data.toList.drop 24 = dktX0_two_1 := dk_seg dksX0_two_0 24 rfl rfl
theorem dX0_two_0 : decode cX0_two 0 = .ok (.iload_n 1, 1) := dk_27 (dk_at dksX0_two_0 0 rfl rfl)
theorem dX0_two_1 : decode cX0_two 1 = .ok (.iconst 0, 1) := dk_3 (dk_at dksX0_two_0 1 rfl rfl)
theorem dX0_two_2 : decode cX0_two 2 = .ok (.aload_n 0, 1) := dk_42 (dk_at dksX0_two_0 2 rfl rfl)
theorem dX0_two_3 : decode cX0_two 3 = .ok (.invokevirtual 153, 3) := dk_182 0 153 (dk_at dksX0_two_0 3 rfl rfl)
theorem dX0_two_6 : decode cX0_two 6 = .ok (.invokestatic 67, 3) := dk_184 0 67 (dk_at dksX0_two_0 6 rfl rfl)
theorem dX0_two_9 : decode cX0_two 9 = .ok (.ifCond .eq 15, 3) := dk_153 0 15 (dk_at dksX0_two_0 9 rfl rfl)
theorem dX0_two_12 : decode cX0_two 12 = .ok (.iload_n 2, 1) := dk_28 (dk_at dksX0_two_0 12 rfl rfl)
theorem dX0_two_13 : decode cX0_two 13 = .ok (.iconst 0, 1) := dk_3 (dk_at dksX0_two_0 13 rfl rfl)
theorem dX0_two_14 : decode cX0_two 14 = .ok (.aload_n 0, 1) := dk_42 (dk_at dksX0_two_0 14 rfl rfl)
theorem dX0_two_15 : decode cX0_two 15 = .ok (.invokevirtual 153, 3) := dk_182 0 153 (dk_at dksX0_two_0 15 rfl rfl)
theorem dX0_two_18 : decode cX0_two 18 = .ok (.invokestatic 67, 3) := dk_184 0 67 (dk_at dksX0_two_0 18 rfl rfl)
theorem dX0_two_21 : decode cX0_two 21 = .ok (.ifCond .ne 10, 3) := dk_154 0 10 (dk_at dksX0_two_0 21 rfl rfl)
theorem dX0_two_24 : decode cX0_two 24 = .ok (.aload_n 0, 1) := dk_42 (dk_at dksX0_two_1 0 rfl rfl)
theorem dX0_two_25 : decode cX0_two 25 = .ok (.bipush (-2), 2) := dk_16 254 (dk_at dksX0_two_1 1 rfl rfl)
theorem dX0_two_27 : decode cX0_two 27 = .ok (.invokevirtual 250, 3) := dk_182 0 250 (dk_at dksX0_two_1 3 rfl rfl)
theorem dX0_two_30 : decode cX0_two 30 = .ok (.ireturn, 1) := dk_172 (dk_at dksX0_two_1 6 rfl rfl)
theorem dX0_two_31 : decode cX0_two 31 = .ok (.aload_n 0, 1) := dk_42 (dk_at dksX0_two_1 7 rfl rfl)
theorem dX0_two_32 : decode cX0_two 32 = .ok (.invokevirtual 275, 3) := dk_182 1 19 (dk_at dksX0_two_1 8 rfl rfl)
theorem dX0_two_35 : decode cX0_two 35 = .ok (.iload_n 1, 1) := dk_27 (dk_at dksX0_two_1 11 rfl rfl)
theorem dX0_two_36 : decode cX0_two 36 = .ok (.iload_n 2, 1) := dk_28 (dk_at dksX0_two_1 12 rfl rfl)
theorem dX0_two_37 : decode cX0_two 37 = .ok (.invokevirtual 284, 3) := dk_182 1 28 (dk_at dksX0_two_1 13 rfl rfl)
theorem dX0_two_40 : decode cX0_two 40 = .ok (.iconst (-1), 1) := dk_2 (dk_at dksX0_two_1 16 rfl rfl)
theorem dX0_two_41 : decode cX0_two 41 = .ok (.invokevirtual 269, 3) := dk_182 1 13 (dk_at dksX0_two_1 17 rfl rfl)
theorem dX0_two_44 : decode cX0_two 44 = .ok (.ireturn, 1) := dk_172 (dk_at dksX0_two_1 20 rfl rfl)
abbrev cX0_judge : ByteArray := prog_1_method_58_code
def yX0_judge : MethodName := ⟨RX0, "judge", "(I)I"⟩
def dkwX0_judge_1 : List UInt8 := [77, 42, 44, 180, 0, 119, 182, 0, 63, 172, 77, 42, 16, 254, 182, 0, 63, 172]
abbrev dktX0_judge_1 : List UInt8 := dkwX0_judge_1 ++ []
def dkwX0_judge_0 : List UInt8 := [27, 184, 0, 92, 154, 0, 10, 42, 16, 254, 182, 0, 63, 172, 42, 42, 27, 182, 0, 111, 182, 1, 31, 172]
abbrev dktX0_judge_0 : List UInt8 := dkwX0_judge_0 ++ dktX0_judge_1
theorem dksX0_judge_0 : cX0_judge.data.toList.drop 0 = dktX0_judge_0 := by decide +kernel
theorem dksX0_judge_1 : cX0_judge.data.toList.drop 24 = dktX0_judge_1 := dk_seg dksX0_judge_0 24 rfl rfl
theorem dX0_judge_0 : decode cX0_judge 0 = .ok (.iload_n 1, 1) := dk_27 (dk_at dksX0_judge_0 0 rfl rfl)
theorem dX0_judge_1 : decode cX0_judge 1 = .ok (.invokestatic 92, 3) := dk_184 0 92 (dk_at dksX0_judge_0 1 rfl rfl)
theorem dX0_judge_4 : decode cX0_judge 4 = .ok (.ifCond .ne 10, 3) := dk_154 0 10 (dk_at dksX0_judge_0 4 rfl rfl)
theorem dX0_judge_7 : decode cX0_judge 7 = .ok (.aload_n 0, 1) := dk_42 (dk_at dksX0_judge_0 7 rfl rfl)
theorem dX0_judge_8 : decode cX0_judge 8 = .ok (.bipush (-2), 2) := dk_16 254 (dk_at dksX0_judge_0 8 rfl rfl)
theorem dX0_judge_10 : decode cX0_judge 10 = .ok (.invokevirtual 63, 3) := dk_182 0 63 (dk_at dksX0_judge_0 10 rfl rfl)
theorem dX0_judge_13 : decode cX0_judge 13 = .ok (.ireturn, 1) := dk_172 (dk_at dksX0_judge_0 13 rfl rfl)
theorem dX0_judge_14 : decode cX0_judge 14 = .ok (.aload_n 0, 1) := dk_42 (dk_at dksX0_judge_0 14 rfl rfl)
theorem dX0_judge_15 : decode cX0_judge 15 = .ok (.aload_n 0, 1) := dk_42 (dk_at dksX0_judge_0 15 rfl rfl)
theorem dX0_judge_16 : decode cX0_judge 16 = .ok (.iload_n 1, 1) := dk_27 (dk_at dksX0_judge_0 16 rfl rfl)
theorem dX0_judge_17 : decode cX0_judge 17 = .ok (.invokevirtual 111, 3) := dk_182 0 111 (dk_at dksX0_judge_0 17 rfl rfl)
theorem dX0_judge_20 : decode cX0_judge 20 = .ok (.invokevirtual 287, 3) := dk_182 1 31 (dk_at dksX0_judge_0 20 rfl rfl)
theorem dX0_judge_23 : decode cX0_judge 23 = .ok (.ireturn, 1) := dk_172 (dk_at dksX0_judge_0 23 rfl rfl)
theorem dX0_judge_24 : decode cX0_judge 24 = .ok (.astore_n 2, 1) := dk_77 (dk_at dksX0_judge_1 0 rfl rfl)
theorem dX0_judge_25 : decode cX0_judge 25 = .ok (.aload_n 0, 1) := dk_42 (dk_at dksX0_judge_1 1 rfl rfl)
theorem dX0_judge_26 : decode cX0_judge 26 = .ok (.aload_n 2, 1) := dk_44 (dk_at dksX0_judge_1 2 rfl rfl)
theorem dX0_judge_27 : decode cX0_judge 27 = .ok (.getfield 119, 3) := dk_180 0 119 (dk_at dksX0_judge_1 3 rfl rfl)
theorem dX0_judge_30 : decode cX0_judge 30 = .ok (.invokevirtual 63, 3) := dk_182 0 63 (dk_at dksX0_judge_1 6 rfl rfl)
theorem dX0_judge_33 : decode cX0_judge 33 = .ok (.ireturn, 1) := dk_172 (dk_at dksX0_judge_1 9 rfl rfl)
theorem dX0_judge_34 : decode cX0_judge 34 = .ok (.astore_n 2, 1) := dk_77 (dk_at dksX0_judge_1 10 rfl rfl)
theorem dX0_judge_35 : decode cX0_judge 35 = .ok (.aload_n 0, 1) := dk_42 (dk_at dksX0_judge_1 11 rfl rfl)
theorem dX0_judge_36 : decode cX0_judge 36 = .ok (.bipush (-2), 2) := dk_16 254 (dk_at dksX0_judge_1 12 rfl rfl)
theorem dX0_judge_38 : decode cX0_judge 38 = .ok (.invokevirtual 63, 3) := dk_182 0 63 (dk_at dksX0_judge_1 14 rfl rfl)
theorem dX0_judge_41 : decode cX0_judge 41 = .ok (.ireturn, 1) := dk_172 (dk_at dksX0_judge_1 17 rfl rfl)
abbrev cX0_wrongIn : ByteArray := prog_1_method_57_code
def yX0_wrongIn : MethodName := ⟨RX0, "wrongIn", "(Ljava/lang/Object;)I"⟩
def dkwX0_wrongIn_4 : List UInt8 := [167, 255, 174, 28, 172]
abbrev dktX0_wrongIn_4 : List UInt8 := dkwX0_wrongIn_4 ++ []
def dkwX0_wrongIn_3 : List UInt8 := [3, 54, 4, 28, 2, 160, 0, 12, 21, 4, 154, 0, 7, 29, 167, 0, 4, 28, 61, 132, 3, 1]
abbrev dktX0_wrongIn_3 : List UInt8 := dkwX0_wrongIn_3 ++ dktX0_wrongIn_4
def dkwX0_wrongIn_2 : List UInt8 := [180, 0, 150, 108, 50, 29, 42, 180, 0, 39, 180, 0, 150, 112, 46, 133, 148, 154, 0, 7, 4, 167, 0, 4]
abbrev dktX0_wrongIn_2 : List UInt8 := dkwX0_wrongIn_2 ++ dktX0_wrongIn_3
def dkwX0_wrongIn_1 : List UInt8 := [180, 0, 150, 104, 162, 0, 69, 43, 29, 184, 0, 136, 42, 180, 0, 39, 180, 1, 0, 29, 42, 180, 0, 39]
abbrev dktX0_wrongIn_1 : List UInt8 := dkwX0_wrongIn_1 ++ dktX0_wrongIn_2
def dkwX0_wrongIn_0 : List UInt8 := [42, 180, 0, 39, 182, 0, 253, 87, 2, 61, 3, 62, 29, 42, 180, 0, 39, 180, 0, 71, 42, 180, 0, 39]
abbrev dktX0_wrongIn_0 : List UInt8 := dkwX0_wrongIn_0 ++ dktX0_wrongIn_1
theorem dksX0_wrongIn_0 : cX0_wrongIn.data.toList.drop 0 = dktX0_wrongIn_0 := by decide +kernel
theorem dksX0_wrongIn_1 : cX0_wrongIn.data.toList.drop 24 = dktX0_wrongIn_1 := dk_seg dksX0_wrongIn_0 24 rfl rfl
theorem dksX0_wrongIn_2 : cX0_wrongIn.data.toList.drop 48 = dktX0_wrongIn_2 := dk_seg dksX0_wrongIn_1 24 rfl rfl
theorem dksX0_wrongIn_3 : cX0_wrongIn.data.toList.drop 72 = dktX0_wrongIn_3 := dk_seg dksX0_wrongIn_2 24 rfl rfl
theorem dksX0_wrongIn_4 : cX0_wrongIn.data.toList.drop 94 = dktX0_wrongIn_4 := dk_seg dksX0_wrongIn_3 22 rfl rfl
theorem dX0_wrongIn_0 : decode cX0_wrongIn 0 = .ok (.aload_n 0, 1) := dk_42 (dk_at dksX0_wrongIn_0 0 rfl rfl)
theorem dX0_wrongIn_1 : decode cX0_wrongIn 1 = .ok (.getfield 39, 3) := dk_180 0 39 (dk_at dksX0_wrongIn_0 1 rfl rfl)
theorem dX0_wrongIn_4 : decode cX0_wrongIn 4 = .ok (.invokevirtual 253, 3) := dk_182 0 253 (dk_at dksX0_wrongIn_0 4 rfl rfl)
theorem dX0_wrongIn_7 : decode cX0_wrongIn 7 = .ok (.pop, 1) := dk_87 (dk_at dksX0_wrongIn_0 7 rfl rfl)
theorem dX0_wrongIn_8 : decode cX0_wrongIn 8 = .ok (.iconst (-1), 1) := dk_2 (dk_at dksX0_wrongIn_0 8 rfl rfl)
theorem dX0_wrongIn_9 : decode cX0_wrongIn 9 = .ok (.istore_n 2, 1) := dk_61 (dk_at dksX0_wrongIn_0 9 rfl rfl)
theorem dX0_wrongIn_10 : decode cX0_wrongIn 10 = .ok (.iconst 0, 1) := dk_3 (dk_at dksX0_wrongIn_0 10 rfl rfl)
theorem dX0_wrongIn_11 : decode cX0_wrongIn 11 = .ok (.istore_n 3, 1) := dk_62 (dk_at dksX0_wrongIn_0 11 rfl rfl)
theorem dX0_wrongIn_12 : decode cX0_wrongIn 12 = .ok (.iload_n 3, 1) := dk_29 (dk_at dksX0_wrongIn_0 12 rfl rfl)
theorem dX0_wrongIn_13 : decode cX0_wrongIn 13 = .ok (.aload_n 0, 1) := dk_42 (dk_at dksX0_wrongIn_0 13 rfl rfl)
theorem dX0_wrongIn_14 : decode cX0_wrongIn 14 = .ok (.getfield 39, 3) := dk_180 0 39 (dk_at dksX0_wrongIn_0 14 rfl rfl)
theorem dX0_wrongIn_17 : decode cX0_wrongIn 17 = .ok (.getfield 71, 3) := dk_180 0 71 (dk_at dksX0_wrongIn_0 17 rfl rfl)
theorem dX0_wrongIn_20 : decode cX0_wrongIn 20 = .ok (.aload_n 0, 1) := dk_42 (dk_at dksX0_wrongIn_0 20 rfl rfl)
theorem dX0_wrongIn_21 : decode cX0_wrongIn 21 = .ok (.getfield 39, 3) := dk_180 0 39 (dk_at dksX0_wrongIn_0 21 rfl rfl)
theorem dX0_wrongIn_24 : decode cX0_wrongIn 24 = .ok (.getfield 150, 3) := dk_180 0 150 (dk_at dksX0_wrongIn_1 0 rfl rfl)
theorem dX0_wrongIn_27 : decode cX0_wrongIn 27 = .ok (.imul, 1) := dk_104 (dk_at dksX0_wrongIn_1 3 rfl rfl)
theorem dX0_wrongIn_28 : decode cX0_wrongIn 28 = .ok (.if_icmp .ge 69, 3) := dk_162 0 69 (dk_at dksX0_wrongIn_1 4 rfl rfl)
theorem dX0_wrongIn_31 : decode cX0_wrongIn 31 = .ok (.aload_n 1, 1) := dk_43 (dk_at dksX0_wrongIn_1 7 rfl rfl)
theorem dX0_wrongIn_32 : decode cX0_wrongIn 32 = .ok (.iload_n 3, 1) := dk_29 (dk_at dksX0_wrongIn_1 8 rfl rfl)
theorem dX0_wrongIn_33 : decode cX0_wrongIn 33 = .ok (.invokestatic 136, 3) := dk_184 0 136 (dk_at dksX0_wrongIn_1 9 rfl rfl)
theorem dX0_wrongIn_36 : decode cX0_wrongIn 36 = .ok (.aload_n 0, 1) := dk_42 (dk_at dksX0_wrongIn_1 12 rfl rfl)
theorem dX0_wrongIn_37 : decode cX0_wrongIn 37 = .ok (.getfield 39, 3) := dk_180 0 39 (dk_at dksX0_wrongIn_1 13 rfl rfl)
theorem dX0_wrongIn_40 : decode cX0_wrongIn 40 = .ok (.getfield 256, 3) := dk_180 1 0 (dk_at dksX0_wrongIn_1 16 rfl rfl)
theorem dX0_wrongIn_43 : decode cX0_wrongIn 43 = .ok (.iload_n 3, 1) := dk_29 (dk_at dksX0_wrongIn_1 19 rfl rfl)
theorem dX0_wrongIn_44 : decode cX0_wrongIn 44 = .ok (.aload_n 0, 1) := dk_42 (dk_at dksX0_wrongIn_1 20 rfl rfl)
theorem dX0_wrongIn_45 : decode cX0_wrongIn 45 = .ok (.getfield 39, 3) := dk_180 0 39 (dk_at dksX0_wrongIn_1 21 rfl rfl)
theorem dX0_wrongIn_48 : decode cX0_wrongIn 48 = .ok (.getfield 150, 3) := dk_180 0 150 (dk_at dksX0_wrongIn_2 0 rfl rfl)
theorem dX0_wrongIn_51 : decode cX0_wrongIn 51 = .ok (.idiv, 1) := dk_108 (dk_at dksX0_wrongIn_2 3 rfl rfl)
theorem dX0_wrongIn_52 : decode cX0_wrongIn 52 = .ok (.aaload, 1) := dk_50 (dk_at dksX0_wrongIn_2 4 rfl rfl)
theorem dX0_wrongIn_53 : decode cX0_wrongIn 53 = .ok (.iload_n 3, 1) := dk_29 (dk_at dksX0_wrongIn_2 5 rfl rfl)
theorem dX0_wrongIn_54 : decode cX0_wrongIn 54 = .ok (.aload_n 0, 1) := dk_42 (dk_at dksX0_wrongIn_2 6 rfl rfl)
theorem dX0_wrongIn_55 : decode cX0_wrongIn 55 = .ok (.getfield 39, 3) := dk_180 0 39 (dk_at dksX0_wrongIn_2 7 rfl rfl)
theorem dX0_wrongIn_58 : decode cX0_wrongIn 58 = .ok (.getfield 150, 3) := dk_180 0 150 (dk_at dksX0_wrongIn_2 10 rfl rfl)
theorem dX0_wrongIn_61 : decode cX0_wrongIn 61 = .ok (.irem, 1) := dk_112 (dk_at dksX0_wrongIn_2 13 rfl rfl)
theorem dX0_wrongIn_62 : decode cX0_wrongIn 62 = .ok (.iaload, 1) := dk_46 (dk_at dksX0_wrongIn_2 14 rfl rfl)
theorem dX0_wrongIn_63 : decode cX0_wrongIn 63 = .ok (.i2l, 1) := dk_133 (dk_at dksX0_wrongIn_2 15 rfl rfl)
theorem dX0_wrongIn_64 : decode cX0_wrongIn 64 = .ok (.lcmp, 1) := dk_148 (dk_at dksX0_wrongIn_2 16 rfl rfl)
theorem dX0_wrongIn_65 : decode cX0_wrongIn 65 = .ok (.ifCond .ne 7, 3) := dk_154 0 7 (dk_at dksX0_wrongIn_2 17 rfl rfl)
theorem dX0_wrongIn_68 : decode cX0_wrongIn 68 = .ok (.iconst 1, 1) := dk_4 (dk_at dksX0_wrongIn_2 20 rfl rfl)
theorem dX0_wrongIn_69 : decode cX0_wrongIn 69 = .ok (.goto 4, 3) := dk_167 0 4 (dk_at dksX0_wrongIn_2 21 rfl rfl)
theorem dX0_wrongIn_72 : decode cX0_wrongIn 72 = .ok (.iconst 0, 1) := dk_3 (dk_at dksX0_wrongIn_3 0 rfl rfl)
theorem dX0_wrongIn_73 : decode cX0_wrongIn 73 = .ok (.istore 4, 2) := dk_54 4 (dk_at dksX0_wrongIn_3 1 rfl rfl)
theorem dX0_wrongIn_75 : decode cX0_wrongIn 75 = .ok (.iload_n 2, 1) := dk_28 (dk_at dksX0_wrongIn_3 3 rfl rfl)
theorem dX0_wrongIn_76 : decode cX0_wrongIn 76 = .ok (.iconst (-1), 1) := dk_2 (dk_at dksX0_wrongIn_3 4 rfl rfl)
theorem dX0_wrongIn_77 : decode cX0_wrongIn 77 = .ok (.if_icmp .ne 12, 3) := dk_160 0 12 (dk_at dksX0_wrongIn_3 5 rfl rfl)
theorem dX0_wrongIn_80 : decode cX0_wrongIn 80 = .ok (.iload 4, 2) := dk_21 4 (dk_at dksX0_wrongIn_3 8 rfl rfl)
theorem dX0_wrongIn_82 : decode cX0_wrongIn 82 = .ok (.ifCond .ne 7, 3) := dk_154 0 7 (dk_at dksX0_wrongIn_3 10 rfl rfl)
theorem dX0_wrongIn_85 : decode cX0_wrongIn 85 = .ok (.iload_n 3, 1) := dk_29 (dk_at dksX0_wrongIn_3 13 rfl rfl)
theorem dX0_wrongIn_86 : decode cX0_wrongIn 86 = .ok (.goto 4, 3) := dk_167 0 4 (dk_at dksX0_wrongIn_3 14 rfl rfl)
theorem dX0_wrongIn_89 : decode cX0_wrongIn 89 = .ok (.iload_n 2, 1) := dk_28 (dk_at dksX0_wrongIn_3 17 rfl rfl)
theorem dX0_wrongIn_90 : decode cX0_wrongIn 90 = .ok (.istore_n 2, 1) := dk_61 (dk_at dksX0_wrongIn_3 18 rfl rfl)
theorem dX0_wrongIn_91 : decode cX0_wrongIn 91 = .ok (.iinc 3 1, 3) := dk_132 3 1 (dk_at dksX0_wrongIn_3 19 rfl rfl)
theorem dX0_wrongIn_94 : decode cX0_wrongIn 94 = .ok (.goto (-82), 3) := dk_167 255 174 (dk_at dksX0_wrongIn_4 0 rfl rfl)
theorem dX0_wrongIn_97 : decode cX0_wrongIn 97 = .ok (.iload_n 2, 1) := dk_28 (dk_at dksX0_wrongIn_4 3 rfl rfl)
theorem dX0_wrongIn_98 : decode cX0_wrongIn 98 = .ok (.ireturn, 1) := dk_172 (dk_at dksX0_wrongIn_4 4 rfl rfl)
abbrev cX0_years : ByteArray := prog_1_method_59_code
def yX0_years : MethodName := ⟨RX0, "years", "(II)I"⟩
def dkwX0_years_1 : List UInt8 := [27, 28, 182, 1, 37, 167, 0, 9, 42, 16, 254, 182, 0, 250, 172]
abbrev dktX0_years_1 : List UInt8 := dkwX0_years_1 ++ []
def dkwX0_years_0 : List UInt8 := [27, 184, 1, 34, 153, 0, 28, 28, 2, 159, 0, 11, 42, 28, 182, 0, 143, 153, 0, 15, 42, 182, 1, 19]
abbrev dktX0_years_0 : List UInt8 := dkwX0_years_0 ++ dktX0_years_1
theorem dksX0_years_0 : cX0_years.data.toList.drop 0 = dktX0_years_0 := by decide +kernel
theorem dksX0_years_1 : cX0_years.data.toList.drop 24 = dktX0_years_1 := dk_seg dksX0_years_0 24 rfl rfl
theorem dX0_years_0 : decode cX0_years 0 = .ok (.iload_n 1, 1) := dk_27 (dk_at dksX0_years_0 0 rfl rfl)
theorem dX0_years_1 : decode cX0_years 1 = .ok (.invokestatic 290, 3) := dk_184 1 34 (dk_at dksX0_years_0 1 rfl rfl)
theorem dX0_years_4 : decode cX0_years 4 = .ok (.ifCond .eq 28, 3) := dk_153 0 28 (dk_at dksX0_years_0 4 rfl rfl)
theorem dX0_years_7 : decode cX0_years 7 = .ok (.iload_n 2, 1) := dk_28 (dk_at dksX0_years_0 7 rfl rfl)
theorem dX0_years_8 : decode cX0_years 8 = .ok (.iconst (-1), 1) := dk_2 (dk_at dksX0_years_0 8 rfl rfl)
theorem dX0_years_9 : decode cX0_years 9 = .ok (.if_icmp .eq 11, 3) := dk_159 0 11 (dk_at dksX0_years_0 9 rfl rfl)
theorem dX0_years_12 : decode cX0_years 12 = .ok (.aload_n 0, 1) := dk_42 (dk_at dksX0_years_0 12 rfl rfl)
theorem dX0_years_13 : decode cX0_years 13 = .ok (.iload_n 2, 1) := dk_28 (dk_at dksX0_years_0 13 rfl rfl)
theorem dX0_years_14 : decode cX0_years 14 = .ok (.invokevirtual 143, 3) := dk_182 0 143 (dk_at dksX0_years_0 14 rfl rfl)
theorem dX0_years_17 : decode cX0_years 17 = .ok (.ifCond .eq 15, 3) := dk_153 0 15 (dk_at dksX0_years_0 17 rfl rfl)
theorem dX0_years_20 : decode cX0_years 20 = .ok (.aload_n 0, 1) := dk_42 (dk_at dksX0_years_0 20 rfl rfl)
theorem dX0_years_21 : decode cX0_years 21 = .ok (.invokevirtual 275, 3) := dk_182 1 19 (dk_at dksX0_years_0 21 rfl rfl)
theorem dX0_years_24 : decode cX0_years 24 = .ok (.iload_n 1, 1) := dk_27 (dk_at dksX0_years_1 0 rfl rfl)
theorem dX0_years_25 : decode cX0_years 25 = .ok (.iload_n 2, 1) := dk_28 (dk_at dksX0_years_1 1 rfl rfl)
theorem dX0_years_26 : decode cX0_years 26 = .ok (.invokevirtual 293, 3) := dk_182 1 37 (dk_at dksX0_years_1 2 rfl rfl)
theorem dX0_years_29 : decode cX0_years 29 = .ok (.goto 9, 3) := dk_167 0 9 (dk_at dksX0_years_1 5 rfl rfl)
theorem dX0_years_32 : decode cX0_years 32 = .ok (.aload_n 0, 1) := dk_42 (dk_at dksX0_years_1 8 rfl rfl)
theorem dX0_years_33 : decode cX0_years 33 = .ok (.bipush (-2), 2) := dk_16 254 (dk_at dksX0_years_1 9 rfl rfl)
theorem dX0_years_35 : decode cX0_years 35 = .ok (.invokevirtual 250, 3) := dk_182 0 250 (dk_at dksX0_years_1 11 rfl rfl)
theorem dX0_years_38 : decode cX0_years 38 = .ok (.ireturn, 1) := dk_172 (dk_at dksX0_years_1 14 rfl rfl)
abbrev cX0_isYears : ByteArray := prog_1_method_10_code
def yX0_isYears : MethodName := ⟨RX0, "isYears", "(I)Z"⟩
def dkwX0_isYears_0 : List UInt8 := [26, 4, 16, 12, 184, 0, 67, 172]
abbrev dktX0_isYears_0 : List UInt8 := dkwX0_isYears_0 ++ []
theorem dksX0_isYears_0 : cX0_isYears.data.toList.drop 0 = dktX0_isYears_0 := by decide +kernel
theorem dX0_isYears_0 : decode cX0_isYears 0 = .ok (.iload_n 0, 1) := dk_26 (dk_at dksX0_isYears_0 0 rfl rfl)
theorem dX0_isYears_1 : decode cX0_isYears 1 = .ok (.iconst 1, 1) := dk_4 (dk_at dksX0_isYears_0 1 rfl rfl)
theorem dX0_isYears_2 : decode cX0_isYears 2 = .ok (.bipush 12, 2) := dk_16 12 (dk_at dksX0_isYears_0 2 rfl rfl)
theorem dX0_isYears_4 : decode cX0_isYears 4 = .ok (.invokestatic 67, 3) := dk_184 0 67 (dk_at dksX0_isYears_0 4 rfl rfl)
theorem dX0_isYears_7 : decode cX0_isYears 7 = .ok (.ireturn, 1) := dk_172 (dk_at dksX0_isYears_0 7 rfl rfl)
abbrev cX0_then : ByteArray := prog_1_method_61_code
def yX0_then : MethodName := ⟨RX0, "then", "(III)I"⟩
def dkwX0_then_3 : List UInt8 := [180, 0, 186, 28, 46, 167, 0, 5, 21, 5, 172]
abbrev dktX0_then_3 : List UInt8 := dkwX0_then_3 ++ []
def dkwX0_then_2 : List UInt8 := [54, 5, 29, 154, 0, 13, 25, 4, 180, 0, 183, 28, 46, 167, 0, 20, 29, 4, 160, 0, 13, 25, 4]
abbrev dktX0_then_2 : List UInt8 := dkwX0_then_2 ++ dktX0_then_3
def dkwX0_then_1 : List UInt8 := [154, 0, 10, 42, 16, 254, 182, 0, 63, 172, 42, 182, 1, 19, 58, 4, 25, 4, 27, 28, 184, 1, 43]
abbrev dktX0_then_1 : List UInt8 := dkwX0_then_1 ++ dktX0_then_2
def dkwX0_then_0 : List UInt8 := [27, 184, 1, 34, 153, 0, 23, 42, 180, 0, 39, 28, 182, 0, 180, 153, 0, 12, 29, 3, 5, 184, 0, 67]
abbrev dktX0_then_0 : List UInt8 := dkwX0_then_0 ++ dktX0_then_1
theorem dksX0_then_0 : cX0_then.data.toList.drop 0 = dktX0_then_0 := by decide +kernel
theorem dksX0_then_1 : cX0_then.data.toList.drop 24 = dktX0_then_1 := dk_seg dksX0_then_0 24 rfl rfl
theorem dksX0_then_2 : cX0_then.data.toList.drop 47 = dktX0_then_2 := dk_seg dksX0_then_1 23 rfl rfl
theorem dksX0_then_3 : cX0_then.data.toList.drop 70 = dktX0_then_3 := dk_seg dksX0_then_2 23 rfl rfl
theorem dX0_then_0 : decode cX0_then 0 = .ok (.iload_n 1, 1) := dk_27 (dk_at dksX0_then_0 0 rfl rfl)
theorem dX0_then_1 : decode cX0_then 1 = .ok (.invokestatic 290, 3) := dk_184 1 34 (dk_at dksX0_then_0 1 rfl rfl)
theorem dX0_then_4 : decode cX0_then 4 = .ok (.ifCond .eq 23, 3) := dk_153 0 23 (dk_at dksX0_then_0 4 rfl rfl)
theorem dX0_then_7 : decode cX0_then 7 = .ok (.aload_n 0, 1) := dk_42 (dk_at dksX0_then_0 7 rfl rfl)
theorem dX0_then_8 : decode cX0_then 8 = .ok (.getfield 39, 3) := dk_180 0 39 (dk_at dksX0_then_0 8 rfl rfl)
theorem dX0_then_11 : decode cX0_then 11 = .ok (.iload_n 2, 1) := dk_28 (dk_at dksX0_then_0 11 rfl rfl)
theorem dX0_then_12 : decode cX0_then 12 = .ok (.invokevirtual 180, 3) := dk_182 0 180 (dk_at dksX0_then_0 12 rfl rfl)
theorem dX0_then_15 : decode cX0_then 15 = .ok (.ifCond .eq 12, 3) := dk_153 0 12 (dk_at dksX0_then_0 15 rfl rfl)
theorem dX0_then_18 : decode cX0_then 18 = .ok (.iload_n 3, 1) := dk_29 (dk_at dksX0_then_0 18 rfl rfl)
theorem dX0_then_19 : decode cX0_then 19 = .ok (.iconst 0, 1) := dk_3 (dk_at dksX0_then_0 19 rfl rfl)
theorem dX0_then_20 : decode cX0_then 20 = .ok (.iconst 2, 1) := dk_5 (dk_at dksX0_then_0 20 rfl rfl)
theorem dX0_then_21 : decode cX0_then 21 = .ok (.invokestatic 67, 3) := dk_184 0 67 (dk_at dksX0_then_0 21 rfl rfl)
theorem dX0_then_24 : decode cX0_then 24 = .ok (.ifCond .ne 10, 3) := dk_154 0 10 (dk_at dksX0_then_1 0 rfl rfl)
theorem dX0_then_27 : decode cX0_then 27 = .ok (.aload_n 0, 1) := dk_42 (dk_at dksX0_then_1 3 rfl rfl)
theorem dX0_then_28 : decode cX0_then 28 = .ok (.bipush (-2), 2) := dk_16 254 (dk_at dksX0_then_1 4 rfl rfl)
theorem dX0_then_30 : decode cX0_then 30 = .ok (.invokevirtual 63, 3) := dk_182 0 63 (dk_at dksX0_then_1 6 rfl rfl)
theorem dX0_then_33 : decode cX0_then 33 = .ok (.ireturn, 1) := dk_172 (dk_at dksX0_then_1 9 rfl rfl)
theorem dX0_then_34 : decode cX0_then 34 = .ok (.aload_n 0, 1) := dk_42 (dk_at dksX0_then_1 10 rfl rfl)
theorem dX0_then_35 : decode cX0_then 35 = .ok (.invokevirtual 275, 3) := dk_182 1 19 (dk_at dksX0_then_1 11 rfl rfl)
theorem dX0_then_38 : decode cX0_then 38 = .ok (.astore 4, 2) := dk_58 4 (dk_at dksX0_then_1 14 rfl rfl)
theorem dX0_then_40 : decode cX0_then 40 = .ok (.aload 4, 2) := dk_25 4 (dk_at dksX0_then_1 16 rfl rfl)
theorem dX0_then_42 : decode cX0_then 42 = .ok (.iload_n 1, 1) := dk_27 (dk_at dksX0_then_1 18 rfl rfl)
theorem dX0_then_43 : decode cX0_then 43 = .ok (.iload_n 2, 1) := dk_28 (dk_at dksX0_then_1 19 rfl rfl)
theorem dX0_then_44 : decode cX0_then 44 = .ok (.invokestatic 299, 3) := dk_184 1 43 (dk_at dksX0_then_1 20 rfl rfl)
theorem dX0_then_47 : decode cX0_then 47 = .ok (.istore 5, 2) := dk_54 5 (dk_at dksX0_then_2 0 rfl rfl)
theorem dX0_then_49 : decode cX0_then 49 = .ok (.iload_n 3, 1) := dk_29 (dk_at dksX0_then_2 2 rfl rfl)
theorem dX0_then_50 : decode cX0_then 50 = .ok (.ifCond .ne 13, 3) := dk_154 0 13 (dk_at dksX0_then_2 3 rfl rfl)
theorem dX0_then_53 : decode cX0_then 53 = .ok (.aload 4, 2) := dk_25 4 (dk_at dksX0_then_2 6 rfl rfl)
theorem dX0_then_55 : decode cX0_then 55 = .ok (.getfield 183, 3) := dk_180 0 183 (dk_at dksX0_then_2 8 rfl rfl)
theorem dX0_then_58 : decode cX0_then 58 = .ok (.iload_n 2, 1) := dk_28 (dk_at dksX0_then_2 11 rfl rfl)
theorem dX0_then_59 : decode cX0_then 59 = .ok (.iaload, 1) := dk_46 (dk_at dksX0_then_2 12 rfl rfl)
theorem dX0_then_60 : decode cX0_then 60 = .ok (.goto 20, 3) := dk_167 0 20 (dk_at dksX0_then_2 13 rfl rfl)
theorem dX0_then_63 : decode cX0_then 63 = .ok (.iload_n 3, 1) := dk_29 (dk_at dksX0_then_2 16 rfl rfl)
theorem dX0_then_64 : decode cX0_then 64 = .ok (.iconst 1, 1) := dk_4 (dk_at dksX0_then_2 17 rfl rfl)
theorem dX0_then_65 : decode cX0_then 65 = .ok (.if_icmp .ne 13, 3) := dk_160 0 13 (dk_at dksX0_then_2 18 rfl rfl)
theorem dX0_then_68 : decode cX0_then 68 = .ok (.aload 4, 2) := dk_25 4 (dk_at dksX0_then_2 21 rfl rfl)
theorem dX0_then_70 : decode cX0_then 70 = .ok (.getfield 186, 3) := dk_180 0 186 (dk_at dksX0_then_3 0 rfl rfl)
theorem dX0_then_73 : decode cX0_then 73 = .ok (.iload_n 2, 1) := dk_28 (dk_at dksX0_then_3 3 rfl rfl)
theorem dX0_then_74 : decode cX0_then 74 = .ok (.iaload, 1) := dk_46 (dk_at dksX0_then_3 4 rfl rfl)
theorem dX0_then_75 : decode cX0_then 75 = .ok (.goto 5, 3) := dk_167 0 5 (dk_at dksX0_then_3 5 rfl rfl)
theorem dX0_then_78 : decode cX0_then 78 = .ok (.iload 5, 2) := dk_21 5 (dk_at dksX0_then_3 8 rfl rfl)
theorem dX0_then_80 : decode cX0_then 80 = .ok (.ireturn, 1) := dk_172 (dk_at dksX0_then_3 10 rfl rfl)
abbrev cX0_takes : ByteArray := prog_1_method_60_code
def yX0_takes : MethodName := ⟨RX0, "takes", "(LEverybodyHasTheBook$Valley;II)I"⟩
def dkwX0_takes_1 : List UInt8 := [180, 0, 186, 28, 46, 104, 96, 62, 42, 182, 1, 40, 132, 4, 1, 167, 255, 224, 29, 172]
abbrev dktX0_takes_1 : List UInt8 := dkwX0_takes_1 ++ []
def dkwX0_takes_0 : List UInt8 := [3, 62, 3, 54, 4, 21, 4, 27, 162, 0, 32, 29, 42, 182, 0, 253, 180, 1, 4, 28, 46, 42]
abbrev dktX0_takes_0 : List UInt8 := dkwX0_takes_0 ++ dktX0_takes_1
theorem dksX0_takes_0 : cX0_takes.data.toList.drop 0 = dktX0_takes_0 := by decide +kernel
theorem dksX0_takes_1 : cX0_takes.data.toList.drop 22 = dktX0_takes_1 := dk_seg dksX0_takes_0 22 rfl rfl
theorem dX0_takes_0 : decode cX0_takes 0 = .ok (.iconst 0, 1) := dk_3 (dk_at dksX0_takes_0 0 rfl rfl)
theorem dX0_takes_1 : decode cX0_takes 1 = .ok (.istore_n 3, 1) := dk_62 (dk_at dksX0_takes_0 1 rfl rfl)
theorem dX0_takes_2 : decode cX0_takes 2 = .ok (.iconst 0, 1) := dk_3 (dk_at dksX0_takes_0 2 rfl rfl)
theorem dX0_takes_3 : decode cX0_takes 3 = .ok (.istore 4, 2) := dk_54 4 (dk_at dksX0_takes_0 3 rfl rfl)
theorem dX0_takes_5 : decode cX0_takes 5 = .ok (.iload 4, 2) := dk_21 4 (dk_at dksX0_takes_0 5 rfl rfl)
theorem dX0_takes_7 : decode cX0_takes 7 = .ok (.iload_n 1, 1) := dk_27 (dk_at dksX0_takes_0 7 rfl rfl)
theorem dX0_takes_8 : decode cX0_takes 8 = .ok (.if_icmp .ge 32, 3) := dk_162 0 32 (dk_at dksX0_takes_0 8 rfl rfl)
theorem dX0_takes_11 : decode cX0_takes 11 = .ok (.iload_n 3, 1) := dk_29 (dk_at dksX0_takes_0 11 rfl rfl)
theorem dX0_takes_12 : decode cX0_takes 12 = .ok (.aload_n 0, 1) := dk_42 (dk_at dksX0_takes_0 12 rfl rfl)
theorem dX0_takes_13 : decode cX0_takes 13 = .ok (.invokevirtual 253, 3) := dk_182 0 253 (dk_at dksX0_takes_0 13 rfl rfl)
theorem dX0_takes_16 : decode cX0_takes 16 = .ok (.getfield 260, 3) := dk_180 1 4 (dk_at dksX0_takes_0 16 rfl rfl)
theorem dX0_takes_19 : decode cX0_takes 19 = .ok (.iload_n 2, 1) := dk_28 (dk_at dksX0_takes_0 19 rfl rfl)
theorem dX0_takes_20 : decode cX0_takes 20 = .ok (.iaload, 1) := dk_46 (dk_at dksX0_takes_0 20 rfl rfl)
theorem dX0_takes_21 : decode cX0_takes 21 = .ok (.aload_n 0, 1) := dk_42 (dk_at dksX0_takes_0 21 rfl rfl)
theorem dX0_takes_22 : decode cX0_takes 22 = .ok (.getfield 186, 3) := dk_180 0 186 (dk_at dksX0_takes_1 0 rfl rfl)
theorem dX0_takes_25 : decode cX0_takes 25 = .ok (.iload_n 2, 1) := dk_28 (dk_at dksX0_takes_1 3 rfl rfl)
theorem dX0_takes_26 : decode cX0_takes 26 = .ok (.iaload, 1) := dk_46 (dk_at dksX0_takes_1 4 rfl rfl)
theorem dX0_takes_27 : decode cX0_takes 27 = .ok (.imul, 1) := dk_104 (dk_at dksX0_takes_1 5 rfl rfl)
theorem dX0_takes_28 : decode cX0_takes 28 = .ok (.iadd, 1) := dk_96 (dk_at dksX0_takes_1 6 rfl rfl)
theorem dX0_takes_29 : decode cX0_takes 29 = .ok (.istore_n 3, 1) := dk_62 (dk_at dksX0_takes_1 7 rfl rfl)
theorem dX0_takes_30 : decode cX0_takes 30 = .ok (.aload_n 0, 1) := dk_42 (dk_at dksX0_takes_1 8 rfl rfl)
theorem dX0_takes_31 : decode cX0_takes 31 = .ok (.invokevirtual 296, 3) := dk_182 1 40 (dk_at dksX0_takes_1 9 rfl rfl)
theorem dX0_takes_34 : decode cX0_takes 34 = .ok (.iinc 4 1, 3) := dk_132 4 1 (dk_at dksX0_takes_1 12 rfl rfl)
theorem dX0_takes_37 : decode cX0_takes 37 = .ok (.goto (-32), 3) := dk_167 255 224 (dk_at dksX0_takes_1 15 rfl rfl)
theorem dX0_takes_40 : decode cX0_takes 40 = .ok (.iload_n 3, 1) := dk_29 (dk_at dksX0_takes_1 18 rfl rfl)
theorem dX0_takes_41 : decode cX0_takes 41 = .ok (.ireturn, 1) := dk_172 (dk_at dksX0_takes_1 19 rfl rfl)
abbrev cX0_written : ByteArray := prog_1_method_63_code
def yX0_written : MethodName := ⟨RX0, "written", "(II)I"⟩
def dkwX0_written_1 : List UInt8 := [182, 1, 47, 167, 0, 9, 42, 16, 254, 182, 0, 250, 172]
abbrev dktX0_written_1 : List UInt8 := dkwX0_written_1 ++ []
def dkwX0_written_0 : List UInt8 := [27, 184, 1, 34, 153, 0, 24, 28, 3, 42, 182, 0, 153, 184, 0, 67, 153, 0, 12, 42, 27, 28]
abbrev dktX0_written_0 : List UInt8 := dkwX0_written_0 ++ dktX0_written_1
theorem dksX0_written_0 : cX0_written.data.toList.drop 0 = dktX0_written_0 := by decide +kernel
theorem dksX0_written_1 : cX0_written.data.toList.drop 22 = dktX0_written_1 := dk_seg dksX0_written_0 22 rfl rfl
theorem dX0_written_0 : decode cX0_written 0 = .ok (.iload_n 1, 1) := dk_27 (dk_at dksX0_written_0 0 rfl rfl)
theorem dX0_written_1 : decode cX0_written 1 = .ok (.invokestatic 290, 3) := dk_184 1 34 (dk_at dksX0_written_0 1 rfl rfl)
theorem dX0_written_4 : decode cX0_written 4 = .ok (.ifCond .eq 24, 3) := dk_153 0 24 (dk_at dksX0_written_0 4 rfl rfl)
theorem dX0_written_7 : decode cX0_written 7 = .ok (.iload_n 2, 1) := dk_28 (dk_at dksX0_written_0 7 rfl rfl)
theorem dX0_written_8 : decode cX0_written 8 = .ok (.iconst 0, 1) := dk_3 (dk_at dksX0_written_0 8 rfl rfl)
theorem dX0_written_9 : decode cX0_written 9 = .ok (.aload_n 0, 1) := dk_42 (dk_at dksX0_written_0 9 rfl rfl)
theorem dX0_written_10 : decode cX0_written 10 = .ok (.invokevirtual 153, 3) := dk_182 0 153 (dk_at dksX0_written_0 10 rfl rfl)
theorem dX0_written_13 : decode cX0_written 13 = .ok (.invokestatic 67, 3) := dk_184 0 67 (dk_at dksX0_written_0 13 rfl rfl)
theorem dX0_written_16 : decode cX0_written 16 = .ok (.ifCond .eq 12, 3) := dk_153 0 12 (dk_at dksX0_written_0 16 rfl rfl)
theorem dX0_written_19 : decode cX0_written 19 = .ok (.aload_n 0, 1) := dk_42 (dk_at dksX0_written_0 19 rfl rfl)
theorem dX0_written_20 : decode cX0_written 20 = .ok (.iload_n 1, 1) := dk_27 (dk_at dksX0_written_0 20 rfl rfl)
theorem dX0_written_21 : decode cX0_written 21 = .ok (.iload_n 2, 1) := dk_28 (dk_at dksX0_written_0 21 rfl rfl)
theorem dX0_written_22 : decode cX0_written 22 = .ok (.invokevirtual 303, 3) := dk_182 1 47 (dk_at dksX0_written_1 0 rfl rfl)
theorem dX0_written_25 : decode cX0_written 25 = .ok (.goto 9, 3) := dk_167 0 9 (dk_at dksX0_written_1 3 rfl rfl)
theorem dX0_written_28 : decode cX0_written 28 = .ok (.aload_n 0, 1) := dk_42 (dk_at dksX0_written_1 6 rfl rfl)
theorem dX0_written_29 : decode cX0_written 29 = .ok (.bipush (-2), 2) := dk_16 254 (dk_at dksX0_written_1 7 rfl rfl)
theorem dX0_written_31 : decode cX0_written 31 = .ok (.invokevirtual 250, 3) := dk_182 0 250 (dk_at dksX0_written_1 9 rfl rfl)
theorem dX0_written_34 : decode cX0_written 34 = .ok (.ireturn, 1) := dk_172 (dk_at dksX0_written_1 12 rfl rfl)
abbrev cX0_writtenBy : ByteArray := prog_1_method_62_code
def yX0_writtenBy : MethodName := ⟨RX0, "writtenBy", "(II)I"⟩
def dkwX0_writtenBy_0 : List UInt8 := [42, 182, 1, 19, 78, 45, 28, 182, 0, 192, 45, 27, 2, 182, 1, 37, 172]
abbrev dktX0_writtenBy_0 : List UInt8 := dkwX0_writtenBy_0 ++ []
theorem dksX0_writtenBy_0 : cX0_writtenBy.data.toList.drop 0 = dktX0_writtenBy_0 := by decide +kernel
theorem dX0_writtenBy_0 : decode cX0_writtenBy 0 = .ok (.aload_n 0, 1) := dk_42 (dk_at dksX0_writtenBy_0 0 rfl rfl)
theorem dX0_writtenBy_1 : decode cX0_writtenBy 1 = .ok (.invokevirtual 275, 3) := dk_182 1 19 (dk_at dksX0_writtenBy_0 1 rfl rfl)
theorem dX0_writtenBy_4 : decode cX0_writtenBy 4 = .ok (.astore_n 3, 1) := dk_78 (dk_at dksX0_writtenBy_0 4 rfl rfl)
theorem dX0_writtenBy_5 : decode cX0_writtenBy 5 = .ok (.aload_n 3, 1) := dk_45 (dk_at dksX0_writtenBy_0 5 rfl rfl)
theorem dX0_writtenBy_6 : decode cX0_writtenBy 6 = .ok (.iload_n 2, 1) := dk_28 (dk_at dksX0_writtenBy_0 6 rfl rfl)
theorem dX0_writtenBy_7 : decode cX0_writtenBy 7 = .ok (.invokevirtual 192, 3) := dk_182 0 192 (dk_at dksX0_writtenBy_0 7 rfl rfl)
theorem dX0_writtenBy_10 : decode cX0_writtenBy 10 = .ok (.aload_n 3, 1) := dk_45 (dk_at dksX0_writtenBy_0 10 rfl rfl)
theorem dX0_writtenBy_11 : decode cX0_writtenBy 11 = .ok (.iload_n 1, 1) := dk_27 (dk_at dksX0_writtenBy_0 11 rfl rfl)
theorem dX0_writtenBy_12 : decode cX0_writtenBy 12 = .ok (.iconst (-1), 1) := dk_2 (dk_at dksX0_writtenBy_0 12 rfl rfl)
theorem dX0_writtenBy_13 : decode cX0_writtenBy 13 = .ok (.invokevirtual 293, 3) := dk_182 1 37 (dk_at dksX0_writtenBy_0 13 rfl rfl)
theorem dX0_writtenBy_16 : decode cX0_writtenBy 16 = .ok (.ireturn, 1) := dk_172 (dk_at dksX0_writtenBy_0 16 rfl rfl)
abbrev cX0_book : ByteArray := prog_1_method_65_code
def yX0_book : MethodName := ⟨RX0, "book", "(II)I"⟩
def dkwX0_book_1 : List UInt8 := [167, 0, 9, 42, 16, 254, 182, 0, 63, 172]
abbrev dktX0_book_1 : List UInt8 := dkwX0_book_1 ++ []
def dkwX0_book_0 : List UInt8 := [27, 184, 1, 34, 153, 0, 22, 28, 3, 16, 6, 184, 0, 67, 153, 0, 12, 42, 27, 28, 182, 1, 50]
abbrev dktX0_book_0 : List UInt8 := dkwX0_book_0 ++ dktX0_book_1
theorem dksX0_book_0 : cX0_book.data.toList.drop 0 = dktX0_book_0 := by decide +kernel
theorem dksX0_book_1 : cX0_book.data.toList.drop 23 = dktX0_book_1 := dk_seg dksX0_book_0 23 rfl rfl
theorem dX0_book_0 : decode cX0_book 0 = .ok (.iload_n 1, 1) := dk_27 (dk_at dksX0_book_0 0 rfl rfl)
theorem dX0_book_1 : decode cX0_book 1 = .ok (.invokestatic 290, 3) := dk_184 1 34 (dk_at dksX0_book_0 1 rfl rfl)
theorem dX0_book_4 : decode cX0_book 4 = .ok (.ifCond .eq 22, 3) := dk_153 0 22 (dk_at dksX0_book_0 4 rfl rfl)
theorem dX0_book_7 : decode cX0_book 7 = .ok (.iload_n 2, 1) := dk_28 (dk_at dksX0_book_0 7 rfl rfl)
theorem dX0_book_8 : decode cX0_book 8 = .ok (.iconst 0, 1) := dk_3 (dk_at dksX0_book_0 8 rfl rfl)
theorem dX0_book_9 : decode cX0_book 9 = .ok (.bipush 6, 2) := dk_16 6 (dk_at dksX0_book_0 9 rfl rfl)
theorem dX0_book_11 : decode cX0_book 11 = .ok (.invokestatic 67, 3) := dk_184 0 67 (dk_at dksX0_book_0 11 rfl rfl)
theorem dX0_book_14 : decode cX0_book 14 = .ok (.ifCond .eq 12, 3) := dk_153 0 12 (dk_at dksX0_book_0 14 rfl rfl)
theorem dX0_book_17 : decode cX0_book 17 = .ok (.aload_n 0, 1) := dk_42 (dk_at dksX0_book_0 17 rfl rfl)
theorem dX0_book_18 : decode cX0_book 18 = .ok (.iload_n 1, 1) := dk_27 (dk_at dksX0_book_0 18 rfl rfl)
theorem dX0_book_19 : decode cX0_book 19 = .ok (.iload_n 2, 1) := dk_28 (dk_at dksX0_book_0 19 rfl rfl)
theorem dX0_book_20 : decode cX0_book 20 = .ok (.invokevirtual 306, 3) := dk_182 1 50 (dk_at dksX0_book_0 20 rfl rfl)
theorem dX0_book_23 : decode cX0_book 23 = .ok (.goto 9, 3) := dk_167 0 9 (dk_at dksX0_book_1 0 rfl rfl)
theorem dX0_book_26 : decode cX0_book 26 = .ok (.aload_n 0, 1) := dk_42 (dk_at dksX0_book_1 3 rfl rfl)
theorem dX0_book_27 : decode cX0_book 27 = .ok (.bipush (-2), 2) := dk_16 254 (dk_at dksX0_book_1 4 rfl rfl)
theorem dX0_book_29 : decode cX0_book 29 = .ok (.invokevirtual 63, 3) := dk_182 0 63 (dk_at dksX0_book_1 6 rfl rfl)
theorem dX0_book_32 : decode cX0_book 32 = .ok (.ireturn, 1) := dk_172 (dk_at dksX0_book_1 9 rfl rfl)
abbrev cX0_bookOf : ByteArray := prog_1_method_64_code
def yX0_bookOf : MethodName := ⟨RX0, "bookOf", "(II)I"⟩
def dkwX0_bookOf_2 : List UInt8 := [164, 0, 10, 21, 5, 62, 21, 6, 54, 4, 132, 5, 1, 167, 255, 204, 29, 172]
abbrev dktX0_bookOf_2 : List UInt8 := dkwX0_bookOf_2 ++ []
def dkwX0_bookOf_1 : List UInt8 := [164, 0, 6, 167, 0, 31, 42, 27, 21, 5, 182, 1, 47, 54, 6, 29, 2, 159, 0, 10, 21, 6, 21, 4]
abbrev dktX0_bookOf_1 : List UInt8 := dkwX0_bookOf_1 ++ dktX0_bookOf_2
def dkwX0_bookOf_0 : List UInt8 := [2, 62, 3, 54, 4, 3, 54, 5, 21, 5, 42, 182, 0, 153, 163, 0, 49, 21, 5, 184, 0, 195, 28]
abbrev dktX0_bookOf_0 : List UInt8 := dkwX0_bookOf_0 ++ dktX0_bookOf_1
theorem dksX0_bookOf_0 : cX0_bookOf.data.toList.drop 0 = dktX0_bookOf_0 := by decide +kernel
theorem dksX0_bookOf_1 : cX0_bookOf.data.toList.drop 23 = dktX0_bookOf_1 := dk_seg dksX0_bookOf_0 23 rfl rfl
theorem dksX0_bookOf_2 : cX0_bookOf.data.toList.drop 47 = dktX0_bookOf_2 := dk_seg dksX0_bookOf_1 24 rfl rfl
theorem dX0_bookOf_0 : decode cX0_bookOf 0 = .ok (.iconst (-1), 1) := dk_2 (dk_at dksX0_bookOf_0 0 rfl rfl)
theorem dX0_bookOf_1 : decode cX0_bookOf 1 = .ok (.istore_n 3, 1) := dk_62 (dk_at dksX0_bookOf_0 1 rfl rfl)
theorem dX0_bookOf_2 : decode cX0_bookOf 2 = .ok (.iconst 0, 1) := dk_3 (dk_at dksX0_bookOf_0 2 rfl rfl)
theorem dX0_bookOf_3 : decode cX0_bookOf 3 = .ok (.istore 4, 2) := dk_54 4 (dk_at dksX0_bookOf_0 3 rfl rfl)
theorem dX0_bookOf_5 : decode cX0_bookOf 5 = .ok (.iconst 0, 1) := dk_3 (dk_at dksX0_bookOf_0 5 rfl rfl)
theorem dX0_bookOf_6 : decode cX0_bookOf 6 = .ok (.istore 5, 2) := dk_54 5 (dk_at dksX0_bookOf_0 6 rfl rfl)
theorem dX0_bookOf_8 : decode cX0_bookOf 8 = .ok (.iload 5, 2) := dk_21 5 (dk_at dksX0_bookOf_0 8 rfl rfl)
theorem dX0_bookOf_10 : decode cX0_bookOf 10 = .ok (.aload_n 0, 1) := dk_42 (dk_at dksX0_bookOf_0 10 rfl rfl)
theorem dX0_bookOf_11 : decode cX0_bookOf 11 = .ok (.invokevirtual 153, 3) := dk_182 0 153 (dk_at dksX0_bookOf_0 11 rfl rfl)
theorem dX0_bookOf_14 : decode cX0_bookOf 14 = .ok (.if_icmp .gt 49, 3) := dk_163 0 49 (dk_at dksX0_bookOf_0 14 rfl rfl)
theorem dX0_bookOf_17 : decode cX0_bookOf 17 = .ok (.iload 5, 2) := dk_21 5 (dk_at dksX0_bookOf_0 17 rfl rfl)
theorem dX0_bookOf_19 : decode cX0_bookOf 19 = .ok (.invokestatic 195, 3) := dk_184 0 195 (dk_at dksX0_bookOf_0 19 rfl rfl)
theorem dX0_bookOf_22 : decode cX0_bookOf 22 = .ok (.iload_n 2, 1) := dk_28 (dk_at dksX0_bookOf_0 22 rfl rfl)
theorem dX0_bookOf_23 : decode cX0_bookOf 23 = .ok (.if_icmp .le 6, 3) := dk_164 0 6 (dk_at dksX0_bookOf_1 0 rfl rfl)
theorem dX0_bookOf_26 : decode cX0_bookOf 26 = .ok (.goto 31, 3) := dk_167 0 31 (dk_at dksX0_bookOf_1 3 rfl rfl)
theorem dX0_bookOf_29 : decode cX0_bookOf 29 = .ok (.aload_n 0, 1) := dk_42 (dk_at dksX0_bookOf_1 6 rfl rfl)
theorem dX0_bookOf_30 : decode cX0_bookOf 30 = .ok (.iload_n 1, 1) := dk_27 (dk_at dksX0_bookOf_1 7 rfl rfl)
theorem dX0_bookOf_31 : decode cX0_bookOf 31 = .ok (.iload 5, 2) := dk_21 5 (dk_at dksX0_bookOf_1 8 rfl rfl)
theorem dX0_bookOf_33 : decode cX0_bookOf 33 = .ok (.invokevirtual 303, 3) := dk_182 1 47 (dk_at dksX0_bookOf_1 10 rfl rfl)
theorem dX0_bookOf_36 : decode cX0_bookOf 36 = .ok (.istore 6, 2) := dk_54 6 (dk_at dksX0_bookOf_1 13 rfl rfl)
theorem dX0_bookOf_38 : decode cX0_bookOf 38 = .ok (.iload_n 3, 1) := dk_29 (dk_at dksX0_bookOf_1 15 rfl rfl)
theorem dX0_bookOf_39 : decode cX0_bookOf 39 = .ok (.iconst (-1), 1) := dk_2 (dk_at dksX0_bookOf_1 16 rfl rfl)
theorem dX0_bookOf_40 : decode cX0_bookOf 40 = .ok (.if_icmp .eq 10, 3) := dk_159 0 10 (dk_at dksX0_bookOf_1 17 rfl rfl)
theorem dX0_bookOf_43 : decode cX0_bookOf 43 = .ok (.iload 6, 2) := dk_21 6 (dk_at dksX0_bookOf_1 20 rfl rfl)
theorem dX0_bookOf_45 : decode cX0_bookOf 45 = .ok (.iload 4, 2) := dk_21 4 (dk_at dksX0_bookOf_1 22 rfl rfl)
theorem dX0_bookOf_47 : decode cX0_bookOf 47 = .ok (.if_icmp .le 10, 3) := dk_164 0 10 (dk_at dksX0_bookOf_2 0 rfl rfl)
theorem dX0_bookOf_50 : decode cX0_bookOf 50 = .ok (.iload 5, 2) := dk_21 5 (dk_at dksX0_bookOf_2 3 rfl rfl)
theorem dX0_bookOf_52 : decode cX0_bookOf 52 = .ok (.istore_n 3, 1) := dk_62 (dk_at dksX0_bookOf_2 5 rfl rfl)
theorem dX0_bookOf_53 : decode cX0_bookOf 53 = .ok (.iload 6, 2) := dk_21 6 (dk_at dksX0_bookOf_2 6 rfl rfl)
theorem dX0_bookOf_55 : decode cX0_bookOf 55 = .ok (.istore 4, 2) := dk_54 4 (dk_at dksX0_bookOf_2 8 rfl rfl)
theorem dX0_bookOf_57 : decode cX0_bookOf 57 = .ok (.iinc 5 1, 3) := dk_132 5 1 (dk_at dksX0_bookOf_2 10 rfl rfl)
theorem dX0_bookOf_60 : decode cX0_bookOf 60 = .ok (.goto (-52), 3) := dk_167 255 204 (dk_at dksX0_bookOf_2 13 rfl rfl)
theorem dX0_bookOf_63 : decode cX0_bookOf 63 = .ok (.iload_n 3, 1) := dk_29 (dk_at dksX0_bookOf_2 16 rfl rfl)
theorem dX0_bookOf_64 : decode cX0_bookOf 64 = .ok (.ireturn, 1) := dk_172 (dk_at dksX0_bookOf_2 17 rfl rfl)
abbrev cX0_many : ByteArray := prog_1_method_66_code
def yX0_many : MethodName := ⟨RX0, "many", "(I)I"⟩
def dkwX0_many_2 : List UInt8 := [167, 255, 238, 29, 172]
abbrev dktX0_many_2 : List UInt8 := dkwX0_many_2 ++ []
def dkwX0_many_1 : List UInt8 := [182, 1, 47, 61, 3, 62, 42, 27, 42, 27, 29, 182, 1, 50, 182, 1, 47, 28, 162, 0, 9, 132, 3, 1]
abbrev dktX0_many_1 : List UInt8 := dkwX0_many_1 ++ dktX0_many_2
def dkwX0_many_0 : List UInt8 := [27, 184, 1, 34, 154, 0, 10, 42, 16, 254, 182, 0, 63, 172, 42, 27, 42, 27, 16, 6, 182, 1, 50]
abbrev dktX0_many_0 : List UInt8 := dkwX0_many_0 ++ dktX0_many_1
theorem dksX0_many_0 : cX0_many.data.toList.drop 0 = dktX0_many_0 := by decide +kernel
theorem dksX0_many_1 : cX0_many.data.toList.drop 23 = dktX0_many_1 := dk_seg dksX0_many_0 23 rfl rfl
theorem dksX0_many_2 : cX0_many.data.toList.drop 47 = dktX0_many_2 := dk_seg dksX0_many_1 24 rfl rfl
theorem dX0_many_0 : decode cX0_many 0 = .ok (.iload_n 1, 1) := dk_27 (dk_at dksX0_many_0 0 rfl rfl)
theorem dX0_many_1 : decode cX0_many 1 = .ok (.invokestatic 290, 3) := dk_184 1 34 (dk_at dksX0_many_0 1 rfl rfl)
theorem dX0_many_4 : decode cX0_many 4 = .ok (.ifCond .ne 10, 3) := dk_154 0 10 (dk_at dksX0_many_0 4 rfl rfl)
theorem dX0_many_7 : decode cX0_many 7 = .ok (.aload_n 0, 1) := dk_42 (dk_at dksX0_many_0 7 rfl rfl)
theorem dX0_many_8 : decode cX0_many 8 = .ok (.bipush (-2), 2) := dk_16 254 (dk_at dksX0_many_0 8 rfl rfl)
theorem dX0_many_10 : decode cX0_many 10 = .ok (.invokevirtual 63, 3) := dk_182 0 63 (dk_at dksX0_many_0 10 rfl rfl)
theorem dX0_many_13 : decode cX0_many 13 = .ok (.ireturn, 1) := dk_172 (dk_at dksX0_many_0 13 rfl rfl)
theorem dX0_many_14 : decode cX0_many 14 = .ok (.aload_n 0, 1) := dk_42 (dk_at dksX0_many_0 14 rfl rfl)
theorem dX0_many_15 : decode cX0_many 15 = .ok (.iload_n 1, 1) := dk_27 (dk_at dksX0_many_0 15 rfl rfl)
theorem dX0_many_16 : decode cX0_many 16 = .ok (.aload_n 0, 1) := dk_42 (dk_at dksX0_many_0 16 rfl rfl)
theorem dX0_many_17 : decode cX0_many 17 = .ok (.iload_n 1, 1) := dk_27 (dk_at dksX0_many_0 17 rfl rfl)
theorem dX0_many_18 : decode cX0_many 18 = .ok (.bipush 6, 2) := dk_16 6 (dk_at dksX0_many_0 18 rfl rfl)
theorem dX0_many_20 : decode cX0_many 20 = .ok (.invokevirtual 306, 3) := dk_182 1 50 (dk_at dksX0_many_0 20 rfl rfl)
theorem dX0_many_23 : decode cX0_many 23 = .ok (.invokevirtual 303, 3) := dk_182 1 47 (dk_at dksX0_many_1 0 rfl rfl)
theorem dX0_many_26 : decode cX0_many 26 = .ok (.istore_n 2, 1) := dk_61 (dk_at dksX0_many_1 3 rfl rfl)
theorem dX0_many_27 : decode cX0_many 27 = .ok (.iconst 0, 1) := dk_3 (dk_at dksX0_many_1 4 rfl rfl)
theorem dX0_many_28 : decode cX0_many 28 = .ok (.istore_n 3, 1) := dk_62 (dk_at dksX0_many_1 5 rfl rfl)
theorem dX0_many_29 : decode cX0_many 29 = .ok (.aload_n 0, 1) := dk_42 (dk_at dksX0_many_1 6 rfl rfl)
theorem dX0_many_30 : decode cX0_many 30 = .ok (.iload_n 1, 1) := dk_27 (dk_at dksX0_many_1 7 rfl rfl)
theorem dX0_many_31 : decode cX0_many 31 = .ok (.aload_n 0, 1) := dk_42 (dk_at dksX0_many_1 8 rfl rfl)
theorem dX0_many_32 : decode cX0_many 32 = .ok (.iload_n 1, 1) := dk_27 (dk_at dksX0_many_1 9 rfl rfl)
theorem dX0_many_33 : decode cX0_many 33 = .ok (.iload_n 3, 1) := dk_29 (dk_at dksX0_many_1 10 rfl rfl)
theorem dX0_many_34 : decode cX0_many 34 = .ok (.invokevirtual 306, 3) := dk_182 1 50 (dk_at dksX0_many_1 11 rfl rfl)
theorem dX0_many_37 : decode cX0_many 37 = .ok (.invokevirtual 303, 3) := dk_182 1 47 (dk_at dksX0_many_1 14 rfl rfl)
theorem dX0_many_40 : decode cX0_many 40 = .ok (.iload_n 2, 1) := dk_28 (dk_at dksX0_many_1 17 rfl rfl)
theorem dX0_many_41 : decode cX0_many 41 = .ok (.if_icmp .ge 9, 3) := dk_162 0 9 (dk_at dksX0_many_1 18 rfl rfl)
theorem dX0_many_44 : decode cX0_many 44 = .ok (.iinc 3 1, 3) := dk_132 3 1 (dk_at dksX0_many_1 21 rfl rfl)
theorem dX0_many_47 : decode cX0_many 47 = .ok (.goto (-18), 3) := dk_167 255 238 (dk_at dksX0_many_2 0 rfl rfl)
theorem dX0_many_50 : decode cX0_many 50 = .ok (.iload_n 3, 1) := dk_29 (dk_at dksX0_many_2 3 rfl rfl)
theorem dX0_many_51 : decode cX0_many 51 = .ok (.ireturn, 1) := dk_172 (dk_at dksX0_many_2 4 rfl rfl)
abbrev cX0_round : ByteArray := prog_1_method_67_code
def yX0_round : MethodName := ⟨RX0, "round", "(II)I"⟩
def dkwX0_round_2 : List UInt8 := [167, 0, 9, 45, 180, 1, 60, 28, 46, 172]
abbrev dktX0_round_2 : List UInt8 := dkwX0_round_2 ++ []
def dkwX0_round_1 : List UInt8 := [182, 0, 250, 172, 187, 1, 53, 89, 42, 27, 183, 1, 55, 78, 28, 2, 160, 0, 10, 45, 180, 1, 58]
abbrev dktX0_round_1 : List UInt8 := dkwX0_round_1 ++ dktX0_round_2
def dkwX0_round_0 : List UInt8 := [27, 4, 6, 184, 0, 67, 153, 0, 14, 28, 2, 27, 4, 100, 184, 0, 67, 154, 0, 10, 42, 16, 254]
abbrev dktX0_round_0 : List UInt8 := dkwX0_round_0 ++ dktX0_round_1
theorem dksX0_round_0 : cX0_round.data.toList.drop 0 = dktX0_round_0 := by decide +kernel
theorem dksX0_round_1 : cX0_round.data.toList.drop 23 = dktX0_round_1 := dk_seg dksX0_round_0 23 rfl rfl
theorem dksX0_round_2 : cX0_round.data.toList.drop 46 = dktX0_round_2 := dk_seg dksX0_round_1 23 rfl rfl
theorem dX0_round_0 : decode cX0_round 0 = .ok (.iload_n 1, 1) := dk_27 (dk_at dksX0_round_0 0 rfl rfl)
theorem dX0_round_1 : decode cX0_round 1 = .ok (.iconst 1, 1) := dk_4 (dk_at dksX0_round_0 1 rfl rfl)
theorem dX0_round_2 : decode cX0_round 2 = .ok (.iconst 3, 1) := dk_6 (dk_at dksX0_round_0 2 rfl rfl)
theorem dX0_round_3 : decode cX0_round 3 = .ok (.invokestatic 67, 3) := dk_184 0 67 (dk_at dksX0_round_0 3 rfl rfl)
theorem dX0_round_6 : decode cX0_round 6 = .ok (.ifCond .eq 14, 3) := dk_153 0 14 (dk_at dksX0_round_0 6 rfl rfl)
theorem dX0_round_9 : decode cX0_round 9 = .ok (.iload_n 2, 1) := dk_28 (dk_at dksX0_round_0 9 rfl rfl)
theorem dX0_round_10 : decode cX0_round 10 = .ok (.iconst (-1), 1) := dk_2 (dk_at dksX0_round_0 10 rfl rfl)
theorem dX0_round_11 : decode cX0_round 11 = .ok (.iload_n 1, 1) := dk_27 (dk_at dksX0_round_0 11 rfl rfl)
theorem dX0_round_12 : decode cX0_round 12 = .ok (.iconst 1, 1) := dk_4 (dk_at dksX0_round_0 12 rfl rfl)
theorem dX0_round_13 : decode cX0_round 13 = .ok (.isub, 1) := dk_100 (dk_at dksX0_round_0 13 rfl rfl)
theorem dX0_round_14 : decode cX0_round 14 = .ok (.invokestatic 67, 3) := dk_184 0 67 (dk_at dksX0_round_0 14 rfl rfl)
theorem dX0_round_17 : decode cX0_round 17 = .ok (.ifCond .ne 10, 3) := dk_154 0 10 (dk_at dksX0_round_0 17 rfl rfl)
theorem dX0_round_20 : decode cX0_round 20 = .ok (.aload_n 0, 1) := dk_42 (dk_at dksX0_round_0 20 rfl rfl)
theorem dX0_round_21 : decode cX0_round 21 = .ok (.bipush (-2), 2) := dk_16 254 (dk_at dksX0_round_0 21 rfl rfl)
theorem dX0_round_23 : decode cX0_round 23 = .ok (.invokevirtual 250, 3) := dk_182 0 250 (dk_at dksX0_round_1 0 rfl rfl)
theorem dX0_round_26 : decode cX0_round 26 = .ok (.ireturn, 1) := dk_172 (dk_at dksX0_round_1 3 rfl rfl)
theorem dX0_round_27 : decode cX0_round 27 = .ok (.new 309, 3) := dk_187 1 53 (dk_at dksX0_round_1 4 rfl rfl)
theorem dX0_round_30 : decode cX0_round 30 = .ok (.dup, 1) := dk_89 (dk_at dksX0_round_1 7 rfl rfl)
theorem dX0_round_31 : decode cX0_round 31 = .ok (.aload_n 0, 1) := dk_42 (dk_at dksX0_round_1 8 rfl rfl)
theorem dX0_round_32 : decode cX0_round 32 = .ok (.iload_n 1, 1) := dk_27 (dk_at dksX0_round_1 9 rfl rfl)
theorem dX0_round_33 : decode cX0_round 33 = .ok (.invokespecial 311, 3) := dk_183 1 55 (dk_at dksX0_round_1 10 rfl rfl)
theorem dX0_round_36 : decode cX0_round 36 = .ok (.astore_n 3, 1) := dk_78 (dk_at dksX0_round_1 13 rfl rfl)
theorem dX0_round_37 : decode cX0_round 37 = .ok (.iload_n 2, 1) := dk_28 (dk_at dksX0_round_1 14 rfl rfl)
theorem dX0_round_38 : decode cX0_round 38 = .ok (.iconst (-1), 1) := dk_2 (dk_at dksX0_round_1 15 rfl rfl)
theorem dX0_round_39 : decode cX0_round 39 = .ok (.if_icmp .ne 10, 3) := dk_160 0 10 (dk_at dksX0_round_1 16 rfl rfl)
theorem dX0_round_42 : decode cX0_round 42 = .ok (.aload_n 3, 1) := dk_45 (dk_at dksX0_round_1 19 rfl rfl)
theorem dX0_round_43 : decode cX0_round 43 = .ok (.getfield 314, 3) := dk_180 1 58 (dk_at dksX0_round_1 20 rfl rfl)
theorem dX0_round_46 : decode cX0_round 46 = .ok (.goto 9, 3) := dk_167 0 9 (dk_at dksX0_round_2 0 rfl rfl)
theorem dX0_round_49 : decode cX0_round 49 = .ok (.aload_n 3, 1) := dk_45 (dk_at dksX0_round_2 3 rfl rfl)
theorem dX0_round_50 : decode cX0_round 50 = .ok (.getfield 316, 3) := dk_180 1 60 (dk_at dksX0_round_2 4 rfl rfl)
theorem dX0_round_53 : decode cX0_round 53 = .ok (.iload_n 2, 1) := dk_28 (dk_at dksX0_round_2 7 rfl rfl)
theorem dX0_round_54 : decode cX0_round 54 = .ok (.iaload, 1) := dk_46 (dk_at dksX0_round_2 8 rfl rfl)
theorem dX0_round_55 : decode cX0_round 55 = .ok (.ireturn, 1) := dk_172 (dk_at dksX0_round_2 9 rfl rfl)
abbrev cX0_kept : ByteArray := prog_1_method_68_code
def yX0_kept : MethodName := ⟨RX0, "kept", "(II)I"⟩
def dkwX0_kept_3 : List UInt8 := [27, 182, 1, 63, 29, 100, 172]
abbrev dktX0_kept_3 : List UInt8 := dkwX0_kept_3 ++ []
def dkwX0_kept_2 : List UInt8 := [182, 1, 19, 27, 182, 1, 63, 62, 42, 182, 1, 19, 58, 4, 25, 4, 180, 0, 189, 28, 2, 79, 25, 4]
abbrev dktX0_kept_2 : List UInt8 := dkwX0_kept_2 ++ dktX0_kept_3
def dkwX0_kept_1 : List UInt8 := [172, 42, 180, 0, 39, 180, 0, 189, 28, 46, 2, 160, 0, 10, 42, 16, 251, 182, 0, 250, 172, 42]
abbrev dktX0_kept_1 : List UInt8 := dkwX0_kept_1 ++ dktX0_kept_2
def dkwX0_kept_0 : List UInt8 := [27, 184, 1, 34, 153, 0, 14, 42, 180, 0, 39, 28, 182, 0, 180, 154, 0, 10, 42, 16, 254, 182, 0, 250]
abbrev dktX0_kept_0 : List UInt8 := dkwX0_kept_0 ++ dktX0_kept_1
theorem dksX0_kept_0 : cX0_kept.data.toList.drop 0 = dktX0_kept_0 := by decide +kernel
theorem dksX0_kept_1 : cX0_kept.data.toList.drop 24 = dktX0_kept_1 := dk_seg dksX0_kept_0 24 rfl rfl
theorem dksX0_kept_2 : cX0_kept.data.toList.drop 46 = dktX0_kept_2 := dk_seg dksX0_kept_1 22 rfl rfl
theorem dksX0_kept_3 : cX0_kept.data.toList.drop 70 = dktX0_kept_3 := dk_seg dksX0_kept_2 24 rfl rfl
theorem dX0_kept_0 : decode cX0_kept 0 = .ok (.iload_n 1, 1) := dk_27 (dk_at dksX0_kept_0 0 rfl rfl)
theorem dX0_kept_1 : decode cX0_kept 1 = .ok (.invokestatic 290, 3) := dk_184 1 34 (dk_at dksX0_kept_0 1 rfl rfl)
theorem dX0_kept_4 : decode cX0_kept 4 = .ok (.ifCond .eq 14, 3) := dk_153 0 14 (dk_at dksX0_kept_0 4 rfl rfl)
theorem dX0_kept_7 : decode cX0_kept 7 = .ok (.aload_n 0, 1) := dk_42 (dk_at dksX0_kept_0 7 rfl rfl)
theorem dX0_kept_8 : decode cX0_kept 8 = .ok (.getfield 39, 3) := dk_180 0 39 (dk_at dksX0_kept_0 8 rfl rfl)
theorem dX0_kept_11 : decode cX0_kept 11 = .ok (.iload_n 2, 1) := dk_28 (dk_at dksX0_kept_0 11 rfl rfl)
theorem dX0_kept_12 : decode cX0_kept 12 = .ok (.invokevirtual 180, 3) := dk_182 0 180 (dk_at dksX0_kept_0 12 rfl rfl)
theorem dX0_kept_15 : decode cX0_kept 15 = .ok (.ifCond .ne 10, 3) := dk_154 0 10 (dk_at dksX0_kept_0 15 rfl rfl)
theorem dX0_kept_18 : decode cX0_kept 18 = .ok (.aload_n 0, 1) := dk_42 (dk_at dksX0_kept_0 18 rfl rfl)
theorem dX0_kept_19 : decode cX0_kept 19 = .ok (.bipush (-2), 2) := dk_16 254 (dk_at dksX0_kept_0 19 rfl rfl)
theorem dX0_kept_21 : decode cX0_kept 21 = .ok (.invokevirtual 250, 3) := dk_182 0 250 (dk_at dksX0_kept_0 21 rfl rfl)
theorem dX0_kept_24 : decode cX0_kept 24 = .ok (.ireturn, 1) := dk_172 (dk_at dksX0_kept_1 0 rfl rfl)
theorem dX0_kept_25 : decode cX0_kept 25 = .ok (.aload_n 0, 1) := dk_42 (dk_at dksX0_kept_1 1 rfl rfl)
theorem dX0_kept_26 : decode cX0_kept 26 = .ok (.getfield 39, 3) := dk_180 0 39 (dk_at dksX0_kept_1 2 rfl rfl)
theorem dX0_kept_29 : decode cX0_kept 29 = .ok (.getfield 189, 3) := dk_180 0 189 (dk_at dksX0_kept_1 5 rfl rfl)
theorem dX0_kept_32 : decode cX0_kept 32 = .ok (.iload_n 2, 1) := dk_28 (dk_at dksX0_kept_1 8 rfl rfl)
theorem dX0_kept_33 : decode cX0_kept 33 = .ok (.iaload, 1) := dk_46 (dk_at dksX0_kept_1 9 rfl rfl)
theorem dX0_kept_34 : decode cX0_kept 34 = .ok (.iconst (-1), 1) := dk_2 (dk_at dksX0_kept_1 10 rfl rfl)
theorem dX0_kept_35 : decode cX0_kept 35 = .ok (.if_icmp .ne 10, 3) := dk_160 0 10 (dk_at dksX0_kept_1 11 rfl rfl)
theorem dX0_kept_38 : decode cX0_kept 38 = .ok (.aload_n 0, 1) := dk_42 (dk_at dksX0_kept_1 14 rfl rfl)
theorem dX0_kept_39 : decode cX0_kept 39 = .ok (.bipush (-5), 2) := dk_16 251 (dk_at dksX0_kept_1 15 rfl rfl)
theorem dX0_kept_41 : decode cX0_kept 41 = .ok (.invokevirtual 250, 3) := dk_182 0 250 (dk_at dksX0_kept_1 17 rfl rfl)
theorem dX0_kept_44 : decode cX0_kept 44 = .ok (.ireturn, 1) := dk_172 (dk_at dksX0_kept_1 20 rfl rfl)
theorem dX0_kept_45 : decode cX0_kept 45 = .ok (.aload_n 0, 1) := dk_42 (dk_at dksX0_kept_1 21 rfl rfl)
theorem dX0_kept_46 : decode cX0_kept 46 = .ok (.invokevirtual 275, 3) := dk_182 1 19 (dk_at dksX0_kept_2 0 rfl rfl)
theorem dX0_kept_49 : decode cX0_kept 49 = .ok (.iload_n 1, 1) := dk_27 (dk_at dksX0_kept_2 3 rfl rfl)
theorem dX0_kept_50 : decode cX0_kept 50 = .ok (.invokevirtual 319, 3) := dk_182 1 63 (dk_at dksX0_kept_2 4 rfl rfl)
theorem dX0_kept_53 : decode cX0_kept 53 = .ok (.istore_n 3, 1) := dk_62 (dk_at dksX0_kept_2 7 rfl rfl)
theorem dX0_kept_54 : decode cX0_kept 54 = .ok (.aload_n 0, 1) := dk_42 (dk_at dksX0_kept_2 8 rfl rfl)
theorem dX0_kept_55 : decode cX0_kept 55 = .ok (.invokevirtual 275, 3) := dk_182 1 19 (dk_at dksX0_kept_2 9 rfl rfl)
theorem dX0_kept_58 : decode cX0_kept 58 = .ok (.astore 4, 2) := dk_58 4 (dk_at dksX0_kept_2 12 rfl rfl)
theorem dX0_kept_60 : decode cX0_kept 60 = .ok (.aload 4, 2) := dk_25 4 (dk_at dksX0_kept_2 14 rfl rfl)
theorem dX0_kept_62 : decode cX0_kept 62 = .ok (.getfield 189, 3) := dk_180 0 189 (dk_at dksX0_kept_2 16 rfl rfl)
theorem dX0_kept_65 : decode cX0_kept 65 = .ok (.iload_n 2, 1) := dk_28 (dk_at dksX0_kept_2 19 rfl rfl)
theorem dX0_kept_66 : decode cX0_kept 66 = .ok (.iconst (-1), 1) := dk_2 (dk_at dksX0_kept_2 20 rfl rfl)
theorem dX0_kept_67 : decode cX0_kept 67 = .ok (.iastore, 1) := dk_79 (dk_at dksX0_kept_2 21 rfl rfl)
theorem dX0_kept_68 : decode cX0_kept 68 = .ok (.aload 4, 2) := dk_25 4 (dk_at dksX0_kept_2 22 rfl rfl)
theorem dX0_kept_70 : decode cX0_kept 70 = .ok (.iload_n 1, 1) := dk_27 (dk_at dksX0_kept_3 0 rfl rfl)
theorem dX0_kept_71 : decode cX0_kept 71 = .ok (.invokevirtual 319, 3) := dk_182 1 63 (dk_at dksX0_kept_3 1 rfl rfl)
theorem dX0_kept_74 : decode cX0_kept 74 = .ok (.iload_n 3, 1) := dk_29 (dk_at dksX0_kept_3 4 rfl rfl)
theorem dX0_kept_75 : decode cX0_kept 75 = .ok (.isub, 1) := dk_100 (dk_at dksX0_kept_3 5 rfl rfl)
theorem dX0_kept_76 : decode cX0_kept 76 = .ok (.ireturn, 1) := dk_172 (dk_at dksX0_kept_3 6 rfl rfl)
abbrev cX0_called : ByteArray := prog_1_method_69_code
def yX0_called : MethodName := ⟨RX0, "called", "(III)I"⟩
def dkwX0_called_3 : List UInt8 := [172]
abbrev dktX0_called_3 : List UInt8 := dkwX0_called_3 ++ []
def dkwX0_called_2 : List UInt8 := [42, 182, 1, 19, 58, 5, 25, 5, 180, 0, 189, 28, 29, 79, 25, 5, 27, 2, 182, 1, 37, 21, 4, 100]
abbrev dktX0_called_2 : List UInt8 := dkwX0_called_2 ++ dktX0_called_3
def dkwX0_called_1 : List UInt8 := [184, 0, 67, 154, 0, 10, 42, 16, 254, 182, 0, 250, 172, 42, 182, 1, 19, 27, 2, 182, 1, 37, 54, 4]
abbrev dktX0_called_1 : List UInt8 := dkwX0_called_1 ++ dktX0_called_2
def dkwX0_called_0 : List UInt8 := [27, 184, 1, 34, 153, 0, 24, 42, 180, 0, 39, 28, 182, 0, 180, 153, 0, 13, 29, 3, 16, 100]
abbrev dktX0_called_0 : List UInt8 := dkwX0_called_0 ++ dktX0_called_1
theorem dksX0_called_0 : cX0_called.data.toList.drop 0 = dktX0_called_0 := by decide +kernel
theorem dksX0_called_1 : cX0_called.data.toList.drop 22 = dktX0_called_1 := dk_seg dksX0_called_0 22 rfl rfl
theorem dksX0_called_2 : cX0_called.data.toList.drop 46 = dktX0_called_2 := dk_seg dksX0_called_1 24 rfl rfl
theorem dksX0_called_3 : cX0_called.data.toList.drop 70 = dktX0_called_3 := dk_seg dksX0_called_2 24 rfl rfl
theorem dX0_called_0 : decode cX0_called 0 = .ok (.iload_n 1, 1) := dk_27 (dk_at dksX0_called_0 0 rfl rfl)
theorem dX0_called_1 : decode cX0_called 1 = .ok (.invokestatic 290, 3) := dk_184 1 34 (dk_at dksX0_called_0 1 rfl rfl)
theorem dX0_called_4 : decode cX0_called 4 = .ok (.ifCond .eq 24, 3) := dk_153 0 24 (dk_at dksX0_called_0 4 rfl rfl)
theorem dX0_called_7 : decode cX0_called 7 = .ok (.aload_n 0, 1) := dk_42 (dk_at dksX0_called_0 7 rfl rfl)
theorem dX0_called_8 : decode cX0_called 8 = .ok (.getfield 39, 3) := dk_180 0 39 (dk_at dksX0_called_0 8 rfl rfl)
theorem dX0_called_11 : decode cX0_called 11 = .ok (.iload_n 2, 1) := dk_28 (dk_at dksX0_called_0 11 rfl rfl)
theorem dX0_called_12 : decode cX0_called 12 = .ok (.invokevirtual 180, 3) := dk_182 0 180 (dk_at dksX0_called_0 12 rfl rfl)
theorem dX0_called_15 : decode cX0_called 15 = .ok (.ifCond .eq 13, 3) := dk_153 0 13 (dk_at dksX0_called_0 15 rfl rfl)
theorem dX0_called_18 : decode cX0_called 18 = .ok (.iload_n 3, 1) := dk_29 (dk_at dksX0_called_0 18 rfl rfl)
theorem dX0_called_19 : decode cX0_called 19 = .ok (.iconst 0, 1) := dk_3 (dk_at dksX0_called_0 19 rfl rfl)
theorem dX0_called_20 : decode cX0_called 20 = .ok (.bipush 100, 2) := dk_16 100 (dk_at dksX0_called_0 20 rfl rfl)
theorem dX0_called_22 : decode cX0_called 22 = .ok (.invokestatic 67, 3) := dk_184 0 67 (dk_at dksX0_called_1 0 rfl rfl)
theorem dX0_called_25 : decode cX0_called 25 = .ok (.ifCond .ne 10, 3) := dk_154 0 10 (dk_at dksX0_called_1 3 rfl rfl)
theorem dX0_called_28 : decode cX0_called 28 = .ok (.aload_n 0, 1) := dk_42 (dk_at dksX0_called_1 6 rfl rfl)
theorem dX0_called_29 : decode cX0_called 29 = .ok (.bipush (-2), 2) := dk_16 254 (dk_at dksX0_called_1 7 rfl rfl)
theorem dX0_called_31 : decode cX0_called 31 = .ok (.invokevirtual 250, 3) := dk_182 0 250 (dk_at dksX0_called_1 9 rfl rfl)
theorem dX0_called_34 : decode cX0_called 34 = .ok (.ireturn, 1) := dk_172 (dk_at dksX0_called_1 12 rfl rfl)
theorem dX0_called_35 : decode cX0_called 35 = .ok (.aload_n 0, 1) := dk_42 (dk_at dksX0_called_1 13 rfl rfl)
theorem dX0_called_36 : decode cX0_called 36 = .ok (.invokevirtual 275, 3) := dk_182 1 19 (dk_at dksX0_called_1 14 rfl rfl)
theorem dX0_called_39 : decode cX0_called 39 = .ok (.iload_n 1, 1) := dk_27 (dk_at dksX0_called_1 17 rfl rfl)
theorem dX0_called_40 : decode cX0_called 40 = .ok (.iconst (-1), 1) := dk_2 (dk_at dksX0_called_1 18 rfl rfl)
theorem dX0_called_41 : decode cX0_called 41 = .ok (.invokevirtual 293, 3) := dk_182 1 37 (dk_at dksX0_called_1 19 rfl rfl)
theorem dX0_called_44 : decode cX0_called 44 = .ok (.istore 4, 2) := dk_54 4 (dk_at dksX0_called_1 22 rfl rfl)
theorem dX0_called_46 : decode cX0_called 46 = .ok (.aload_n 0, 1) := dk_42 (dk_at dksX0_called_2 0 rfl rfl)
theorem dX0_called_47 : decode cX0_called 47 = .ok (.invokevirtual 275, 3) := dk_182 1 19 (dk_at dksX0_called_2 1 rfl rfl)
theorem dX0_called_50 : decode cX0_called 50 = .ok (.astore 5, 2) := dk_58 5 (dk_at dksX0_called_2 4 rfl rfl)
theorem dX0_called_52 : decode cX0_called 52 = .ok (.aload 5, 2) := dk_25 5 (dk_at dksX0_called_2 6 rfl rfl)
theorem dX0_called_54 : decode cX0_called 54 = .ok (.getfield 189, 3) := dk_180 0 189 (dk_at dksX0_called_2 8 rfl rfl)
theorem dX0_called_57 : decode cX0_called 57 = .ok (.iload_n 2, 1) := dk_28 (dk_at dksX0_called_2 11 rfl rfl)
theorem dX0_called_58 : decode cX0_called 58 = .ok (.iload_n 3, 1) := dk_29 (dk_at dksX0_called_2 12 rfl rfl)
theorem dX0_called_59 : decode cX0_called 59 = .ok (.iastore, 1) := dk_79 (dk_at dksX0_called_2 13 rfl rfl)
theorem dX0_called_60 : decode cX0_called 60 = .ok (.aload 5, 2) := dk_25 5 (dk_at dksX0_called_2 14 rfl rfl)
theorem dX0_called_62 : decode cX0_called 62 = .ok (.iload_n 1, 1) := dk_27 (dk_at dksX0_called_2 16 rfl rfl)
theorem dX0_called_63 : decode cX0_called 63 = .ok (.iconst (-1), 1) := dk_2 (dk_at dksX0_called_2 17 rfl rfl)
theorem dX0_called_64 : decode cX0_called 64 = .ok (.invokevirtual 293, 3) := dk_182 1 37 (dk_at dksX0_called_2 18 rfl rfl)
theorem dX0_called_67 : decode cX0_called 67 = .ok (.iload 4, 2) := dk_21 4 (dk_at dksX0_called_2 21 rfl rfl)
theorem dX0_called_69 : decode cX0_called 69 = .ok (.isub, 1) := dk_100 (dk_at dksX0_called_2 23 rfl rfl)
theorem dX0_called_70 : decode cX0_called 70 = .ok (.ireturn, 1) := dk_172 (dk_at dksX0_called_3 0 rfl rfl)
abbrev cX0_spoilt : ByteArray := prog_1_method_70_code
def yX0_spoilt : MethodName := ⟨RX0, "spoilt", "(II)I"⟩
def dkwX0_spoilt_2 : List UInt8 := [182, 1, 40, 45, 180, 0, 183, 27, 46, 28, 162, 0, 6, 21, 4, 172, 132, 4, 1, 167, 255, 226, 2, 172]
abbrev dktX0_spoilt_2 : List UInt8 := dkwX0_spoilt_2 ++ []
def dkwX0_spoilt_1 : List UInt8 := [182, 0, 63, 172, 42, 182, 1, 19, 78, 4, 54, 4, 21, 4, 16, 30, 163, 0, 29, 45, 182, 0, 253]
abbrev dktX0_spoilt_1 : List UInt8 := dkwX0_spoilt_1 ++ dktX0_spoilt_2
def dkwX0_spoilt_0 : List UInt8 := [42, 180, 0, 39, 27, 182, 0, 180, 153, 0, 13, 28, 3, 16, 100, 184, 0, 67, 154, 0, 10, 42, 16, 254]
abbrev dktX0_spoilt_0 : List UInt8 := dkwX0_spoilt_0 ++ dktX0_spoilt_1
theorem dksX0_spoilt_0 : cX0_spoilt.data.toList.drop 0 = dktX0_spoilt_0 := by decide +kernel
theorem dksX0_spoilt_1 : cX0_spoilt.data.toList.drop 24 = dktX0_spoilt_1 := dk_seg dksX0_spoilt_0 24 rfl rfl
theorem dksX0_spoilt_2 : cX0_spoilt.data.toList.drop 47 = dktX0_spoilt_2 := dk_seg dksX0_spoilt_1 23 rfl rfl
theorem dX0_spoilt_0 : decode cX0_spoilt 0 = .ok (.aload_n 0, 1) := dk_42 (dk_at dksX0_spoilt_0 0 rfl rfl)
theorem dX0_spoilt_1 : decode cX0_spoilt 1 = .ok (.getfield 39, 3) := dk_180 0 39 (dk_at dksX0_spoilt_0 1 rfl rfl)
theorem dX0_spoilt_4 : decode cX0_spoilt 4 = .ok (.iload_n 1, 1) := dk_27 (dk_at dksX0_spoilt_0 4 rfl rfl)
theorem dX0_spoilt_5 : decode cX0_spoilt 5 = .ok (.invokevirtual 180, 3) := dk_182 0 180 (dk_at dksX0_spoilt_0 5 rfl rfl)
theorem dX0_spoilt_8 : decode cX0_spoilt 8 = .ok (.ifCond .eq 13, 3) := dk_153 0 13 (dk_at dksX0_spoilt_0 8 rfl rfl)
theorem dX0_spoilt_11 : decode cX0_spoilt 11 = .ok (.iload_n 2, 1) := dk_28 (dk_at dksX0_spoilt_0 11 rfl rfl)
theorem dX0_spoilt_12 : decode cX0_spoilt 12 = .ok (.iconst 0, 1) := dk_3 (dk_at dksX0_spoilt_0 12 rfl rfl)
theorem dX0_spoilt_13 : decode cX0_spoilt 13 = .ok (.bipush 100, 2) := dk_16 100 (dk_at dksX0_spoilt_0 13 rfl rfl)
theorem dX0_spoilt_15 : decode cX0_spoilt 15 = .ok (.invokestatic 67, 3) := dk_184 0 67 (dk_at dksX0_spoilt_0 15 rfl rfl)
theorem dX0_spoilt_18 : decode cX0_spoilt 18 = .ok (.ifCond .ne 10, 3) := dk_154 0 10 (dk_at dksX0_spoilt_0 18 rfl rfl)
theorem dX0_spoilt_21 : decode cX0_spoilt 21 = .ok (.aload_n 0, 1) := dk_42 (dk_at dksX0_spoilt_0 21 rfl rfl)
theorem dX0_spoilt_22 : decode cX0_spoilt 22 = .ok (.bipush (-2), 2) := dk_16 254 (dk_at dksX0_spoilt_0 22 rfl rfl)
theorem dX0_spoilt_24 : decode cX0_spoilt 24 = .ok (.invokevirtual 63, 3) := dk_182 0 63 (dk_at dksX0_spoilt_1 0 rfl rfl)
theorem dX0_spoilt_27 : decode cX0_spoilt 27 = .ok (.ireturn, 1) := dk_172 (dk_at dksX0_spoilt_1 3 rfl rfl)
theorem dX0_spoilt_28 : decode cX0_spoilt 28 = .ok (.aload_n 0, 1) := dk_42 (dk_at dksX0_spoilt_1 4 rfl rfl)
theorem dX0_spoilt_29 : decode cX0_spoilt 29 = .ok (.invokevirtual 275, 3) := dk_182 1 19 (dk_at dksX0_spoilt_1 5 rfl rfl)
theorem dX0_spoilt_32 : decode cX0_spoilt 32 = .ok (.astore_n 3, 1) := dk_78 (dk_at dksX0_spoilt_1 8 rfl rfl)
theorem dX0_spoilt_33 : decode cX0_spoilt 33 = .ok (.iconst 1, 1) := dk_4 (dk_at dksX0_spoilt_1 9 rfl rfl)
theorem dX0_spoilt_34 : decode cX0_spoilt 34 = .ok (.istore 4, 2) := dk_54 4 (dk_at dksX0_spoilt_1 10 rfl rfl)
theorem dX0_spoilt_36 : decode cX0_spoilt 36 = .ok (.iload 4, 2) := dk_21 4 (dk_at dksX0_spoilt_1 12 rfl rfl)
theorem dX0_spoilt_38 : decode cX0_spoilt 38 = .ok (.bipush 30, 2) := dk_16 30 (dk_at dksX0_spoilt_1 14 rfl rfl)
theorem dX0_spoilt_40 : decode cX0_spoilt 40 = .ok (.if_icmp .gt 29, 3) := dk_163 0 29 (dk_at dksX0_spoilt_1 16 rfl rfl)
theorem dX0_spoilt_43 : decode cX0_spoilt 43 = .ok (.aload_n 3, 1) := dk_45 (dk_at dksX0_spoilt_1 19 rfl rfl)
theorem dX0_spoilt_44 : decode cX0_spoilt 44 = .ok (.invokevirtual 253, 3) := dk_182 0 253 (dk_at dksX0_spoilt_1 20 rfl rfl)
theorem dX0_spoilt_47 : decode cX0_spoilt 47 = .ok (.invokevirtual 296, 3) := dk_182 1 40 (dk_at dksX0_spoilt_2 0 rfl rfl)
theorem dX0_spoilt_50 : decode cX0_spoilt 50 = .ok (.aload_n 3, 1) := dk_45 (dk_at dksX0_spoilt_2 3 rfl rfl)
theorem dX0_spoilt_51 : decode cX0_spoilt 51 = .ok (.getfield 183, 3) := dk_180 0 183 (dk_at dksX0_spoilt_2 4 rfl rfl)
theorem dX0_spoilt_54 : decode cX0_spoilt 54 = .ok (.iload_n 1, 1) := dk_27 (dk_at dksX0_spoilt_2 7 rfl rfl)
theorem dX0_spoilt_55 : decode cX0_spoilt 55 = .ok (.iaload, 1) := dk_46 (dk_at dksX0_spoilt_2 8 rfl rfl)
theorem dX0_spoilt_56 : decode cX0_spoilt 56 = .ok (.iload_n 2, 1) := dk_28 (dk_at dksX0_spoilt_2 9 rfl rfl)
theorem dX0_spoilt_57 : decode cX0_spoilt 57 = .ok (.if_icmp .ge 6, 3) := dk_162 0 6 (dk_at dksX0_spoilt_2 10 rfl rfl)
theorem dX0_spoilt_60 : decode cX0_spoilt 60 = .ok (.iload 4, 2) := dk_21 4 (dk_at dksX0_spoilt_2 13 rfl rfl)
theorem dX0_spoilt_62 : decode cX0_spoilt 62 = .ok (.ireturn, 1) := dk_172 (dk_at dksX0_spoilt_2 15 rfl rfl)
theorem dX0_spoilt_63 : decode cX0_spoilt 63 = .ok (.iinc 4 1, 3) := dk_132 4 1 (dk_at dksX0_spoilt_2 16 rfl rfl)
theorem dX0_spoilt_66 : decode cX0_spoilt 66 = .ok (.goto (-30), 3) := dk_167 255 226 (dk_at dksX0_spoilt_2 19 rfl rfl)
theorem dX0_spoilt_69 : decode cX0_spoilt 69 = .ok (.iconst (-1), 1) := dk_2 (dk_at dksX0_spoilt_2 22 rfl rfl)
theorem dX0_spoilt_70 : decode cX0_spoilt 70 = .ok (.ireturn, 1) := dk_172 (dk_at dksX0_spoilt_2 23 rfl rfl)
abbrev cX0_bears : ByteArray := prog_1_method_72_code
def yX0_bears : MethodName := ⟨RX0, "bears", "(IIII)I"⟩
def dkwX0_bears_3 : List UInt8 := [29, 28, 21, 4, 184, 1, 66, 153, 0, 6, 21, 5, 172, 132, 5, 255, 167, 255, 218, 2, 172]
abbrev dktX0_bears_3 : List UInt8 := dkwX0_bears_3 ++ []
def dkwX0_bears_2 : List UInt8 := [54, 5, 21, 5, 158, 0, 39, 42, 182, 1, 19, 58, 6, 25, 6, 180, 0, 161, 27, 21, 5, 79, 25, 6]
abbrev dktX0_bears_2 : List UInt8 := dkwX0_bears_2 ++ dktX0_bears_3
def dkwX0_bears_1 : List UInt8 := [153, 0, 14, 21, 4, 3, 16, 100, 184, 0, 67, 154, 0, 10, 42, 16, 254, 182, 0, 63, 172, 16, 30]
abbrev dktX0_bears_1 : List UInt8 := dkwX0_bears_1 ++ dktX0_bears_2
def dkwX0_bears_0 : List UInt8 := [42, 27, 182, 0, 143, 153, 0, 32, 42, 180, 0, 39, 28, 182, 0, 180, 153, 0, 21, 29, 184, 1, 34]
abbrev dktX0_bears_0 : List UInt8 := dkwX0_bears_0 ++ dktX0_bears_1
theorem dksX0_bears_0 : cX0_bears.data.toList.drop 0 = dktX0_bears_0 := by decide +kernel
theorem dksX0_bears_1 : cX0_bears.data.toList.drop 23 = dktX0_bears_1 := dk_seg dksX0_bears_0 23 rfl rfl
theorem dksX0_bears_2 : cX0_bears.data.toList.drop 46 = dktX0_bears_2 := dk_seg dksX0_bears_1 23 rfl rfl
theorem dksX0_bears_3 : cX0_bears.data.toList.drop 70 = dktX0_bears_3 := dk_seg dksX0_bears_2 24 rfl rfl
theorem dX0_bears_0 : decode cX0_bears 0 = .ok (.aload_n 0, 1) := dk_42 (dk_at dksX0_bears_0 0 rfl rfl)
theorem dX0_bears_1 : decode cX0_bears 1 = .ok (.iload_n 1, 1) := dk_27 (dk_at dksX0_bears_0 1 rfl rfl)
theorem dX0_bears_2 : decode cX0_bears 2 = .ok (.invokevirtual 143, 3) := dk_182 0 143 (dk_at dksX0_bears_0 2 rfl rfl)
theorem dX0_bears_5 : decode cX0_bears 5 = .ok (.ifCond .eq 32, 3) := dk_153 0 32 (dk_at dksX0_bears_0 5 rfl rfl)
theorem dX0_bears_8 : decode cX0_bears 8 = .ok (.aload_n 0, 1) := dk_42 (dk_at dksX0_bears_0 8 rfl rfl)
theorem dX0_bears_9 : decode cX0_bears 9 = .ok (.getfield 39, 3) := dk_180 0 39 (dk_at dksX0_bears_0 9 rfl rfl)
theorem dX0_bears_12 : decode cX0_bears 12 = .ok (.iload_n 2, 1) := dk_28 (dk_at dksX0_bears_0 12 rfl rfl)
theorem dX0_bears_13 : decode cX0_bears 13 = .ok (.invokevirtual 180, 3) := dk_182 0 180 (dk_at dksX0_bears_0 13 rfl rfl)
theorem dX0_bears_16 : decode cX0_bears 16 = .ok (.ifCond .eq 21, 3) := dk_153 0 21 (dk_at dksX0_bears_0 16 rfl rfl)
theorem dX0_bears_19 : decode cX0_bears 19 = .ok (.iload_n 3, 1) := dk_29 (dk_at dksX0_bears_0 19 rfl rfl)
theorem dX0_bears_20 : decode cX0_bears 20 = .ok (.invokestatic 290, 3) := dk_184 1 34 (dk_at dksX0_bears_0 20 rfl rfl)
theorem dX0_bears_23 : decode cX0_bears 23 = .ok (.ifCond .eq 14, 3) := dk_153 0 14 (dk_at dksX0_bears_1 0 rfl rfl)
theorem dX0_bears_26 : decode cX0_bears 26 = .ok (.iload 4, 2) := dk_21 4 (dk_at dksX0_bears_1 3 rfl rfl)
theorem dX0_bears_28 : decode cX0_bears 28 = .ok (.iconst 0, 1) := dk_3 (dk_at dksX0_bears_1 5 rfl rfl)
theorem dX0_bears_29 : decode cX0_bears 29 = .ok (.bipush 100, 2) := dk_16 100 (dk_at dksX0_bears_1 6 rfl rfl)
theorem dX0_bears_31 : decode cX0_bears 31 = .ok (.invokestatic 67, 3) := dk_184 0 67 (dk_at dksX0_bears_1 8 rfl rfl)
theorem dX0_bears_34 : decode cX0_bears 34 = .ok (.ifCond .ne 10, 3) := dk_154 0 10 (dk_at dksX0_bears_1 11 rfl rfl)
theorem dX0_bears_37 : decode cX0_bears 37 = .ok (.aload_n 0, 1) := dk_42 (dk_at dksX0_bears_1 14 rfl rfl)
theorem dX0_bears_38 : decode cX0_bears 38 = .ok (.bipush (-2), 2) := dk_16 254 (dk_at dksX0_bears_1 15 rfl rfl)
theorem dX0_bears_40 : decode cX0_bears 40 = .ok (.invokevirtual 63, 3) := dk_182 0 63 (dk_at dksX0_bears_1 17 rfl rfl)
theorem dX0_bears_43 : decode cX0_bears 43 = .ok (.ireturn, 1) := dk_172 (dk_at dksX0_bears_1 20 rfl rfl)
theorem dX0_bears_44 : decode cX0_bears 44 = .ok (.bipush 30, 2) := dk_16 30 (dk_at dksX0_bears_1 21 rfl rfl)
theorem dX0_bears_46 : decode cX0_bears 46 = .ok (.istore 5, 2) := dk_54 5 (dk_at dksX0_bears_2 0 rfl rfl)
theorem dX0_bears_48 : decode cX0_bears 48 = .ok (.iload 5, 2) := dk_21 5 (dk_at dksX0_bears_2 2 rfl rfl)
theorem dX0_bears_50 : decode cX0_bears 50 = .ok (.ifCond .le 39, 3) := dk_158 0 39 (dk_at dksX0_bears_2 4 rfl rfl)
theorem dX0_bears_53 : decode cX0_bears 53 = .ok (.aload_n 0, 1) := dk_42 (dk_at dksX0_bears_2 7 rfl rfl)
theorem dX0_bears_54 : decode cX0_bears 54 = .ok (.invokevirtual 275, 3) := dk_182 1 19 (dk_at dksX0_bears_2 8 rfl rfl)
theorem dX0_bears_57 : decode cX0_bears 57 = .ok (.astore 6, 2) := dk_58 6 (dk_at dksX0_bears_2 11 rfl rfl)
theorem dX0_bears_59 : decode cX0_bears 59 = .ok (.aload 6, 2) := dk_25 6 (dk_at dksX0_bears_2 13 rfl rfl)
theorem dX0_bears_61 : decode cX0_bears 61 = .ok (.getfield 161, 3) := dk_180 0 161 (dk_at dksX0_bears_2 15 rfl rfl)
theorem dX0_bears_64 : decode cX0_bears 64 = .ok (.iload_n 1, 1) := dk_27 (dk_at dksX0_bears_2 18 rfl rfl)
theorem dX0_bears_65 : decode cX0_bears 65 = .ok (.iload 5, 2) := dk_21 5 (dk_at dksX0_bears_2 19 rfl rfl)
theorem dX0_bears_67 : decode cX0_bears 67 = .ok (.iastore, 1) := dk_79 (dk_at dksX0_bears_2 21 rfl rfl)
theorem dX0_bears_68 : decode cX0_bears 68 = .ok (.aload 6, 2) := dk_25 6 (dk_at dksX0_bears_2 22 rfl rfl)
theorem dX0_bears_70 : decode cX0_bears 70 = .ok (.iload_n 3, 1) := dk_29 (dk_at dksX0_bears_3 0 rfl rfl)
theorem dX0_bears_71 : decode cX0_bears 71 = .ok (.iload_n 2, 1) := dk_28 (dk_at dksX0_bears_3 1 rfl rfl)
theorem dX0_bears_72 : decode cX0_bears 72 = .ok (.iload 4, 2) := dk_21 4 (dk_at dksX0_bears_3 2 rfl rfl)
theorem dX0_bears_74 : decode cX0_bears 74 = .ok (.invokestatic 322, 3) := dk_184 1 66 (dk_at dksX0_bears_3 4 rfl rfl)
theorem dX0_bears_77 : decode cX0_bears 77 = .ok (.ifCond .eq 6, 3) := dk_153 0 6 (dk_at dksX0_bears_3 7 rfl rfl)
theorem dX0_bears_80 : decode cX0_bears 80 = .ok (.iload 5, 2) := dk_21 5 (dk_at dksX0_bears_3 10 rfl rfl)
theorem dX0_bears_82 : decode cX0_bears 82 = .ok (.ireturn, 1) := dk_172 (dk_at dksX0_bears_3 12 rfl rfl)
theorem dX0_bears_83 : decode cX0_bears 83 = .ok (.iinc 5 (-1), 3) := dk_132 5 255 (dk_at dksX0_bears_3 13 rfl rfl)
theorem dX0_bears_86 : decode cX0_bears 86 = .ok (.goto (-38), 3) := dk_167 255 218 (dk_at dksX0_bears_3 16 rfl rfl)
theorem dX0_bears_89 : decode cX0_bears 89 = .ok (.iconst (-1), 1) := dk_2 (dk_at dksX0_bears_3 19 rfl rfl)
theorem dX0_bears_90 : decode cX0_bears 90 = .ok (.ireturn, 1) := dk_172 (dk_at dksX0_bears_3 20 rfl rfl)
abbrev cX0_stays : ByteArray := prog_1_method_71_code
def yX0_stays : MethodName := ⟨RX0, "stays", "(LEverybodyHasTheBook$Valley;III)Z"⟩
def dkwX0_stays_1 : List UInt8 := [162, 0, 5, 3, 172, 132, 4, 1, 167, 255, 228, 4, 172]
abbrev dktX0_stays_1 : List UInt8 := dkwX0_stays_1 ++ []
def dkwX0_stays_0 : List UInt8 := [3, 54, 4, 21, 4, 27, 162, 0, 28, 42, 182, 0, 253, 182, 1, 40, 42, 180, 0, 183, 28, 46, 29]
abbrev dktX0_stays_0 : List UInt8 := dkwX0_stays_0 ++ dktX0_stays_1
theorem dksX0_stays_0 : cX0_stays.data.toList.drop 0 = dktX0_stays_0 := by decide +kernel
theorem dksX0_stays_1 : cX0_stays.data.toList.drop 23 = dktX0_stays_1 := dk_seg dksX0_stays_0 23 rfl rfl
theorem dX0_stays_0 : decode cX0_stays 0 = .ok (.iconst 0, 1) := dk_3 (dk_at dksX0_stays_0 0 rfl rfl)
theorem dX0_stays_1 : decode cX0_stays 1 = .ok (.istore 4, 2) := dk_54 4 (dk_at dksX0_stays_0 1 rfl rfl)
theorem dX0_stays_3 : decode cX0_stays 3 = .ok (.iload 4, 2) := dk_21 4 (dk_at dksX0_stays_0 3 rfl rfl)
theorem dX0_stays_5 : decode cX0_stays 5 = .ok (.iload_n 1, 1) := dk_27 (dk_at dksX0_stays_0 5 rfl rfl)
theorem dX0_stays_6 : decode cX0_stays 6 = .ok (.if_icmp .ge 28, 3) := dk_162 0 28 (dk_at dksX0_stays_0 6 rfl rfl)
theorem dX0_stays_9 : decode cX0_stays 9 = .ok (.aload_n 0, 1) := dk_42 (dk_at dksX0_stays_0 9 rfl rfl)
theorem dX0_stays_10 : decode cX0_stays 10 = .ok (.invokevirtual 253, 3) := dk_182 0 253 (dk_at dksX0_stays_0 10 rfl rfl)
theorem dX0_stays_13 : decode cX0_stays 13 = .ok (.invokevirtual 296, 3) := dk_182 1 40 (dk_at dksX0_stays_0 13 rfl rfl)
theorem dX0_stays_16 : decode cX0_stays 16 = .ok (.aload_n 0, 1) := dk_42 (dk_at dksX0_stays_0 16 rfl rfl)
theorem dX0_stays_17 : decode cX0_stays 17 = .ok (.getfield 183, 3) := dk_180 0 183 (dk_at dksX0_stays_0 17 rfl rfl)
theorem dX0_stays_20 : decode cX0_stays 20 = .ok (.iload_n 2, 1) := dk_28 (dk_at dksX0_stays_0 20 rfl rfl)
theorem dX0_stays_21 : decode cX0_stays 21 = .ok (.iaload, 1) := dk_46 (dk_at dksX0_stays_0 21 rfl rfl)
theorem dX0_stays_22 : decode cX0_stays 22 = .ok (.iload_n 3, 1) := dk_29 (dk_at dksX0_stays_0 22 rfl rfl)
theorem dX0_stays_23 : decode cX0_stays 23 = .ok (.if_icmp .ge 5, 3) := dk_162 0 5 (dk_at dksX0_stays_1 0 rfl rfl)
theorem dX0_stays_26 : decode cX0_stays 26 = .ok (.iconst 0, 1) := dk_3 (dk_at dksX0_stays_1 3 rfl rfl)
theorem dX0_stays_27 : decode cX0_stays 27 = .ok (.ireturn, 1) := dk_172 (dk_at dksX0_stays_1 4 rfl rfl)
theorem dX0_stays_28 : decode cX0_stays 28 = .ok (.iinc 4 1, 3) := dk_132 4 1 (dk_at dksX0_stays_1 5 rfl rfl)
theorem dX0_stays_31 : decode cX0_stays 31 = .ok (.goto (-28), 3) := dk_167 255 228 (dk_at dksX0_stays_1 8 rfl rfl)
theorem dX0_stays_34 : decode cX0_stays 34 = .ok (.iconst 1, 1) := dk_4 (dk_at dksX0_stays_1 11 rfl rfl)
theorem dX0_stays_35 : decode cX0_stays 35 = .ok (.ireturn, 1) := dk_172 (dk_at dksX0_stays_1 12 rfl rfl)
abbrev cX0_recovers : ByteArray := prog_1_method_73_code
def yX0_recovers : MethodName := ⟨RX0, "recovers", "(I)I"⟩
def dkwX0_recovers_2 : List UInt8 := [180, 0, 183, 27, 46, 44, 180, 0, 232, 27, 46, 161, 0, 5, 29, 172, 132, 3, 1, 167, 255, 223, 2, 172]
abbrev dktX0_recovers_2 : List UInt8 := dkwX0_recovers_2 ++ []
def dkwX0_recovers_1 : List UInt8 := [180, 0, 189, 2, 184, 1, 70, 4, 62, 29, 16, 30, 163, 0, 33, 44, 182, 0, 253, 182, 1, 40, 44]
abbrev dktX0_recovers_1 : List UInt8 := dkwX0_recovers_1 ++ dktX0_recovers_2
def dkwX0_recovers_0 : List UInt8 := [42, 180, 0, 39, 27, 182, 0, 180, 154, 0, 10, 42, 16, 254, 182, 0, 63, 172, 42, 182, 1, 19, 77, 44]
abbrev dktX0_recovers_0 : List UInt8 := dkwX0_recovers_0 ++ dktX0_recovers_1
theorem dksX0_recovers_0 : cX0_recovers.data.toList.drop 0 = dktX0_recovers_0 := by decide +kernel
theorem dksX0_recovers_1 : cX0_recovers.data.toList.drop 24 = dktX0_recovers_1 := dk_seg dksX0_recovers_0 24 rfl rfl
theorem dksX0_recovers_2 : cX0_recovers.data.toList.drop 47 = dktX0_recovers_2 := dk_seg dksX0_recovers_1 23 rfl rfl
theorem dX0_recovers_0 : decode cX0_recovers 0 = .ok (.aload_n 0, 1) := dk_42 (dk_at dksX0_recovers_0 0 rfl rfl)
theorem dX0_recovers_1 : decode cX0_recovers 1 = .ok (.getfield 39, 3) := dk_180 0 39 (dk_at dksX0_recovers_0 1 rfl rfl)
theorem dX0_recovers_4 : decode cX0_recovers 4 = .ok (.iload_n 1, 1) := dk_27 (dk_at dksX0_recovers_0 4 rfl rfl)
theorem dX0_recovers_5 : decode cX0_recovers 5 = .ok (.invokevirtual 180, 3) := dk_182 0 180 (dk_at dksX0_recovers_0 5 rfl rfl)
theorem dX0_recovers_8 : decode cX0_recovers 8 = .ok (.ifCond .ne 10, 3) := dk_154 0 10 (dk_at dksX0_recovers_0 8 rfl rfl)
theorem dX0_recovers_11 : decode cX0_recovers 11 = .ok (.aload_n 0, 1) := dk_42 (dk_at dksX0_recovers_0 11 rfl rfl)
theorem dX0_recovers_12 : decode cX0_recovers 12 = .ok (.bipush (-2), 2) := dk_16 254 (dk_at dksX0_recovers_0 12 rfl rfl)
theorem dX0_recovers_14 : decode cX0_recovers 14 = .ok (.invokevirtual 63, 3) := dk_182 0 63 (dk_at dksX0_recovers_0 14 rfl rfl)
theorem dX0_recovers_17 : decode cX0_recovers 17 = .ok (.ireturn, 1) := dk_172 (dk_at dksX0_recovers_0 17 rfl rfl)
theorem dX0_recovers_18 : decode cX0_recovers 18 = .ok (.aload_n 0, 1) := dk_42 (dk_at dksX0_recovers_0 18 rfl rfl)
theorem dX0_recovers_19 : decode cX0_recovers 19 = .ok (.invokevirtual 275, 3) := dk_182 1 19 (dk_at dksX0_recovers_0 19 rfl rfl)
theorem dX0_recovers_22 : decode cX0_recovers 22 = .ok (.astore_n 2, 1) := dk_77 (dk_at dksX0_recovers_0 22 rfl rfl)
theorem dX0_recovers_23 : decode cX0_recovers 23 = .ok (.aload_n 2, 1) := dk_44 (dk_at dksX0_recovers_0 23 rfl rfl)
theorem dX0_recovers_24 : decode cX0_recovers 24 = .ok (.getfield 189, 3) := dk_180 0 189 (dk_at dksX0_recovers_1 0 rfl rfl)
theorem dX0_recovers_27 : decode cX0_recovers 27 = .ok (.iconst (-1), 1) := dk_2 (dk_at dksX0_recovers_1 3 rfl rfl)
theorem dX0_recovers_28 : decode cX0_recovers 28 = .ok (.invokestatic 326, 3) := dk_184 1 70 (dk_at dksX0_recovers_1 4 rfl rfl)
theorem dX0_recovers_31 : decode cX0_recovers 31 = .ok (.iconst 1, 1) := dk_4 (dk_at dksX0_recovers_1 7 rfl rfl)
theorem dX0_recovers_32 : decode cX0_recovers 32 = .ok (.istore_n 3, 1) := dk_62 (dk_at dksX0_recovers_1 8 rfl rfl)
theorem dX0_recovers_33 : decode cX0_recovers 33 = .ok (.iload_n 3, 1) := dk_29 (dk_at dksX0_recovers_1 9 rfl rfl)
theorem dX0_recovers_34 : decode cX0_recovers 34 = .ok (.bipush 30, 2) := dk_16 30 (dk_at dksX0_recovers_1 10 rfl rfl)
theorem dX0_recovers_36 : decode cX0_recovers 36 = .ok (.if_icmp .gt 33, 3) := dk_163 0 33 (dk_at dksX0_recovers_1 12 rfl rfl)
theorem dX0_recovers_39 : decode cX0_recovers 39 = .ok (.aload_n 2, 1) := dk_44 (dk_at dksX0_recovers_1 15 rfl rfl)
theorem dX0_recovers_40 : decode cX0_recovers 40 = .ok (.invokevirtual 253, 3) := dk_182 0 253 (dk_at dksX0_recovers_1 16 rfl rfl)
theorem dX0_recovers_43 : decode cX0_recovers 43 = .ok (.invokevirtual 296, 3) := dk_182 1 40 (dk_at dksX0_recovers_1 19 rfl rfl)
theorem dX0_recovers_46 : decode cX0_recovers 46 = .ok (.aload_n 2, 1) := dk_44 (dk_at dksX0_recovers_1 22 rfl rfl)
theorem dX0_recovers_47 : decode cX0_recovers 47 = .ok (.getfield 183, 3) := dk_180 0 183 (dk_at dksX0_recovers_2 0 rfl rfl)
theorem dX0_recovers_50 : decode cX0_recovers 50 = .ok (.iload_n 1, 1) := dk_27 (dk_at dksX0_recovers_2 3 rfl rfl)
theorem dX0_recovers_51 : decode cX0_recovers 51 = .ok (.iaload, 1) := dk_46 (dk_at dksX0_recovers_2 4 rfl rfl)
theorem dX0_recovers_52 : decode cX0_recovers 52 = .ok (.aload_n 2, 1) := dk_44 (dk_at dksX0_recovers_2 5 rfl rfl)
theorem dX0_recovers_53 : decode cX0_recovers 53 = .ok (.getfield 232, 3) := dk_180 0 232 (dk_at dksX0_recovers_2 6 rfl rfl)
theorem dX0_recovers_56 : decode cX0_recovers 56 = .ok (.iload_n 1, 1) := dk_27 (dk_at dksX0_recovers_2 9 rfl rfl)
theorem dX0_recovers_57 : decode cX0_recovers 57 = .ok (.iaload, 1) := dk_46 (dk_at dksX0_recovers_2 10 rfl rfl)
theorem dX0_recovers_58 : decode cX0_recovers 58 = .ok (.if_icmp .lt 5, 3) := dk_161 0 5 (dk_at dksX0_recovers_2 11 rfl rfl)
theorem dX0_recovers_61 : decode cX0_recovers 61 = .ok (.iload_n 3, 1) := dk_29 (dk_at dksX0_recovers_2 14 rfl rfl)
theorem dX0_recovers_62 : decode cX0_recovers 62 = .ok (.ireturn, 1) := dk_172 (dk_at dksX0_recovers_2 15 rfl rfl)
theorem dX0_recovers_63 : decode cX0_recovers 63 = .ok (.iinc 3 1, 3) := dk_132 3 1 (dk_at dksX0_recovers_2 16 rfl rfl)
theorem dX0_recovers_66 : decode cX0_recovers 66 = .ok (.goto (-33), 3) := dk_167 255 223 (dk_at dksX0_recovers_2 19 rfl rfl)
theorem dX0_recovers_69 : decode cX0_recovers 69 = .ok (.iconst (-1), 1) := dk_2 (dk_at dksX0_recovers_2 22 rfl rfl)
theorem dX0_recovers_70 : decode cX0_recovers 70 = .ok (.ireturn, 1) := dk_172 (dk_at dksX0_recovers_2 23 rfl rfl)
abbrev cX0_dearest : ByteArray := prog_1_method_74_code
def yX0_dearest : MethodName := ⟨RX0, "dearest", "(II)I"⟩
def dkwX0_dearest_3 : List UInt8 := [21, 5, 62, 21, 7, 54, 4, 132, 5, 1, 167, 255, 208, 29, 172]
abbrev dktX0_dearest_3 : List UInt8 := dkwX0_dearest_3 ++ []
def dkwX0_dearest_2 : List UInt8 := [180, 0, 186, 28, 21, 5, 79, 25, 6, 27, 28, 184, 1, 43, 54, 7, 21, 7, 21, 4, 164, 0, 10]
abbrev dktX0_dearest_2 : List UInt8 := dkwX0_dearest_2 ++ dktX0_dearest_3
def dkwX0_dearest_1 : List UInt8 := [172, 3, 62, 2, 54, 4, 3, 54, 5, 21, 5, 16, 99, 163, 0, 47, 42, 182, 1, 19, 58, 6, 25, 6]
abbrev dktX0_dearest_1 : List UInt8 := dkwX0_dearest_1 ++ dktX0_dearest_2
def dkwX0_dearest_0 : List UInt8 := [27, 184, 1, 34, 153, 0, 14, 42, 180, 0, 39, 28, 182, 0, 180, 154, 0, 10, 42, 16, 254, 182, 0, 63]
abbrev dktX0_dearest_0 : List UInt8 := dkwX0_dearest_0 ++ dktX0_dearest_1
theorem dksX0_dearest_0 : cX0_dearest.data.toList.drop 0 = dktX0_dearest_0 := by decide +kernel
theorem dksX0_dearest_1 : cX0_dearest.data.toList.drop 24 = dktX0_dearest_1 := dk_seg dksX0_dearest_0 24 rfl rfl
theorem dksX0_dearest_2 : cX0_dearest.data.toList.drop 48 = dktX0_dearest_2 := dk_seg dksX0_dearest_1 24 rfl rfl
theorem dksX0_dearest_3 : cX0_dearest.data.toList.drop 71 = dktX0_dearest_3 := dk_seg dksX0_dearest_2 23 rfl rfl
theorem dX0_dearest_0 : decode cX0_dearest 0 = .ok (.iload_n 1, 1) := dk_27 (dk_at dksX0_dearest_0 0 rfl rfl)
theorem dX0_dearest_1 : decode cX0_dearest 1 = .ok (.invokestatic 290, 3) := dk_184 1 34 (dk_at dksX0_dearest_0 1 rfl rfl)
theorem dX0_dearest_4 : decode cX0_dearest 4 = .ok (.ifCond .eq 14, 3) := dk_153 0 14 (dk_at dksX0_dearest_0 4 rfl rfl)
theorem dX0_dearest_7 : decode cX0_dearest 7 = .ok (.aload_n 0, 1) := dk_42 (dk_at dksX0_dearest_0 7 rfl rfl)
theorem dX0_dearest_8 : decode cX0_dearest 8 = .ok (.getfield 39, 3) := dk_180 0 39 (dk_at dksX0_dearest_0 8 rfl rfl)
theorem dX0_dearest_11 : decode cX0_dearest 11 = .ok (.iload_n 2, 1) := dk_28 (dk_at dksX0_dearest_0 11 rfl rfl)
theorem dX0_dearest_12 : decode cX0_dearest 12 = .ok (.invokevirtual 180, 3) := dk_182 0 180 (dk_at dksX0_dearest_0 12 rfl rfl)
theorem dX0_dearest_15 : decode cX0_dearest 15 = .ok (.ifCond .ne 10, 3) := dk_154 0 10 (dk_at dksX0_dearest_0 15 rfl rfl)
theorem dX0_dearest_18 : decode cX0_dearest 18 = .ok (.aload_n 0, 1) := dk_42 (dk_at dksX0_dearest_0 18 rfl rfl)
theorem dX0_dearest_19 : decode cX0_dearest 19 = .ok (.bipush (-2), 2) := dk_16 254 (dk_at dksX0_dearest_0 19 rfl rfl)
theorem dX0_dearest_21 : decode cX0_dearest 21 = .ok (.invokevirtual 63, 3) := dk_182 0 63 (dk_at dksX0_dearest_0 21 rfl rfl)
theorem dX0_dearest_24 : decode cX0_dearest 24 = .ok (.ireturn, 1) := dk_172 (dk_at dksX0_dearest_1 0 rfl rfl)
theorem dX0_dearest_25 : decode cX0_dearest 25 = .ok (.iconst 0, 1) := dk_3 (dk_at dksX0_dearest_1 1 rfl rfl)
theorem dX0_dearest_26 : decode cX0_dearest 26 = .ok (.istore_n 3, 1) := dk_62 (dk_at dksX0_dearest_1 2 rfl rfl)
theorem dX0_dearest_27 : decode cX0_dearest 27 = .ok (.iconst (-1), 1) := dk_2 (dk_at dksX0_dearest_1 3 rfl rfl)
theorem dX0_dearest_28 : decode cX0_dearest 28 = .ok (.istore 4, 2) := dk_54 4 (dk_at dksX0_dearest_1 4 rfl rfl)
theorem dX0_dearest_30 : decode cX0_dearest 30 = .ok (.iconst 0, 1) := dk_3 (dk_at dksX0_dearest_1 6 rfl rfl)
theorem dX0_dearest_31 : decode cX0_dearest 31 = .ok (.istore 5, 2) := dk_54 5 (dk_at dksX0_dearest_1 7 rfl rfl)
theorem dX0_dearest_33 : decode cX0_dearest 33 = .ok (.iload 5, 2) := dk_21 5 (dk_at dksX0_dearest_1 9 rfl rfl)
theorem dX0_dearest_35 : decode cX0_dearest 35 = .ok (.bipush 99, 2) := dk_16 99 (dk_at dksX0_dearest_1 11 rfl rfl)
theorem dX0_dearest_37 : decode cX0_dearest 37 = .ok (.if_icmp .gt 47, 3) := dk_163 0 47 (dk_at dksX0_dearest_1 13 rfl rfl)
theorem dX0_dearest_40 : decode cX0_dearest 40 = .ok (.aload_n 0, 1) := dk_42 (dk_at dksX0_dearest_1 16 rfl rfl)
theorem dX0_dearest_41 : decode cX0_dearest 41 = .ok (.invokevirtual 275, 3) := dk_182 1 19 (dk_at dksX0_dearest_1 17 rfl rfl)
theorem dX0_dearest_44 : decode cX0_dearest 44 = .ok (.astore 6, 2) := dk_58 6 (dk_at dksX0_dearest_1 20 rfl rfl)
theorem dX0_dearest_46 : decode cX0_dearest 46 = .ok (.aload 6, 2) := dk_25 6 (dk_at dksX0_dearest_1 22 rfl rfl)
theorem dX0_dearest_48 : decode cX0_dearest 48 = .ok (.getfield 186, 3) := dk_180 0 186 (dk_at dksX0_dearest_2 0 rfl rfl)
theorem dX0_dearest_51 : decode cX0_dearest 51 = .ok (.iload_n 2, 1) := dk_28 (dk_at dksX0_dearest_2 3 rfl rfl)
theorem dX0_dearest_52 : decode cX0_dearest 52 = .ok (.iload 5, 2) := dk_21 5 (dk_at dksX0_dearest_2 4 rfl rfl)
theorem dX0_dearest_54 : decode cX0_dearest 54 = .ok (.iastore, 1) := dk_79 (dk_at dksX0_dearest_2 6 rfl rfl)
theorem dX0_dearest_55 : decode cX0_dearest 55 = .ok (.aload 6, 2) := dk_25 6 (dk_at dksX0_dearest_2 7 rfl rfl)
theorem dX0_dearest_57 : decode cX0_dearest 57 = .ok (.iload_n 1, 1) := dk_27 (dk_at dksX0_dearest_2 9 rfl rfl)
theorem dX0_dearest_58 : decode cX0_dearest 58 = .ok (.iload_n 2, 1) := dk_28 (dk_at dksX0_dearest_2 10 rfl rfl)
theorem dX0_dearest_59 : decode cX0_dearest 59 = .ok (.invokestatic 299, 3) := dk_184 1 43 (dk_at dksX0_dearest_2 11 rfl rfl)
theorem dX0_dearest_62 : decode cX0_dearest 62 = .ok (.istore 7, 2) := dk_54 7 (dk_at dksX0_dearest_2 14 rfl rfl)
theorem dX0_dearest_64 : decode cX0_dearest 64 = .ok (.iload 7, 2) := dk_21 7 (dk_at dksX0_dearest_2 16 rfl rfl)
theorem dX0_dearest_66 : decode cX0_dearest 66 = .ok (.iload 4, 2) := dk_21 4 (dk_at dksX0_dearest_2 18 rfl rfl)
theorem dX0_dearest_68 : decode cX0_dearest 68 = .ok (.if_icmp .le 10, 3) := dk_164 0 10 (dk_at dksX0_dearest_2 20 rfl rfl)
theorem dX0_dearest_71 : decode cX0_dearest 71 = .ok (.iload 5, 2) := dk_21 5 (dk_at dksX0_dearest_3 0 rfl rfl)
theorem dX0_dearest_73 : decode cX0_dearest 73 = .ok (.istore_n 3, 1) := dk_62 (dk_at dksX0_dearest_3 2 rfl rfl)
theorem dX0_dearest_74 : decode cX0_dearest 74 = .ok (.iload 7, 2) := dk_21 7 (dk_at dksX0_dearest_3 3 rfl rfl)
theorem dX0_dearest_76 : decode cX0_dearest 76 = .ok (.istore 4, 2) := dk_54 4 (dk_at dksX0_dearest_3 5 rfl rfl)
theorem dX0_dearest_78 : decode cX0_dearest 78 = .ok (.iinc 5 1, 3) := dk_132 5 1 (dk_at dksX0_dearest_3 7 rfl rfl)
theorem dX0_dearest_81 : decode cX0_dearest 81 = .ok (.goto (-48), 3) := dk_167 255 208 (dk_at dksX0_dearest_3 10 rfl rfl)
theorem dX0_dearest_84 : decode cX0_dearest 84 = .ok (.iload_n 3, 1) := dk_29 (dk_at dksX0_dearest_3 13 rfl rfl)
theorem dX0_dearest_85 : decode cX0_dearest 85 = .ok (.ireturn, 1) := dk_172 (dk_at dksX0_dearest_3 14 rfl rfl)
abbrev cX0_year : ByteArray := prog_1_method_76_code
def yX0_year : MethodName := ⟨RX0, "year", "()I"⟩
def dkwX0_year_0 : List UInt8 := [42, 4, 182, 1, 79, 172]
abbrev dktX0_year_0 : List UInt8 := dkwX0_year_0 ++ []
theorem dksX0_year_0 : cX0_year.data.toList.drop 0 = dktX0_year_0 := by decide +kernel
theorem dX0_year_0 : decode cX0_year 0 = .ok (.aload_n 0, 1) := dk_42 (dk_at dksX0_year_0 0 rfl rfl)
theorem dX0_year_1 : decode cX0_year 1 = .ok (.iconst 1, 1) := dk_4 (dk_at dksX0_year_0 1 rfl rfl)
theorem dX0_year_2 : decode cX0_year 2 = .ok (.invokevirtual 335, 3) := dk_182 1 79 (dk_at dksX0_year_0 2 rfl rfl)
theorem dX0_year_5 : decode cX0_year 5 = .ok (.ireturn, 1) := dk_172 (dk_at dksX0_year_0 5 rfl rfl)
abbrev cX0_lives : ByteArray := prog_1_method_75_code
def yX0_lives : MethodName := ⟨RX0, "lives", "(I)I"⟩
def dkwX0_lives_0 : List UInt8 := [42, 180, 0, 39, 89, 180, 1, 76, 27, 96, 181, 1, 76, 42, 180, 0, 39, 27, 2, 182, 1, 37, 172]
abbrev dktX0_lives_0 : List UInt8 := dkwX0_lives_0 ++ []
theorem dksX0_lives_0 : cX0_lives.data.toList.drop 0 = dktX0_lives_0 := by decide +kernel
theorem dX0_lives_0 : decode cX0_lives 0 = .ok (.aload_n 0, 1) := dk_42 (dk_at dksX0_lives_0 0 rfl rfl)
theorem dX0_lives_1 : decode cX0_lives 1 = .ok (.getfield 39, 3) := dk_180 0 39 (dk_at dksX0_lives_0 1 rfl rfl)
theorem dX0_lives_4 : decode cX0_lives 4 = .ok (.dup, 1) := dk_89 (dk_at dksX0_lives_0 4 rfl rfl)
theorem dX0_lives_5 : decode cX0_lives 5 = .ok (.getfield 332, 3) := dk_180 1 76 (dk_at dksX0_lives_0 5 rfl rfl)
theorem dX0_lives_8 : decode cX0_lives 8 = .ok (.iload_n 1, 1) := dk_27 (dk_at dksX0_lives_0 8 rfl rfl)
theorem dX0_lives_9 : decode cX0_lives 9 = .ok (.iadd, 1) := dk_96 (dk_at dksX0_lives_0 9 rfl rfl)
theorem dX0_lives_10 : decode cX0_lives 10 = .ok (.putfield 332, 3) := dk_181 1 76 (dk_at dksX0_lives_0 10 rfl rfl)
theorem dX0_lives_13 : decode cX0_lives 13 = .ok (.aload_n 0, 1) := dk_42 (dk_at dksX0_lives_0 13 rfl rfl)
theorem dX0_lives_14 : decode cX0_lives 14 = .ok (.getfield 39, 3) := dk_180 0 39 (dk_at dksX0_lives_0 14 rfl rfl)
theorem dX0_lives_17 : decode cX0_lives 17 = .ok (.iload_n 1, 1) := dk_27 (dk_at dksX0_lives_0 17 rfl rfl)
theorem dX0_lives_18 : decode cX0_lives 18 = .ok (.iconst (-1), 1) := dk_2 (dk_at dksX0_lives_0 18 rfl rfl)
theorem dX0_lives_19 : decode cX0_lives 19 = .ok (.invokevirtual 293, 3) := dk_182 1 37 (dk_at dksX0_lives_0 19 rfl rfl)
theorem dX0_lives_22 : decode cX0_lives 22 = .ok (.ireturn, 1) := dk_172 (dk_at dksX0_lives_0 22 rfl rfl)
abbrev cX0_goes : ByteArray := prog_1_method_77_code
def yX0_goes : MethodName := ⟨RX0, "goes", "(I)I"⟩
def dkwX0_goes_0 : List UInt8 := [27, 184, 1, 34, 153, 0, 11, 42, 27, 182, 1, 79, 167, 0, 9, 42, 16, 254, 182, 0, 250, 172]
abbrev dktX0_goes_0 : List UInt8 := dkwX0_goes_0 ++ []
theorem dksX0_goes_0 : cX0_goes.data.toList.drop 0 = dktX0_goes_0 := by decide +kernel
theorem dX0_goes_0 : decode cX0_goes 0 = .ok (.iload_n 1, 1) := dk_27 (dk_at dksX0_goes_0 0 rfl rfl)
theorem dX0_goes_1 : decode cX0_goes 1 = .ok (.invokestatic 290, 3) := dk_184 1 34 (dk_at dksX0_goes_0 1 rfl rfl)
theorem dX0_goes_4 : decode cX0_goes 4 = .ok (.ifCond .eq 11, 3) := dk_153 0 11 (dk_at dksX0_goes_0 4 rfl rfl)
theorem dX0_goes_7 : decode cX0_goes 7 = .ok (.aload_n 0, 1) := dk_42 (dk_at dksX0_goes_0 7 rfl rfl)
theorem dX0_goes_8 : decode cX0_goes 8 = .ok (.iload_n 1, 1) := dk_27 (dk_at dksX0_goes_0 8 rfl rfl)
theorem dX0_goes_9 : decode cX0_goes 9 = .ok (.invokevirtual 335, 3) := dk_182 1 79 (dk_at dksX0_goes_0 9 rfl rfl)
theorem dX0_goes_12 : decode cX0_goes 12 = .ok (.goto 9, 3) := dk_167 0 9 (dk_at dksX0_goes_0 12 rfl rfl)
theorem dX0_goes_15 : decode cX0_goes 15 = .ok (.aload_n 0, 1) := dk_42 (dk_at dksX0_goes_0 15 rfl rfl)
theorem dX0_goes_16 : decode cX0_goes 16 = .ok (.bipush (-2), 2) := dk_16 254 (dk_at dksX0_goes_0 16 rfl rfl)
theorem dX0_goes_18 : decode cX0_goes 18 = .ok (.invokevirtual 250, 3) := dk_182 0 250 (dk_at dksX0_goes_0 18 rfl rfl)
theorem dX0_goes_21 : decode cX0_goes 21 = .ok (.ireturn, 1) := dk_172 (dk_at dksX0_goes_0 21 rfl rfl)
abbrev cX0_post : ByteArray := prog_1_method_78_code
def yX0_post : MethodName := ⟨RX0, "post", "(I)I"⟩
def dkwX0_post_5 : List UInt8 := [132, 2, 1, 132, 3, 1, 167, 255, 173, 28, 172]
abbrev dktX0_post_5 : List UInt8 := dkwX0_post_5 ++ []
def dkwX0_post_4 : List UInt8 := [180, 0, 200, 21, 4, 46, 16, 99, 162, 0, 17, 42, 180, 0, 39, 21, 4, 21, 5, 182, 0, 203]
abbrev dktX0_post_4 : List UInt8 := dkwX0_post_4 ++ dktX0_post_5
def dkwX0_post_3 : List UInt8 := [180, 0, 39, 16, 21, 182, 1, 82, 96, 16, 10, 100, 16, 100, 184, 1, 85, 54, 5, 42, 180, 0, 39]
abbrev dktX0_post_3 : List UInt8 := dkwX0_post_3 ++ dktX0_post_4
def dkwX0_post_2 : List UInt8 := [180, 0, 39, 180, 0, 150, 182, 1, 82, 54, 4, 42, 180, 0, 39, 180, 0, 183, 21, 4, 46, 42]
abbrev dktX0_post_2 : List UInt8 := dkwX0_post_2 ++ dktX0_post_3
def dkwX0_post_1 : List UInt8 := [154, 0, 10, 42, 16, 251, 182, 0, 63, 172, 3, 61, 3, 62, 29, 27, 162, 0, 84, 42, 180, 0, 39, 42]
abbrev dktX0_post_1 : List UInt8 := dkwX0_post_1 ++ dktX0_post_2
def dkwX0_post_0 : List UInt8 := [27, 4, 16, 40, 184, 0, 67, 154, 0, 10, 42, 16, 254, 182, 0, 63, 172, 42, 180, 0, 39, 180, 0, 150]
abbrev dktX0_post_0 : List UInt8 := dkwX0_post_0 ++ dktX0_post_1
theorem dksX0_post_0 : cX0_post.data.toList.drop 0 = dktX0_post_0 := by decide +kernel
theorem dksX0_post_1 : cX0_post.data.toList.drop 24 = dktX0_post_1 := dk_seg dksX0_post_0 24 rfl rfl
theorem dksX0_post_2 : cX0_post.data.toList.drop 48 = dktX0_post_2 := dk_seg dksX0_post_1 24 rfl rfl
theorem dksX0_post_3 : cX0_post.data.toList.drop 70 = dktX0_post_3 := dk_seg dksX0_post_2 22 rfl rfl
theorem dksX0_post_4 : cX0_post.data.toList.drop 93 = dktX0_post_4 := dk_seg dksX0_post_3 23 rfl rfl
theorem dksX0_post_5 : cX0_post.data.toList.drop 115 = dktX0_post_5 := dk_seg dksX0_post_4 22 rfl rfl
theorem dX0_post_0 : decode cX0_post 0 = .ok (.iload_n 1, 1) := dk_27 (dk_at dksX0_post_0 0 rfl rfl)
theorem dX0_post_1 : decode cX0_post 1 = .ok (.iconst 1, 1) := dk_4 (dk_at dksX0_post_0 1 rfl rfl)
theorem dX0_post_2 : decode cX0_post 2 = .ok (.bipush 40, 2) := dk_16 40 (dk_at dksX0_post_0 2 rfl rfl)
theorem dX0_post_4 : decode cX0_post 4 = .ok (.invokestatic 67, 3) := dk_184 0 67 (dk_at dksX0_post_0 4 rfl rfl)
theorem dX0_post_7 : decode cX0_post 7 = .ok (.ifCond .ne 10, 3) := dk_154 0 10 (dk_at dksX0_post_0 7 rfl rfl)
theorem dX0_post_10 : decode cX0_post 10 = .ok (.aload_n 0, 1) := dk_42 (dk_at dksX0_post_0 10 rfl rfl)
theorem dX0_post_11 : decode cX0_post 11 = .ok (.bipush (-2), 2) := dk_16 254 (dk_at dksX0_post_0 11 rfl rfl)
theorem dX0_post_13 : decode cX0_post 13 = .ok (.invokevirtual 63, 3) := dk_182 0 63 (dk_at dksX0_post_0 13 rfl rfl)
theorem dX0_post_16 : decode cX0_post 16 = .ok (.ireturn, 1) := dk_172 (dk_at dksX0_post_0 16 rfl rfl)
theorem dX0_post_17 : decode cX0_post 17 = .ok (.aload_n 0, 1) := dk_42 (dk_at dksX0_post_0 17 rfl rfl)
theorem dX0_post_18 : decode cX0_post 18 = .ok (.getfield 39, 3) := dk_180 0 39 (dk_at dksX0_post_0 18 rfl rfl)
theorem dX0_post_21 : decode cX0_post 21 = .ok (.getfield 150, 3) := dk_180 0 150 (dk_at dksX0_post_0 21 rfl rfl)
theorem dX0_post_24 : decode cX0_post 24 = .ok (.ifCond .ne 10, 3) := dk_154 0 10 (dk_at dksX0_post_1 0 rfl rfl)
theorem dX0_post_27 : decode cX0_post 27 = .ok (.aload_n 0, 1) := dk_42 (dk_at dksX0_post_1 3 rfl rfl)
theorem dX0_post_28 : decode cX0_post 28 = .ok (.bipush (-5), 2) := dk_16 251 (dk_at dksX0_post_1 4 rfl rfl)
theorem dX0_post_30 : decode cX0_post 30 = .ok (.invokevirtual 63, 3) := dk_182 0 63 (dk_at dksX0_post_1 6 rfl rfl)
theorem dX0_post_33 : decode cX0_post 33 = .ok (.ireturn, 1) := dk_172 (dk_at dksX0_post_1 9 rfl rfl)
theorem dX0_post_34 : decode cX0_post 34 = .ok (.iconst 0, 1) := dk_3 (dk_at dksX0_post_1 10 rfl rfl)
theorem dX0_post_35 : decode cX0_post 35 = .ok (.istore_n 2, 1) := dk_61 (dk_at dksX0_post_1 11 rfl rfl)
theorem dX0_post_36 : decode cX0_post 36 = .ok (.iconst 0, 1) := dk_3 (dk_at dksX0_post_1 12 rfl rfl)
theorem dX0_post_37 : decode cX0_post 37 = .ok (.istore_n 3, 1) := dk_62 (dk_at dksX0_post_1 13 rfl rfl)
theorem dX0_post_38 : decode cX0_post 38 = .ok (.iload_n 3, 1) := dk_29 (dk_at dksX0_post_1 14 rfl rfl)
theorem dX0_post_39 : decode cX0_post 39 = .ok (.iload_n 1, 1) := dk_27 (dk_at dksX0_post_1 15 rfl rfl)
theorem dX0_post_40 : decode cX0_post 40 = .ok (.if_icmp .ge 84, 3) := dk_162 0 84 (dk_at dksX0_post_1 16 rfl rfl)
theorem dX0_post_43 : decode cX0_post 43 = .ok (.aload_n 0, 1) := dk_42 (dk_at dksX0_post_1 19 rfl rfl)
theorem dX0_post_44 : decode cX0_post 44 = .ok (.getfield 39, 3) := dk_180 0 39 (dk_at dksX0_post_1 20 rfl rfl)
theorem dX0_post_47 : decode cX0_post 47 = .ok (.aload_n 0, 1) := dk_42 (dk_at dksX0_post_1 23 rfl rfl)
theorem dX0_post_48 : decode cX0_post 48 = .ok (.getfield 39, 3) := dk_180 0 39 (dk_at dksX0_post_2 0 rfl rfl)
theorem dX0_post_51 : decode cX0_post 51 = .ok (.getfield 150, 3) := dk_180 0 150 (dk_at dksX0_post_2 3 rfl rfl)
theorem dX0_post_54 : decode cX0_post 54 = .ok (.invokevirtual 338, 3) := dk_182 1 82 (dk_at dksX0_post_2 6 rfl rfl)
theorem dX0_post_57 : decode cX0_post 57 = .ok (.istore 4, 2) := dk_54 4 (dk_at dksX0_post_2 9 rfl rfl)
theorem dX0_post_59 : decode cX0_post 59 = .ok (.aload_n 0, 1) := dk_42 (dk_at dksX0_post_2 11 rfl rfl)
theorem dX0_post_60 : decode cX0_post 60 = .ok (.getfield 39, 3) := dk_180 0 39 (dk_at dksX0_post_2 12 rfl rfl)
theorem dX0_post_63 : decode cX0_post 63 = .ok (.getfield 183, 3) := dk_180 0 183 (dk_at dksX0_post_2 15 rfl rfl)
theorem dX0_post_66 : decode cX0_post 66 = .ok (.iload 4, 2) := dk_21 4 (dk_at dksX0_post_2 18 rfl rfl)
theorem dX0_post_68 : decode cX0_post 68 = .ok (.iaload, 1) := dk_46 (dk_at dksX0_post_2 20 rfl rfl)
theorem dX0_post_69 : decode cX0_post 69 = .ok (.aload_n 0, 1) := dk_42 (dk_at dksX0_post_2 21 rfl rfl)
theorem dX0_post_70 : decode cX0_post 70 = .ok (.getfield 39, 3) := dk_180 0 39 (dk_at dksX0_post_3 0 rfl rfl)
theorem dX0_post_73 : decode cX0_post 73 = .ok (.bipush 21, 2) := dk_16 21 (dk_at dksX0_post_3 3 rfl rfl)
theorem dX0_post_75 : decode cX0_post 75 = .ok (.invokevirtual 338, 3) := dk_182 1 82 (dk_at dksX0_post_3 5 rfl rfl)
theorem dX0_post_78 : decode cX0_post 78 = .ok (.iadd, 1) := dk_96 (dk_at dksX0_post_3 8 rfl rfl)
theorem dX0_post_79 : decode cX0_post 79 = .ok (.bipush 10, 2) := dk_16 10 (dk_at dksX0_post_3 9 rfl rfl)
theorem dX0_post_81 : decode cX0_post 81 = .ok (.isub, 1) := dk_100 (dk_at dksX0_post_3 11 rfl rfl)
theorem dX0_post_82 : decode cX0_post 82 = .ok (.bipush 100, 2) := dk_16 100 (dk_at dksX0_post_3 12 rfl rfl)
theorem dX0_post_84 : decode cX0_post 84 = .ok (.invokestatic 341, 3) := dk_184 1 85 (dk_at dksX0_post_3 14 rfl rfl)
theorem dX0_post_87 : decode cX0_post 87 = .ok (.istore 5, 2) := dk_54 5 (dk_at dksX0_post_3 17 rfl rfl)
theorem dX0_post_89 : decode cX0_post 89 = .ok (.aload_n 0, 1) := dk_42 (dk_at dksX0_post_3 19 rfl rfl)
theorem dX0_post_90 : decode cX0_post 90 = .ok (.getfield 39, 3) := dk_180 0 39 (dk_at dksX0_post_3 20 rfl rfl)
theorem dX0_post_93 : decode cX0_post 93 = .ok (.getfield 200, 3) := dk_180 0 200 (dk_at dksX0_post_4 0 rfl rfl)
theorem dX0_post_96 : decode cX0_post 96 = .ok (.iload 4, 2) := dk_21 4 (dk_at dksX0_post_4 3 rfl rfl)
theorem dX0_post_98 : decode cX0_post 98 = .ok (.iaload, 1) := dk_46 (dk_at dksX0_post_4 5 rfl rfl)
theorem dX0_post_99 : decode cX0_post 99 = .ok (.bipush 99, 2) := dk_16 99 (dk_at dksX0_post_4 6 rfl rfl)
theorem dX0_post_101 : decode cX0_post 101 = .ok (.if_icmp .ge 17, 3) := dk_162 0 17 (dk_at dksX0_post_4 8 rfl rfl)
theorem dX0_post_104 : decode cX0_post 104 = .ok (.aload_n 0, 1) := dk_42 (dk_at dksX0_post_4 11 rfl rfl)
theorem dX0_post_105 : decode cX0_post 105 = .ok (.getfield 39, 3) := dk_180 0 39 (dk_at dksX0_post_4 12 rfl rfl)
theorem dX0_post_108 : decode cX0_post 108 = .ok (.iload 4, 2) := dk_21 4 (dk_at dksX0_post_4 15 rfl rfl)
theorem dX0_post_110 : decode cX0_post 110 = .ok (.iload 5, 2) := dk_21 5 (dk_at dksX0_post_4 17 rfl rfl)
theorem dX0_post_112 : decode cX0_post 112 = .ok (.invokevirtual 203, 3) := dk_182 0 203 (dk_at dksX0_post_4 19 rfl rfl)
theorem dX0_post_115 : decode cX0_post 115 = .ok (.iinc 2 1, 3) := dk_132 2 1 (dk_at dksX0_post_5 0 rfl rfl)
theorem dX0_post_118 : decode cX0_post 118 = .ok (.iinc 3 1, 3) := dk_132 3 1 (dk_at dksX0_post_5 3 rfl rfl)
theorem dX0_post_121 : decode cX0_post 121 = .ok (.goto (-83), 3) := dk_167 255 173 (dk_at dksX0_post_5 6 rfl rfl)
theorem dX0_post_124 : decode cX0_post 124 = .ok (.iload_n 2, 1) := dk_28 (dk_at dksX0_post_5 9 rfl rfl)
theorem dX0_post_125 : decode cX0_post 125 = .ok (.ireturn, 1) := dk_172 (dk_at dksX0_post_5 10 rfl rfl)
abbrev cX0_within : ByteArray := prog_1_method_3_code
def yX0_within : MethodName := ⟨RX0, "within", "(II)I"⟩
def dkwX0_within_0 : List UInt8 := [3, 27, 26, 184, 0, 1, 184, 0, 7, 172]
abbrev dktX0_within_0 : List UInt8 := dkwX0_within_0 ++ []
theorem dksX0_within_0 : cX0_within.data.toList.drop 0 = dktX0_within_0 := by decide +kernel
theorem dX0_within_0 : decode cX0_within 0 = .ok (.iconst 0, 1) := dk_3 (dk_at dksX0_within_0 0 rfl rfl)
theorem dX0_within_1 : decode cX0_within 1 = .ok (.iload_n 1, 1) := dk_27 (dk_at dksX0_within_0 1 rfl rfl)
theorem dX0_within_2 : decode cX0_within 2 = .ok (.iload_n 0, 1) := dk_26 (dk_at dksX0_within_0 2 rfl rfl)
theorem dX0_within_3 : decode cX0_within 3 = .ok (.invokestatic 1, 3) := dk_184 0 1 (dk_at dksX0_within_0 3 rfl rfl)
theorem dX0_within_6 : decode cX0_within 6 = .ok (.invokestatic 7, 3) := dk_184 0 7 (dk_at dksX0_within_0 6 rfl rfl)
theorem dX0_within_9 : decode cX0_within 9 = .ok (.ireturn, 1) := dk_172 (dk_at dksX0_within_0 9 rfl rfl)
abbrev cX0_seed : ByteArray := prog_1_method_79_code
def yX0_seed : MethodName := ⟨RX0, "seed", "(I)I"⟩
def dkwX0_seed_0 : List UInt8 := [42, 180, 0, 39, 180, 1, 88, 61, 42, 180, 0, 39, 27, 181, 1, 88, 28, 172]
abbrev dktX0_seed_0 : List UInt8 := dkwX0_seed_0 ++ []
theorem dksX0_seed_0 : cX0_seed.data.toList.drop 0 = dktX0_seed_0 := by decide +kernel
theorem dX0_seed_0 : decode cX0_seed 0 = .ok (.aload_n 0, 1) := dk_42 (dk_at dksX0_seed_0 0 rfl rfl)
theorem dX0_seed_1 : decode cX0_seed 1 = .ok (.getfield 39, 3) := dk_180 0 39 (dk_at dksX0_seed_0 1 rfl rfl)
theorem dX0_seed_4 : decode cX0_seed 4 = .ok (.getfield 344, 3) := dk_180 1 88 (dk_at dksX0_seed_0 4 rfl rfl)
theorem dX0_seed_7 : decode cX0_seed 7 = .ok (.istore_n 2, 1) := dk_61 (dk_at dksX0_seed_0 7 rfl rfl)
theorem dX0_seed_8 : decode cX0_seed 8 = .ok (.aload_n 0, 1) := dk_42 (dk_at dksX0_seed_0 8 rfl rfl)
theorem dX0_seed_9 : decode cX0_seed 9 = .ok (.getfield 39, 3) := dk_180 0 39 (dk_at dksX0_seed_0 9 rfl rfl)
theorem dX0_seed_12 : decode cX0_seed 12 = .ok (.iload_n 1, 1) := dk_27 (dk_at dksX0_seed_0 12 rfl rfl)
theorem dX0_seed_13 : decode cX0_seed 13 = .ok (.putfield 344, 3) := dk_181 1 88 (dk_at dksX0_seed_0 13 rfl rfl)
theorem dX0_seed_16 : decode cX0_seed 16 = .ok (.iload_n 2, 1) := dk_28 (dk_at dksX0_seed_0 16 rfl rfl)
theorem dX0_seed_17 : decode cX0_seed 17 = .ok (.ireturn, 1) := dk_172 (dk_at dksX0_seed_0 17 rfl rfl)
abbrev cX0_image : ByteArray := prog_1_method_80_code
def yX0_image : MethodName := ⟨RX0, "image", "()I"⟩
def dkwX0_image_0 : List UInt8 := [42, 42, 180, 0, 39, 182, 0, 214, 181, 1, 91, 4, 172]
abbrev dktX0_image_0 : List UInt8 := dkwX0_image_0 ++ []
theorem dksX0_image_0 : cX0_image.data.toList.drop 0 = dktX0_image_0 := by decide +kernel
theorem dX0_image_0 : decode cX0_image 0 = .ok (.aload_n 0, 1) := dk_42 (dk_at dksX0_image_0 0 rfl rfl)
theorem dX0_image_1 : decode cX0_image 1 = .ok (.aload_n 0, 1) := dk_42 (dk_at dksX0_image_0 1 rfl rfl)
theorem dX0_image_2 : decode cX0_image 2 = .ok (.getfield 39, 3) := dk_180 0 39 (dk_at dksX0_image_0 2 rfl rfl)
theorem dX0_image_5 : decode cX0_image 5 = .ok (.invokevirtual 214, 3) := dk_182 0 214 (dk_at dksX0_image_0 5 rfl rfl)
theorem dX0_image_8 : decode cX0_image 8 = .ok (.putfield 347, 3) := dk_181 1 91 (dk_at dksX0_image_0 8 rfl rfl)
theorem dX0_image_11 : decode cX0_image 11 = .ok (.iconst 1, 1) := dk_4 (dk_at dksX0_image_0 11 rfl rfl)
theorem dX0_image_12 : decode cX0_image 12 = .ok (.ireturn, 1) := dk_172 (dk_at dksX0_image_0 12 rfl rfl)
abbrev cX0_back : ByteArray := prog_1_method_81_code
def yX0_back : MethodName := ⟨RX0, "back", "()I"⟩
def dkwX0_back_4 : List UInt8 := [181, 0, 100, 132, 1, 1, 167, 255, 186, 4, 172]
abbrev dktX0_back_4 : List UInt8 := dkwX0_back_4 ++ []
def dkwX0_back_3 : List UInt8 := [50, 42, 28, 182, 0, 143, 153, 0, 15, 42, 180, 0, 39, 180, 0, 146, 28, 50, 167, 0, 4, 1]
abbrev dktX0_back_3 : List UInt8 := dkwX0_back_3 ++ dktX0_back_4
def dkwX0_back_2 : List UInt8 := [153, 0, 49, 42, 180, 0, 50, 27, 50, 180, 0, 100, 192, 0, 10, 180, 0, 140, 61, 42, 180, 0, 50, 27]
abbrev dktX0_back_2 : List UInt8 := dkwX0_back_2 ++ dktX0_back_3
def dkwX0_back_1 : List UInt8 := [181, 0, 39, 3, 60, 27, 16, 8, 162, 0, 70, 42, 180, 0, 50, 27, 50, 180, 0, 100, 193, 0, 10]
abbrev dktX0_back_1 : List UInt8 := dkwX0_back_1 ++ dktX0_back_2
def dkwX0_back_0 : List UInt8 := [42, 180, 1, 91, 199, 0, 10, 42, 16, 251, 182, 0, 63, 172, 42, 42, 180, 1, 91, 182, 0, 214]
abbrev dktX0_back_0 : List UInt8 := dkwX0_back_0 ++ dktX0_back_1
theorem dksX0_back_0 : cX0_back.data.toList.drop 0 = dktX0_back_0 := by decide +kernel
theorem dksX0_back_1 : cX0_back.data.toList.drop 22 = dktX0_back_1 := dk_seg dksX0_back_0 22 rfl rfl
theorem dksX0_back_2 : cX0_back.data.toList.drop 45 = dktX0_back_2 := dk_seg dksX0_back_1 23 rfl rfl
theorem dksX0_back_3 : cX0_back.data.toList.drop 69 = dktX0_back_3 := dk_seg dksX0_back_2 24 rfl rfl
theorem dksX0_back_4 : cX0_back.data.toList.drop 91 = dktX0_back_4 := dk_seg dksX0_back_3 22 rfl rfl
theorem dX0_back_0 : decode cX0_back 0 = .ok (.aload_n 0, 1) := dk_42 (dk_at dksX0_back_0 0 rfl rfl)
theorem dX0_back_1 : decode cX0_back 1 = .ok (.getfield 347, 3) := dk_180 1 91 (dk_at dksX0_back_0 1 rfl rfl)
theorem dX0_back_4 : decode cX0_back 4 = .ok (.ifnonnull 10, 3) := dk_199 0 10 (dk_at dksX0_back_0 4 rfl rfl)
theorem dX0_back_7 : decode cX0_back 7 = .ok (.aload_n 0, 1) := dk_42 (dk_at dksX0_back_0 7 rfl rfl)
theorem dX0_back_8 : decode cX0_back 8 = .ok (.bipush (-5), 2) := dk_16 251 (dk_at dksX0_back_0 8 rfl rfl)
theorem dX0_back_10 : decode cX0_back 10 = .ok (.invokevirtual 63, 3) := dk_182 0 63 (dk_at dksX0_back_0 10 rfl rfl)
theorem dX0_back_13 : decode cX0_back 13 = .ok (.ireturn, 1) := dk_172 (dk_at dksX0_back_0 13 rfl rfl)
theorem dX0_back_14 : decode cX0_back 14 = .ok (.aload_n 0, 1) := dk_42 (dk_at dksX0_back_0 14 rfl rfl)
theorem dX0_back_15 : decode cX0_back 15 = .ok (.aload_n 0, 1) := dk_42 (dk_at dksX0_back_0 15 rfl rfl)
theorem dX0_back_16 : decode cX0_back 16 = .ok (.getfield 347, 3) := dk_180 1 91 (dk_at dksX0_back_0 16 rfl rfl)
theorem dX0_back_19 : decode cX0_back 19 = .ok (.invokevirtual 214, 3) := dk_182 0 214 (dk_at dksX0_back_0 19 rfl rfl)
theorem dX0_back_22 : decode cX0_back 22 = .ok (.putfield 39, 3) := dk_181 0 39 (dk_at dksX0_back_1 0 rfl rfl)
theorem dX0_back_25 : decode cX0_back 25 = .ok (.iconst 0, 1) := dk_3 (dk_at dksX0_back_1 3 rfl rfl)
theorem dX0_back_26 : decode cX0_back 26 = .ok (.istore_n 1, 1) := dk_60 (dk_at dksX0_back_1 4 rfl rfl)
theorem dX0_back_27 : decode cX0_back 27 = .ok (.iload_n 1, 1) := dk_27 (dk_at dksX0_back_1 5 rfl rfl)
theorem dX0_back_28 : decode cX0_back 28 = .ok (.bipush 8, 2) := dk_16 8 (dk_at dksX0_back_1 6 rfl rfl)
theorem dX0_back_30 : decode cX0_back 30 = .ok (.if_icmp .ge 70, 3) := dk_162 0 70 (dk_at dksX0_back_1 8 rfl rfl)
theorem dX0_back_33 : decode cX0_back 33 = .ok (.aload_n 0, 1) := dk_42 (dk_at dksX0_back_1 11 rfl rfl)
theorem dX0_back_34 : decode cX0_back 34 = .ok (.getfield 50, 3) := dk_180 0 50 (dk_at dksX0_back_1 12 rfl rfl)
theorem dX0_back_37 : decode cX0_back 37 = .ok (.iload_n 1, 1) := dk_27 (dk_at dksX0_back_1 15 rfl rfl)
theorem dX0_back_38 : decode cX0_back 38 = .ok (.aaload, 1) := dk_50 (dk_at dksX0_back_1 16 rfl rfl)
theorem dX0_back_39 : decode cX0_back 39 = .ok (.getfield 100, 3) := dk_180 0 100 (dk_at dksX0_back_1 17 rfl rfl)
theorem dX0_back_42 : decode cX0_back 42 = .ok (.instanceof 10, 3) := dk_193 0 10 (dk_at dksX0_back_1 20 rfl rfl)
theorem dX0_back_45 : decode cX0_back 45 = .ok (.ifCond .eq 49, 3) := dk_153 0 49 (dk_at dksX0_back_2 0 rfl rfl)
theorem dX0_back_48 : decode cX0_back 48 = .ok (.aload_n 0, 1) := dk_42 (dk_at dksX0_back_2 3 rfl rfl)
theorem dX0_back_49 : decode cX0_back 49 = .ok (.getfield 50, 3) := dk_180 0 50 (dk_at dksX0_back_2 4 rfl rfl)
theorem dX0_back_52 : decode cX0_back 52 = .ok (.iload_n 1, 1) := dk_27 (dk_at dksX0_back_2 7 rfl rfl)
theorem dX0_back_53 : decode cX0_back 53 = .ok (.aaload, 1) := dk_50 (dk_at dksX0_back_2 8 rfl rfl)
theorem dX0_back_54 : decode cX0_back 54 = .ok (.getfield 100, 3) := dk_180 0 100 (dk_at dksX0_back_2 9 rfl rfl)
theorem dX0_back_57 : decode cX0_back 57 = .ok (.checkcast 10, 3) := dk_192 0 10 (dk_at dksX0_back_2 12 rfl rfl)
theorem dX0_back_60 : decode cX0_back 60 = .ok (.getfield 140, 3) := dk_180 0 140 (dk_at dksX0_back_2 15 rfl rfl)
theorem dX0_back_63 : decode cX0_back 63 = .ok (.istore_n 2, 1) := dk_61 (dk_at dksX0_back_2 18 rfl rfl)
theorem dX0_back_64 : decode cX0_back 64 = .ok (.aload_n 0, 1) := dk_42 (dk_at dksX0_back_2 19 rfl rfl)
theorem dX0_back_65 : decode cX0_back 65 = .ok (.getfield 50, 3) := dk_180 0 50 (dk_at dksX0_back_2 20 rfl rfl)
theorem dX0_back_68 : decode cX0_back 68 = .ok (.iload_n 1, 1) := dk_27 (dk_at dksX0_back_2 23 rfl rfl)
theorem dX0_back_69 : decode cX0_back 69 = .ok (.aaload, 1) := dk_50 (dk_at dksX0_back_3 0 rfl rfl)
theorem dX0_back_70 : decode cX0_back 70 = .ok (.aload_n 0, 1) := dk_42 (dk_at dksX0_back_3 1 rfl rfl)
theorem dX0_back_71 : decode cX0_back 71 = .ok (.iload_n 2, 1) := dk_28 (dk_at dksX0_back_3 2 rfl rfl)
theorem dX0_back_72 : decode cX0_back 72 = .ok (.invokevirtual 143, 3) := dk_182 0 143 (dk_at dksX0_back_3 3 rfl rfl)
theorem dX0_back_75 : decode cX0_back 75 = .ok (.ifCond .eq 15, 3) := dk_153 0 15 (dk_at dksX0_back_3 6 rfl rfl)
theorem dX0_back_78 : decode cX0_back 78 = .ok (.aload_n 0, 1) := dk_42 (dk_at dksX0_back_3 9 rfl rfl)
theorem dX0_back_79 : decode cX0_back 79 = .ok (.getfield 39, 3) := dk_180 0 39 (dk_at dksX0_back_3 10 rfl rfl)
theorem dX0_back_82 : decode cX0_back 82 = .ok (.getfield 146, 3) := dk_180 0 146 (dk_at dksX0_back_3 13 rfl rfl)
theorem dX0_back_85 : decode cX0_back 85 = .ok (.iload_n 2, 1) := dk_28 (dk_at dksX0_back_3 16 rfl rfl)
theorem dX0_back_86 : decode cX0_back 86 = .ok (.aaload, 1) := dk_50 (dk_at dksX0_back_3 17 rfl rfl)
theorem dX0_back_87 : decode cX0_back 87 = .ok (.goto 4, 3) := dk_167 0 4 (dk_at dksX0_back_3 18 rfl rfl)
theorem dX0_back_90 : decode cX0_back 90 = .ok (.aconst_null, 1) := dk_1 (dk_at dksX0_back_3 21 rfl rfl)
theorem dX0_back_91 : decode cX0_back 91 = .ok (.putfield 100, 3) := dk_181 0 100 (dk_at dksX0_back_4 0 rfl rfl)
theorem dX0_back_94 : decode cX0_back 94 = .ok (.iinc 1 1, 3) := dk_132 1 1 (dk_at dksX0_back_4 3 rfl rfl)
theorem dX0_back_97 : decode cX0_back 97 = .ok (.goto (-70), 3) := dk_167 255 186 (dk_at dksX0_back_4 6 rfl rfl)
theorem dX0_back_100 : decode cX0_back 100 = .ok (.iconst 1, 1) := dk_4 (dk_at dksX0_back_4 9 rfl rfl)
theorem dX0_back_101 : decode cX0_back 101 = .ok (.ireturn, 1) := dk_172 (dk_at dksX0_back_4 10 rfl rfl)
abbrev cX0_status : ByteArray := prog_1_method_85_code
def yX0_status : MethodName := ⟨RX0, "status", "(I)I"⟩
def dkwX0_status_5 : List UInt8 := [172, 42, 180, 0, 209, 172, 42, 180, 0, 39, 180, 1, 88, 172, 42, 182, 1, 101, 172, 2, 172]
abbrev dktX0_status_5 : List UInt8 := dkwX0_status_5 ++ []
def dkwX0_status_4 : List UInt8 := [180, 0, 39, 180, 0, 161, 42, 180, 0, 39, 180, 0, 71, 184, 1, 97, 172, 42, 180, 0, 39, 180, 1, 76]
abbrev dktX0_status_4 : List UInt8 := dkwX0_status_4 ++ dktX0_status_5
def dkwX0_status_3 : List UInt8 := [42, 182, 1, 94, 172, 42, 180, 0, 39, 180, 0, 235, 42, 180, 0, 39, 180, 0, 150, 184, 1, 97, 172, 42]
abbrev dktX0_status_3 : List UInt8 := dkwX0_status_3 ++ dktX0_status_4
def dkwX0_status_2 : List UInt8 := [42, 180, 0, 39, 180, 0, 150, 172, 42, 180, 0, 39, 180, 0, 71, 172, 42, 180, 0, 39, 180, 0, 206, 172]
abbrev dktX0_status_2 : List UInt8 := dkwX0_status_2 ++ dktX0_status_3
def dkwX0_status_1 : List UInt8 := [170, 0, 0, 0, 0, 145, 0, 0, 0, 0, 0, 0, 0, 9, 0, 0, 0, 54, 0, 0, 0, 62, 0, 0, 0, 70, 0, 0, 0, 78, 0, 0, 0, 83, 0, 0, 0, 101, 0, 0, 0, 119, 0, 0, 0, 127, 0, 0, 0, 132, 0, 0, 0, 140]
abbrev dktX0_status_1 : List UInt8 := dkwX0_status_1 ++ dktX0_status_2
def dkwX0_status_0 : List UInt8 := [27, 16, 12, 16, 16, 184, 0, 67, 153, 0, 13, 42, 180, 0, 58, 27, 16, 10, 100, 46, 172, 27]
abbrev dktX0_status_0 : List UInt8 := dkwX0_status_0 ++ dktX0_status_1
theorem dksX0_status_0 : cX0_status.data.toList.drop 0 = dktX0_status_0 := by decide +kernel
theorem dksX0_status_1 : cX0_status.data.toList.drop 22 = dktX0_status_1 := dk_seg dksX0_status_0 22 rfl rfl
theorem dksX0_status_2 : cX0_status.data.toList.drop 76 = dktX0_status_2 := dk_seg dksX0_status_1 54 rfl rfl
theorem dksX0_status_3 : cX0_status.data.toList.drop 100 = dktX0_status_3 := dk_seg dksX0_status_2 24 rfl rfl
theorem dksX0_status_4 : cX0_status.data.toList.drop 124 = dktX0_status_4 := dk_seg dksX0_status_3 24 rfl rfl
theorem dksX0_status_5 : cX0_status.data.toList.drop 148 = dktX0_status_5 := dk_seg dksX0_status_4 24 rfl rfl
theorem dX0_status_0 : decode cX0_status 0 = .ok (.iload_n 1, 1) := dk_27 (dk_at dksX0_status_0 0 rfl rfl)
theorem dX0_status_1 : decode cX0_status 1 = .ok (.bipush 12, 2) := dk_16 12 (dk_at dksX0_status_0 1 rfl rfl)
theorem dX0_status_3 : decode cX0_status 3 = .ok (.bipush 16, 2) := dk_16 16 (dk_at dksX0_status_0 3 rfl rfl)
theorem dX0_status_5 : decode cX0_status 5 = .ok (.invokestatic 67, 3) := dk_184 0 67 (dk_at dksX0_status_0 5 rfl rfl)
theorem dX0_status_8 : decode cX0_status 8 = .ok (.ifCond .eq 13, 3) := dk_153 0 13 (dk_at dksX0_status_0 8 rfl rfl)
theorem dX0_status_11 : decode cX0_status 11 = .ok (.aload_n 0, 1) := dk_42 (dk_at dksX0_status_0 11 rfl rfl)
theorem dX0_status_12 : decode cX0_status 12 = .ok (.getfield 58, 3) := dk_180 0 58 (dk_at dksX0_status_0 12 rfl rfl)
theorem dX0_status_15 : decode cX0_status 15 = .ok (.iload_n 1, 1) := dk_27 (dk_at dksX0_status_0 15 rfl rfl)
theorem dX0_status_16 : decode cX0_status 16 = .ok (.bipush 10, 2) := dk_16 10 (dk_at dksX0_status_0 16 rfl rfl)
theorem dX0_status_18 : decode cX0_status 18 = .ok (.isub, 1) := dk_100 (dk_at dksX0_status_0 18 rfl rfl)
theorem dX0_status_19 : decode cX0_status 19 = .ok (.iaload, 1) := dk_46 (dk_at dksX0_status_0 19 rfl rfl)
theorem dX0_status_20 : decode cX0_status 20 = .ok (.ireturn, 1) := dk_172 (dk_at dksX0_status_0 20 rfl rfl)
theorem dX0_status_21 : decode cX0_status 21 = .ok (.iload_n 1, 1) := dk_27 (dk_at dksX0_status_0 21 rfl rfl)
theorem dX0_status_22 : decode cX0_status 22 = .ok (.tableswitch 145 0 9 #[54, 62, 70, 78, 83, 101, 119, 127, 132, 140], 54) := by decide +kernel
theorem dX0_status_76 : decode cX0_status 76 = .ok (.aload_n 0, 1) := dk_42 (dk_at dksX0_status_2 0 rfl rfl)
theorem dX0_status_77 : decode cX0_status 77 = .ok (.getfield 39, 3) := dk_180 0 39 (dk_at dksX0_status_2 1 rfl rfl)
theorem dX0_status_80 : decode cX0_status 80 = .ok (.getfield 150, 3) := dk_180 0 150 (dk_at dksX0_status_2 4 rfl rfl)
theorem dX0_status_83 : decode cX0_status 83 = .ok (.ireturn, 1) := dk_172 (dk_at dksX0_status_2 7 rfl rfl)
theorem dX0_status_84 : decode cX0_status 84 = .ok (.aload_n 0, 1) := dk_42 (dk_at dksX0_status_2 8 rfl rfl)
theorem dX0_status_85 : decode cX0_status 85 = .ok (.getfield 39, 3) := dk_180 0 39 (dk_at dksX0_status_2 9 rfl rfl)
theorem dX0_status_88 : decode cX0_status 88 = .ok (.getfield 71, 3) := dk_180 0 71 (dk_at dksX0_status_2 12 rfl rfl)
theorem dX0_status_91 : decode cX0_status 91 = .ok (.ireturn, 1) := dk_172 (dk_at dksX0_status_2 15 rfl rfl)
theorem dX0_status_92 : decode cX0_status 92 = .ok (.aload_n 0, 1) := dk_42 (dk_at dksX0_status_2 16 rfl rfl)
theorem dX0_status_93 : decode cX0_status 93 = .ok (.getfield 39, 3) := dk_180 0 39 (dk_at dksX0_status_2 17 rfl rfl)
theorem dX0_status_96 : decode cX0_status 96 = .ok (.getfield 206, 3) := dk_180 0 206 (dk_at dksX0_status_2 20 rfl rfl)
theorem dX0_status_99 : decode cX0_status 99 = .ok (.ireturn, 1) := dk_172 (dk_at dksX0_status_2 23 rfl rfl)
theorem dX0_status_100 : decode cX0_status 100 = .ok (.aload_n 0, 1) := dk_42 (dk_at dksX0_status_3 0 rfl rfl)
theorem dX0_status_101 : decode cX0_status 101 = .ok (.invokevirtual 350, 3) := dk_182 1 94 (dk_at dksX0_status_3 1 rfl rfl)
theorem dX0_status_104 : decode cX0_status 104 = .ok (.ireturn, 1) := dk_172 (dk_at dksX0_status_3 4 rfl rfl)
theorem dX0_status_105 : decode cX0_status 105 = .ok (.aload_n 0, 1) := dk_42 (dk_at dksX0_status_3 5 rfl rfl)
theorem dX0_status_106 : decode cX0_status 106 = .ok (.getfield 39, 3) := dk_180 0 39 (dk_at dksX0_status_3 6 rfl rfl)
theorem dX0_status_109 : decode cX0_status 109 = .ok (.getfield 235, 3) := dk_180 0 235 (dk_at dksX0_status_3 9 rfl rfl)
theorem dX0_status_112 : decode cX0_status 112 = .ok (.aload_n 0, 1) := dk_42 (dk_at dksX0_status_3 12 rfl rfl)
theorem dX0_status_113 : decode cX0_status 113 = .ok (.getfield 39, 3) := dk_180 0 39 (dk_at dksX0_status_3 13 rfl rfl)
theorem dX0_status_116 : decode cX0_status 116 = .ok (.getfield 150, 3) := dk_180 0 150 (dk_at dksX0_status_3 16 rfl rfl)
theorem dX0_status_119 : decode cX0_status 119 = .ok (.invokestatic 353, 3) := dk_184 1 97 (dk_at dksX0_status_3 19 rfl rfl)
theorem dX0_status_122 : decode cX0_status 122 = .ok (.ireturn, 1) := dk_172 (dk_at dksX0_status_3 22 rfl rfl)
theorem dX0_status_123 : decode cX0_status 123 = .ok (.aload_n 0, 1) := dk_42 (dk_at dksX0_status_3 23 rfl rfl)
theorem dX0_status_124 : decode cX0_status 124 = .ok (.getfield 39, 3) := dk_180 0 39 (dk_at dksX0_status_4 0 rfl rfl)
theorem dX0_status_127 : decode cX0_status 127 = .ok (.getfield 161, 3) := dk_180 0 161 (dk_at dksX0_status_4 3 rfl rfl)
theorem dX0_status_130 : decode cX0_status 130 = .ok (.aload_n 0, 1) := dk_42 (dk_at dksX0_status_4 6 rfl rfl)
theorem dX0_status_131 : decode cX0_status 131 = .ok (.getfield 39, 3) := dk_180 0 39 (dk_at dksX0_status_4 7 rfl rfl)
theorem dX0_status_134 : decode cX0_status 134 = .ok (.getfield 71, 3) := dk_180 0 71 (dk_at dksX0_status_4 10 rfl rfl)
theorem dX0_status_137 : decode cX0_status 137 = .ok (.invokestatic 353, 3) := dk_184 1 97 (dk_at dksX0_status_4 13 rfl rfl)
theorem dX0_status_140 : decode cX0_status 140 = .ok (.ireturn, 1) := dk_172 (dk_at dksX0_status_4 16 rfl rfl)
theorem dX0_status_141 : decode cX0_status 141 = .ok (.aload_n 0, 1) := dk_42 (dk_at dksX0_status_4 17 rfl rfl)
theorem dX0_status_142 : decode cX0_status 142 = .ok (.getfield 39, 3) := dk_180 0 39 (dk_at dksX0_status_4 18 rfl rfl)
theorem dX0_status_145 : decode cX0_status 145 = .ok (.getfield 332, 3) := dk_180 1 76 (dk_at dksX0_status_4 21 rfl rfl)
theorem dX0_status_148 : decode cX0_status 148 = .ok (.ireturn, 1) := dk_172 (dk_at dksX0_status_5 0 rfl rfl)
theorem dX0_status_149 : decode cX0_status 149 = .ok (.aload_n 0, 1) := dk_42 (dk_at dksX0_status_5 1 rfl rfl)
theorem dX0_status_150 : decode cX0_status 150 = .ok (.getfield 209, 3) := dk_180 0 209 (dk_at dksX0_status_5 2 rfl rfl)
theorem dX0_status_153 : decode cX0_status 153 = .ok (.ireturn, 1) := dk_172 (dk_at dksX0_status_5 5 rfl rfl)
theorem dX0_status_154 : decode cX0_status 154 = .ok (.aload_n 0, 1) := dk_42 (dk_at dksX0_status_5 6 rfl rfl)
theorem dX0_status_155 : decode cX0_status 155 = .ok (.getfield 39, 3) := dk_180 0 39 (dk_at dksX0_status_5 7 rfl rfl)
theorem dX0_status_158 : decode cX0_status 158 = .ok (.getfield 344, 3) := dk_180 1 88 (dk_at dksX0_status_5 10 rfl rfl)
theorem dX0_status_161 : decode cX0_status 161 = .ok (.ireturn, 1) := dk_172 (dk_at dksX0_status_5 13 rfl rfl)
theorem dX0_status_162 : decode cX0_status 162 = .ok (.aload_n 0, 1) := dk_42 (dk_at dksX0_status_5 14 rfl rfl)
theorem dX0_status_163 : decode cX0_status 163 = .ok (.invokevirtual 357, 3) := dk_182 1 101 (dk_at dksX0_status_5 15 rfl rfl)
theorem dX0_status_166 : decode cX0_status 166 = .ok (.ireturn, 1) := dk_172 (dk_at dksX0_status_5 18 rfl rfl)
theorem dX0_status_167 : decode cX0_status 167 = .ok (.iconst (-1), 1) := dk_2 (dk_at dksX0_status_5 19 rfl rfl)
theorem dX0_status_168 : decode cX0_status 168 = .ok (.ireturn, 1) := dk_172 (dk_at dksX0_status_5 20 rfl rfl)
abbrev cX0_inBook : ByteArray := prog_1_method_83_code
def yX0_inBook : MethodName := ⟨RX0, "inBook", "()I"⟩
def dkwX0_inBook_1 : List UInt8 := [46, 2, 159, 0, 9, 4, 28, 120, 167, 0, 4, 3, 128, 60, 132, 2, 1, 167, 255, 219, 27, 172]
abbrev dktX0_inBook_1 : List UInt8 := dkwX0_inBook_1 ++ []
def dkwX0_inBook_0 : List UInt8 := [3, 60, 3, 61, 28, 42, 180, 0, 39, 180, 0, 150, 162, 0, 32, 27, 42, 180, 0, 39, 180, 0, 189, 28]
abbrev dktX0_inBook_0 : List UInt8 := dkwX0_inBook_0 ++ dktX0_inBook_1
theorem dksX0_inBook_0 : cX0_inBook.data.toList.drop 0 = dktX0_inBook_0 := by decide +kernel
theorem dksX0_inBook_1 : cX0_inBook.data.toList.drop 24 = dktX0_inBook_1 := dk_seg dksX0_inBook_0 24 rfl rfl
theorem dX0_inBook_0 : decode cX0_inBook 0 = .ok (.iconst 0, 1) := dk_3 (dk_at dksX0_inBook_0 0 rfl rfl)
theorem dX0_inBook_1 : decode cX0_inBook 1 = .ok (.istore_n 1, 1) := dk_60 (dk_at dksX0_inBook_0 1 rfl rfl)
theorem dX0_inBook_2 : decode cX0_inBook 2 = .ok (.iconst 0, 1) := dk_3 (dk_at dksX0_inBook_0 2 rfl rfl)
theorem dX0_inBook_3 : decode cX0_inBook 3 = .ok (.istore_n 2, 1) := dk_61 (dk_at dksX0_inBook_0 3 rfl rfl)
theorem dX0_inBook_4 : decode cX0_inBook 4 = .ok (.iload_n 2, 1) := dk_28 (dk_at dksX0_inBook_0 4 rfl rfl)
theorem dX0_inBook_5 : decode cX0_inBook 5 = .ok (.aload_n 0, 1) := dk_42 (dk_at dksX0_inBook_0 5 rfl rfl)
theorem dX0_inBook_6 : decode cX0_inBook 6 = .ok (.getfield 39, 3) := dk_180 0 39 (dk_at dksX0_inBook_0 6 rfl rfl)
theorem dX0_inBook_9 : decode cX0_inBook 9 = .ok (.getfield 150, 3) := dk_180 0 150 (dk_at dksX0_inBook_0 9 rfl rfl)
theorem dX0_inBook_12 : decode cX0_inBook 12 = .ok (.if_icmp .ge 32, 3) := dk_162 0 32 (dk_at dksX0_inBook_0 12 rfl rfl)
theorem dX0_inBook_15 : decode cX0_inBook 15 = .ok (.iload_n 1, 1) := dk_27 (dk_at dksX0_inBook_0 15 rfl rfl)
theorem dX0_inBook_16 : decode cX0_inBook 16 = .ok (.aload_n 0, 1) := dk_42 (dk_at dksX0_inBook_0 16 rfl rfl)
theorem dX0_inBook_17 : decode cX0_inBook 17 = .ok (.getfield 39, 3) := dk_180 0 39 (dk_at dksX0_inBook_0 17 rfl rfl)
theorem dX0_inBook_20 : decode cX0_inBook 20 = .ok (.getfield 189, 3) := dk_180 0 189 (dk_at dksX0_inBook_0 20 rfl rfl)
theorem dX0_inBook_23 : decode cX0_inBook 23 = .ok (.iload_n 2, 1) := dk_28 (dk_at dksX0_inBook_0 23 rfl rfl)
theorem dX0_inBook_24 : decode cX0_inBook 24 = .ok (.iaload, 1) := dk_46 (dk_at dksX0_inBook_1 0 rfl rfl)
theorem dX0_inBook_25 : decode cX0_inBook 25 = .ok (.iconst (-1), 1) := dk_2 (dk_at dksX0_inBook_1 1 rfl rfl)
theorem dX0_inBook_26 : decode cX0_inBook 26 = .ok (.if_icmp .eq 9, 3) := dk_159 0 9 (dk_at dksX0_inBook_1 2 rfl rfl)
theorem dX0_inBook_29 : decode cX0_inBook 29 = .ok (.iconst 1, 1) := dk_4 (dk_at dksX0_inBook_1 5 rfl rfl)
theorem dX0_inBook_30 : decode cX0_inBook 30 = .ok (.iload_n 2, 1) := dk_28 (dk_at dksX0_inBook_1 6 rfl rfl)
theorem dX0_inBook_31 : decode cX0_inBook 31 = .ok (.ishl, 1) := dk_120 (dk_at dksX0_inBook_1 7 rfl rfl)
theorem dX0_inBook_32 : decode cX0_inBook 32 = .ok (.goto 4, 3) := dk_167 0 4 (dk_at dksX0_inBook_1 8 rfl rfl)
theorem dX0_inBook_35 : decode cX0_inBook 35 = .ok (.iconst 0, 1) := dk_3 (dk_at dksX0_inBook_1 11 rfl rfl)
theorem dX0_inBook_36 : decode cX0_inBook 36 = .ok (.ior, 1) := dk_128 (dk_at dksX0_inBook_1 12 rfl rfl)
theorem dX0_inBook_37 : decode cX0_inBook 37 = .ok (.istore_n 1, 1) := dk_60 (dk_at dksX0_inBook_1 13 rfl rfl)
theorem dX0_inBook_38 : decode cX0_inBook 38 = .ok (.iinc 2 1, 3) := dk_132 2 1 (dk_at dksX0_inBook_1 14 rfl rfl)
theorem dX0_inBook_41 : decode cX0_inBook 41 = .ok (.goto (-37), 3) := dk_167 255 219 (dk_at dksX0_inBook_1 17 rfl rfl)
theorem dX0_inBook_44 : decode cX0_inBook 44 = .ok (.iload_n 1, 1) := dk_27 (dk_at dksX0_inBook_1 20 rfl rfl)
theorem dX0_inBook_45 : decode cX0_inBook 45 = .ok (.ireturn, 1) := dk_172 (dk_at dksX0_inBook_1 21 rfl rfl)
abbrev cX0_summed : ByteArray := prog_1_method_84_code
def yX0_summed : MethodName := ⟨RX0, "summed", "([II)I"⟩
def dkwX0_summed_0 : List UInt8 := [3, 61, 3, 62, 29, 27, 162, 0, 15, 28, 42, 29, 46, 96, 61, 132, 3, 1, 167, 255, 242, 28, 172]
abbrev dktX0_summed_0 : List UInt8 := dkwX0_summed_0 ++ []
theorem dksX0_summed_0 : cX0_summed.data.toList.drop 0 = dktX0_summed_0 := by decide +kernel
theorem dX0_summed_0 : decode cX0_summed 0 = .ok (.iconst 0, 1) := dk_3 (dk_at dksX0_summed_0 0 rfl rfl)
theorem dX0_summed_1 : decode cX0_summed 1 = .ok (.istore_n 2, 1) := dk_61 (dk_at dksX0_summed_0 1 rfl rfl)
theorem dX0_summed_2 : decode cX0_summed 2 = .ok (.iconst 0, 1) := dk_3 (dk_at dksX0_summed_0 2 rfl rfl)
theorem dX0_summed_3 : decode cX0_summed 3 = .ok (.istore_n 3, 1) := dk_62 (dk_at dksX0_summed_0 3 rfl rfl)
theorem dX0_summed_4 : decode cX0_summed 4 = .ok (.iload_n 3, 1) := dk_29 (dk_at dksX0_summed_0 4 rfl rfl)
theorem dX0_summed_5 : decode cX0_summed 5 = .ok (.iload_n 1, 1) := dk_27 (dk_at dksX0_summed_0 5 rfl rfl)
theorem dX0_summed_6 : decode cX0_summed 6 = .ok (.if_icmp .ge 15, 3) := dk_162 0 15 (dk_at dksX0_summed_0 6 rfl rfl)
theorem dX0_summed_9 : decode cX0_summed 9 = .ok (.iload_n 2, 1) := dk_28 (dk_at dksX0_summed_0 9 rfl rfl)
theorem dX0_summed_10 : decode cX0_summed 10 = .ok (.aload_n 0, 1) := dk_42 (dk_at dksX0_summed_0 10 rfl rfl)
theorem dX0_summed_11 : decode cX0_summed 11 = .ok (.iload_n 3, 1) := dk_29 (dk_at dksX0_summed_0 11 rfl rfl)
theorem dX0_summed_12 : decode cX0_summed 12 = .ok (.iaload, 1) := dk_46 (dk_at dksX0_summed_0 12 rfl rfl)
theorem dX0_summed_13 : decode cX0_summed 13 = .ok (.iadd, 1) := dk_96 (dk_at dksX0_summed_0 13 rfl rfl)
theorem dX0_summed_14 : decode cX0_summed 14 = .ok (.istore_n 2, 1) := dk_61 (dk_at dksX0_summed_0 14 rfl rfl)
theorem dX0_summed_15 : decode cX0_summed 15 = .ok (.iinc 3 1, 3) := dk_132 3 1 (dk_at dksX0_summed_0 15 rfl rfl)
theorem dX0_summed_18 : decode cX0_summed 18 = .ok (.goto (-14), 3) := dk_167 255 242 (dk_at dksX0_summed_0 18 rfl rfl)
theorem dX0_summed_21 : decode cX0_summed 21 = .ok (.iload_n 2, 1) := dk_28 (dk_at dksX0_summed_0 21 rfl rfl)
theorem dX0_summed_22 : decode cX0_summed 22 = .ok (.ireturn, 1) := dk_172 (dk_at dksX0_summed_0 22 rfl rfl)
abbrev cX0_held : ByteArray := prog_1_method_82_code
def yX0_held : MethodName := ⟨RX0, "held", "()I"⟩
def dkwX0_held_1 : List UInt8 := [167, 0, 4, 3, 96, 60, 132, 2, 1, 167, 255, 227, 27, 172]
abbrev dktX0_held_1 : List UInt8 := dkwX0_held_1 ++ []
def dkwX0_held_0 : List UInt8 := [3, 60, 3, 61, 28, 16, 8, 162, 0, 29, 27, 42, 180, 0, 50, 28, 50, 180, 0, 100, 198, 0, 7, 4]
abbrev dktX0_held_0 : List UInt8 := dkwX0_held_0 ++ dktX0_held_1
theorem dksX0_held_0 : cX0_held.data.toList.drop 0 = dktX0_held_0 := by decide +kernel
theorem dksX0_held_1 : cX0_held.data.toList.drop 24 = dktX0_held_1 := dk_seg dksX0_held_0 24 rfl rfl
theorem dX0_held_0 : decode cX0_held 0 = .ok (.iconst 0, 1) := dk_3 (dk_at dksX0_held_0 0 rfl rfl)
theorem dX0_held_1 : decode cX0_held 1 = .ok (.istore_n 1, 1) := dk_60 (dk_at dksX0_held_0 1 rfl rfl)
theorem dX0_held_2 : decode cX0_held 2 = .ok (.iconst 0, 1) := dk_3 (dk_at dksX0_held_0 2 rfl rfl)
theorem dX0_held_3 : decode cX0_held 3 = .ok (.istore_n 2, 1) := dk_61 (dk_at dksX0_held_0 3 rfl rfl)
theorem dX0_held_4 : decode cX0_held 4 = .ok (.iload_n 2, 1) := dk_28 (dk_at dksX0_held_0 4 rfl rfl)
theorem dX0_held_5 : decode cX0_held 5 = .ok (.bipush 8, 2) := dk_16 8 (dk_at dksX0_held_0 5 rfl rfl)
theorem dX0_held_7 : decode cX0_held 7 = .ok (.if_icmp .ge 29, 3) := dk_162 0 29 (dk_at dksX0_held_0 7 rfl rfl)
theorem dX0_held_10 : decode cX0_held 10 = .ok (.iload_n 1, 1) := dk_27 (dk_at dksX0_held_0 10 rfl rfl)
theorem dX0_held_11 : decode cX0_held 11 = .ok (.aload_n 0, 1) := dk_42 (dk_at dksX0_held_0 11 rfl rfl)
theorem dX0_held_12 : decode cX0_held 12 = .ok (.getfield 50, 3) := dk_180 0 50 (dk_at dksX0_held_0 12 rfl rfl)
theorem dX0_held_15 : decode cX0_held 15 = .ok (.iload_n 2, 1) := dk_28 (dk_at dksX0_held_0 15 rfl rfl)
theorem dX0_held_16 : decode cX0_held 16 = .ok (.aaload, 1) := dk_50 (dk_at dksX0_held_0 16 rfl rfl)
theorem dX0_held_17 : decode cX0_held 17 = .ok (.getfield 100, 3) := dk_180 0 100 (dk_at dksX0_held_0 17 rfl rfl)
theorem dX0_held_20 : decode cX0_held 20 = .ok (.ifnull 7, 3) := dk_198 0 7 (dk_at dksX0_held_0 20 rfl rfl)
theorem dX0_held_23 : decode cX0_held 23 = .ok (.iconst 1, 1) := dk_4 (dk_at dksX0_held_0 23 rfl rfl)
theorem dX0_held_24 : decode cX0_held 24 = .ok (.goto 4, 3) := dk_167 0 4 (dk_at dksX0_held_1 0 rfl rfl)
theorem dX0_held_27 : decode cX0_held 27 = .ok (.iconst 0, 1) := dk_3 (dk_at dksX0_held_1 3 rfl rfl)
theorem dX0_held_28 : decode cX0_held 28 = .ok (.iadd, 1) := dk_96 (dk_at dksX0_held_1 4 rfl rfl)
theorem dX0_held_29 : decode cX0_held 29 = .ok (.istore_n 1, 1) := dk_60 (dk_at dksX0_held_1 5 rfl rfl)
theorem dX0_held_30 : decode cX0_held 30 = .ok (.iinc 2 1, 3) := dk_132 2 1 (dk_at dksX0_held_1 6 rfl rfl)
theorem dX0_held_33 : decode cX0_held 33 = .ok (.goto (-29), 3) := dk_167 255 227 (dk_at dksX0_held_1 9 rfl rfl)
theorem dX0_held_36 : decode cX0_held 36 = .ok (.iload_n 1, 1) := dk_27 (dk_at dksX0_held_1 12 rfl rfl)
theorem dX0_held_37 : decode cX0_held 37 = .ok (.ireturn, 1) := dk_172 (dk_at dksX0_held_1 13 rfl rfl)
theorem q76 : (Jvm.Cond.initialized "EverybodyHasTheBook") ∈ lw_all := lw_g (lw_at lw_m1 1 rfl) rfl
theorem q111 : (Jvm.Cond.instantiable "EverybodyHasTheBook" (7 : Nat)) ∈ lw_all := lw_g (lw_at lw_m1 36 rfl) rfl
theorem q113 : (Jvm.Cond.instanceMethod ({ cls := "EverybodyHasTheBook", name := "<init>", desc := "()V" } : Jvm.MethodName)) ∈ lw_all := lw_g (lw_at lw_m1 38 rfl) rfl
theorem q114 : (Jvm.Cond.code ({ cls := "EverybodyHasTheBook", name := "<init>", desc := "()V" } : Jvm.MethodName) prog_1_method_5_code (2 : Nat) (Option.none : Option Jvm.ClassFile.FieldType)) ∈ lw_all := lw_g (lw_at lw_m1 39 rfl) rfl
theorem q115 : (Jvm.Cond.methodLink "EverybodyHasTheBook" (31 : Nat) ({ cls := "java/lang/Object", name := "<init>", desc := "()V" } : Jvm.MethodName)) ∈ lw_all := lw_g (lw_at lw_m1 40 rfl) rfl
theorem q118 : (Jvm.Cond.classLink "EverybodyHasTheBook" (36 : Nat) "EverybodyHasTheBook$Valley") ∈ lw_all := lw_g (lw_at lw_m1 43 rfl) rfl
theorem q120 : (Jvm.Cond.methodLinkNest "EverybodyHasTheBook" (38 : Nat) ({ cls := "EverybodyHasTheBook$Valley", name := "<init>", desc := "()V" } : Jvm.MethodName) "EverybodyHasTheBook") ∈ lw_tbl := lw_at lw_m1 45 rfl
theorem q131 : (Jvm.Cond.fieldLink "EverybodyHasTheBook" (183 : Nat) "EverybodyHasTheBook$Valley" "good" "[I") ∈ lw_all := lw_g (lw_at lw_m1 56 rfl) rfl
theorem q133 : (Jvm.Cond.fieldLink "EverybodyHasTheBook" (232 : Nat) "EverybodyHasTheBook$Valley" "base" "[I") ∈ lw_all := lw_g (lw_at lw_m1 58 rfl) rfl
theorem q135 : (Jvm.Cond.fieldLink "EverybodyHasTheBook" (235 : Nat) "EverybodyHasTheBook$Valley" "rooms" "[I") ∈ lw_all := lw_g (lw_at lw_m1 60 rfl) rfl
theorem q139 : (Jvm.Cond.fieldLink "EverybodyHasTheBook" (186 : Nat) "EverybodyHasTheBook$Valley" "price" "[I") ∈ lw_all := lw_g (lw_at lw_m1 64 rfl) rfl
theorem q145 : (Jvm.Cond.fieldLink "EverybodyHasTheBook" (189 : Nat) "EverybodyHasTheBook$Valley" "said" "[I") ∈ lw_all := lw_g (lw_at lw_m1 70 rfl) rfl
theorem q149 : (Jvm.Cond.fieldLink "EverybodyHasTheBook" (200 : Nat) "EverybodyHasTheBook$Valley" "letters" "[I") ∈ lw_all := lw_g (lw_at lw_m1 74 rfl) rfl
theorem q152 : (Jvm.Cond.fieldLink "EverybodyHasTheBook" (238 : Nat) "EverybodyHasTheBook$Valley" "sum" "[I") ∈ lw_all := lw_g (lw_at lw_m1 77 rfl) rfl
theorem q154 : (Jvm.Cond.fieldLink "EverybodyHasTheBook" (146 : Nat) "EverybodyHasTheBook$Valley" "goer" "[LEverybodyHasTheBook$Goer;") ∈ lw_all := lw_g (lw_at lw_m1 79 rfl) rfl
theorem q156 : (Jvm.Cond.fieldLink "EverybodyHasTheBook" (161 : Nat) "EverybodyHasTheBook$Valley" "heads" "[I") ∈ lw_all := lw_g (lw_at lw_m1 81 rfl) rfl
theorem q158 : (Jvm.Cond.fieldLink "EverybodyHasTheBook" (256 : Nat) "EverybodyHasTheBook$Valley" "sleeps" "[[I") ∈ lw_all := lw_g (lw_at lw_m1 83 rfl) rfl
theorem q160 : (Jvm.Cond.fieldLink "EverybodyHasTheBook" (260 : Nat) "EverybodyHasTheBook$Valley" "guests" "[I") ∈ lw_all := lw_g (lw_at lw_m1 85 rfl) rfl
theorem q162 : (Jvm.Cond.fieldLink "EverybodyHasTheBook" (263 : Nat) "EverybodyHasTheBook$Valley" "out" "[I") ∈ lw_all := lw_g (lw_at lw_m1 87 rfl) rfl
theorem q167 : (Jvm.Cond.fieldLink "EverybodyHasTheBook" (150 : Nat) "EverybodyHasTheBook$Valley" "inns" "I") ∈ lw_all := lw_g (lw_at lw_m1 92 rfl) rfl
theorem q170 : (Jvm.Cond.fieldLink "EverybodyHasTheBook" (71 : Nat) "EverybodyHasTheBook$Valley" "goers" "I") ∈ lw_all := lw_g (lw_at lw_m1 95 rfl) rfl
theorem q174 : (Jvm.Cond.fieldLink "EverybodyHasTheBook" (206 : Nat) "EverybodyHasTheBook$Valley" "age" "I") ∈ lw_all := lw_g (lw_at lw_m1 99 rfl) rfl
theorem q176 : (Jvm.Cond.fieldLink "EverybodyHasTheBook" (344 : Nat) "EverybodyHasTheBook$Valley" "seed" "I") ∈ lw_all := lw_g (lw_at lw_m1 101 rfl) rfl
theorem q178 : (Jvm.Cond.fieldLink "EverybodyHasTheBook" (332 : Nat) "EverybodyHasTheBook$Valley" "gone" "I") ∈ lw_all := lw_g (lw_at lw_m1 103 rfl) rfl
theorem q215 : (Jvm.Cond.classLink "EverybodyHasTheBook" (48 : Nat) "EverybodyHasTheBook$Sheet") ∈ lw_all := lw_g (lw_at lw_m1 140 rfl) rfl
theorem q218 : (Jvm.Cond.methodLinkNest "EverybodyHasTheBook" (61 : Nat) ({ cls := "EverybodyHasTheBook$Sheet", name := "<init>", desc := "()V" } : Jvm.MethodName) "EverybodyHasTheBook") ∈ lw_tbl := lw_at lw_m1 143 rfl
theorem q222 : (Jvm.Cond.fieldLink "EverybodyHasTheBook" (100 : Nat) "EverybodyHasTheBook$Sheet" "held" "Ljava/lang/Object;") ∈ lw_all := lw_g (lw_at lw_m1 147 rfl) rfl
theorem q227 : (Jvm.Cond.fieldLink "EverybodyHasTheBook" (39 : Nat) "EverybodyHasTheBook" "now" "LEverybodyHasTheBook$Valley;") ∈ lw_all := lw_g (lw_at lw_m1 152 rfl) rfl
theorem q228 : (Jvm.Cond.fieldLink "EverybodyHasTheBook" (347 : Nat) "EverybodyHasTheBook" "image" "LEverybodyHasTheBook$Valley;") ∈ lw_all := lw_g (lw_at lw_m1 153 rfl) rfl
theorem q229 : (Jvm.Cond.fieldLink "EverybodyHasTheBook" (45 : Nat) "EverybodyHasTheBook" "tried" "LEverybodyHasTheBook$Valley;") ∈ lw_all := lw_g (lw_at lw_m1 154 rfl) rfl
theorem q230 : (Jvm.Cond.fieldLink "EverybodyHasTheBook" (50 : Nat) "EverybodyHasTheBook" "shelves" "[LEverybodyHasTheBook$Sheet;") ∈ lw_all := lw_g (lw_at lw_m1 155 rfl) rfl
theorem q231 : (Jvm.Cond.fieldLink "EverybodyHasTheBook" (54 : Nat) "EverybodyHasTheBook" "tape" "[I") ∈ lw_all := lw_g (lw_at lw_m1 156 rfl) rfl
theorem q232 : (Jvm.Cond.fieldLink "EverybodyHasTheBook" (209 : Nat) "EverybodyHasTheBook" "size" "I") ∈ lw_all := lw_g (lw_at lw_m1 157 rfl) rfl
theorem q233 : (Jvm.Cond.fieldLink "EverybodyHasTheBook" (58 : Nat) "EverybodyHasTheBook" "refused" "[I") ∈ lw_all := lw_g (lw_at lw_m1 158 rfl) rfl
theorem q234 : (Jvm.Cond.lays "EverybodyHasTheBook" "EverybodyHasTheBook" "now" "LEverybodyHasTheBook$Valley;") ∈ lw_all := lw_g (lw_at lw_m1 159 rfl) rfl
theorem q235 : (Jvm.Cond.soleField "EverybodyHasTheBook" "now") ∈ lw_all := lw_g (lw_at lw_m1 160 rfl) rfl
theorem q236 : (Jvm.Cond.lays "EverybodyHasTheBook" "EverybodyHasTheBook" "image" "LEverybodyHasTheBook$Valley;") ∈ lw_all := lw_g (lw_at lw_m1 161 rfl) rfl
theorem q237 : (Jvm.Cond.soleField "EverybodyHasTheBook" "image") ∈ lw_all := lw_g (lw_at lw_m1 162 rfl) rfl
theorem q238 : (Jvm.Cond.laysFinal "EverybodyHasTheBook" "EverybodyHasTheBook" "tried" "LEverybodyHasTheBook$Valley;") ∈ lw_all := lw_g (lw_at lw_m1 163 rfl) rfl
theorem q239 : (Jvm.Cond.soleField "EverybodyHasTheBook" "tried") ∈ lw_all := lw_g (lw_at lw_m1 164 rfl) rfl
theorem q240 : (Jvm.Cond.laysFinal "EverybodyHasTheBook" "EverybodyHasTheBook" "shelves" "[LEverybodyHasTheBook$Sheet;") ∈ lw_all := lw_g (lw_at lw_m1 165 rfl) rfl
theorem q241 : (Jvm.Cond.soleField "EverybodyHasTheBook" "shelves") ∈ lw_all := lw_g (lw_at lw_m1 166 rfl) rfl
theorem q242 : (Jvm.Cond.laysFinal "EverybodyHasTheBook" "EverybodyHasTheBook" "tape" "[I") ∈ lw_all := lw_g (lw_at lw_m1 167 rfl) rfl
theorem q243 : (Jvm.Cond.soleField "EverybodyHasTheBook" "tape") ∈ lw_all := lw_g (lw_at lw_m1 168 rfl) rfl
theorem q244 : (Jvm.Cond.lays "EverybodyHasTheBook" "EverybodyHasTheBook" "size" "I") ∈ lw_all := lw_g (lw_at lw_m1 169 rfl) rfl
theorem q245 : (Jvm.Cond.soleField "EverybodyHasTheBook" "size") ∈ lw_all := lw_g (lw_at lw_m1 170 rfl) rfl
theorem q246 : (Jvm.Cond.laysFinal "EverybodyHasTheBook" "EverybodyHasTheBook" "refused" "[I") ∈ lw_all := lw_g (lw_at lw_m1 171 rfl) rfl
theorem q247 : (Jvm.Cond.soleField "EverybodyHasTheBook" "refused") ∈ lw_all := lw_g (lw_at lw_m1 172 rfl) rfl
theorem q248 : (Jvm.Cond.superclass "EverybodyHasTheBook" "java/lang/Object") ∈ lw_all := lw_g (lw_at lw_m1 173 rfl) rfl
theorem q250 : (Jvm.Cond.instanceMethod ({ cls := "EverybodyHasTheBook", name := "row", desc := "(III)I" } : Jvm.MethodName)) ∈ lw_all := lw_g (lw_at lw_m1 175 rfl) rfl
theorem q251 : (Jvm.Cond.selects "EverybodyHasTheBook" ({ cls := "EverybodyHasTheBook", name := "row", desc := "(III)I" } : Jvm.MethodName) ({ cls := "EverybodyHasTheBook", name := "row", desc := "(III)I" } : Jvm.MethodName)) ∈ lw_all := lw_g (lw_at lw_m1 176 rfl) rfl
theorem q252 : (Jvm.Cond.codeWith ({ cls := "EverybodyHasTheBook", name := "row", desc := "(III)I" } : Jvm.MethodName) prog_1_method_16_code (5 : Nat) (Option.some Jvm.ClassFile.FieldType.int) [((29 : Nat), (43 : Nat), (46 : Nat), (104 : Nat))]) ∈ lw_all := lw_g (lw_at lw_m1 177 rfl) rfl
theorem q253 : (Jvm.Cond.classLink "EverybodyHasTheBook" (104 : Nat) "java/lang/NegativeArraySizeException") ∈ lw_all := lw_g (lw_at lw_m1 178 rfl) rfl
theorem q341 : (Jvm.Cond.methodLink "EverybodyHasTheBook" (92 : Nat) ({ cls := "EverybodyHasTheBook", name := "isShelf", desc := "(I)Z" } : Jvm.MethodName)) ∈ lw_all := lw_g (lw_at lw_m2 26 rfl) rfl
theorem q342 : (Jvm.Cond.static ({ cls := "EverybodyHasTheBook", name := "isShelf", desc := "(I)Z" } : Jvm.MethodName)) ∈ lw_all := lw_g (lw_at lw_m2 27 rfl) rfl
theorem q343 : (Jvm.Cond.code ({ cls := "EverybodyHasTheBook", name := "isShelf", desc := "(I)Z" } : Jvm.MethodName) prog_1_method_8_code (1 : Nat) (Option.some Jvm.ClassFile.FieldType.boolean)) ∈ lw_all := lw_g (lw_at lw_m2 28 rfl) rfl
theorem q344 : (Jvm.Cond.methodLink "EverybodyHasTheBook" (67 : Nat) ({ cls := "EverybodyHasTheBook", name := "isIn", desc := "(III)Z" } : Jvm.MethodName)) ∈ lw_all := lw_g (lw_at lw_m2 29 rfl) rfl
theorem q345 : (Jvm.Cond.static ({ cls := "EverybodyHasTheBook", name := "isIn", desc := "(III)Z" } : Jvm.MethodName)) ∈ lw_all := lw_g (lw_at lw_m2 30 rfl) rfl
theorem q346 : (Jvm.Cond.code ({ cls := "EverybodyHasTheBook", name := "isIn", desc := "(III)Z" } : Jvm.MethodName) prog_1_method_1_code (3 : Nat) (Option.some Jvm.ClassFile.FieldType.boolean)) ∈ lw_all := lw_g (lw_at lw_m2 31 rfl) rfl
theorem q347 : (Jvm.Cond.methodLink "EverybodyHasTheBook" (63 : Nat) ({ cls := "EverybodyHasTheBook", name := "no", desc := "(I)I" } : Jvm.MethodName)) ∈ lw_all := lw_g (lw_at lw_m2 32 rfl) rfl
theorem q348 : (Jvm.Cond.privateMethod ({ cls := "EverybodyHasTheBook", name := "no", desc := "(I)I" } : Jvm.MethodName)) ∈ lw_tbl := lw_at lw_m2 33 rfl
theorem q349 : (Jvm.Cond.instanceMethod ({ cls := "EverybodyHasTheBook", name := "no", desc := "(I)I" } : Jvm.MethodName)) ∈ lw_all := lw_g (lw_at lw_m2 34 rfl) rfl
theorem q350 : (Jvm.Cond.code ({ cls := "EverybodyHasTheBook", name := "no", desc := "(I)I" } : Jvm.MethodName) prog_1_method_6_code (2 : Nat) (Option.some Jvm.ClassFile.FieldType.int)) ∈ lw_all := lw_g (lw_at lw_m2 35 rfl) rfl
theorem q351 : (Jvm.Cond.methodLink "EverybodyHasTheBook" (96 : Nat) ({ cls := "EverybodyHasTheBook", name := "rowOf", desc := "(II)Ljava/lang/Object;" } : Jvm.MethodName)) ∈ lw_all := lw_g (lw_at lw_m2 36 rfl) rfl
theorem q352 : (Jvm.Cond.static ({ cls := "EverybodyHasTheBook", name := "rowOf", desc := "(II)Ljava/lang/Object;" } : Jvm.MethodName)) ∈ lw_all := lw_g (lw_at lw_m2 37 rfl) rfl
theorem q353 : (Jvm.Cond.code ({ cls := "EverybodyHasTheBook", name := "rowOf", desc := "(II)Ljava/lang/Object;" } : Jvm.MethodName) prog_1_method_12_code (2 : Nat) (Option.some (Jvm.ClassFile.FieldType.object "java/lang/Object"))) ∈ lw_all := lw_g (lw_at lw_m2 38 rfl) rfl
theorem q358 : (Jvm.Cond.instanceMethod ({ cls := "EverybodyHasTheBook", name := "set", desc := "(IIJ)I" } : Jvm.MethodName)) ∈ lw_all := lw_g (lw_at lw_m2 43 rfl) rfl
theorem q359 : (Jvm.Cond.selects "EverybodyHasTheBook" ({ cls := "EverybodyHasTheBook", name := "set", desc := "(IIJ)I" } : Jvm.MethodName) ({ cls := "EverybodyHasTheBook", name := "set", desc := "(IIJ)I" } : Jvm.MethodName)) ∈ lw_all := lw_g (lw_at lw_m2 44 rfl) rfl
theorem q360 : (Jvm.Cond.codeWith ({ cls := "EverybodyHasTheBook", name := "set", desc := "(IIJ)I" } : Jvm.MethodName) prog_1_method_18_code (6 : Nat) (Option.some Jvm.ClassFile.FieldType.int) [((14 : Nat), (25 : Nat), (26 : Nat), (106 : Nat)), ((14 : Nat), (25 : Nat), (38 : Nat), (122 : Nat))]) ∈ lw_all := lw_g (lw_at lw_m2 45 rfl) rfl
theorem q361 : (Jvm.Cond.classLink "EverybodyHasTheBook" (106 : Nat) "EverybodyHasTheBook$Refused") ∈ lw_all := lw_g (lw_at lw_m2 46 rfl) rfl
theorem q362 : (Jvm.Cond.classLink "EverybodyHasTheBook" (122 : Nat) "java/lang/ArrayIndexOutOfBoundsException") ∈ lw_all := lw_g (lw_at lw_m2 47 rfl) rfl
theorem q381 : (Jvm.Cond.methodLink "EverybodyHasTheBook" (111 : Nat) ({ cls := "EverybodyHasTheBook", name := "rowIn", desc := "(I)Ljava/lang/Object;" } : Jvm.MethodName)) ∈ lw_all := lw_g (lw_at lw_m2 66 rfl) rfl
theorem q382 : (Jvm.Cond.privateMethod ({ cls := "EverybodyHasTheBook", name := "rowIn", desc := "(I)Ljava/lang/Object;" } : Jvm.MethodName)) ∈ lw_tbl := lw_at lw_m2 67 rfl
theorem q383 : (Jvm.Cond.instanceMethod ({ cls := "EverybodyHasTheBook", name := "rowIn", desc := "(I)Ljava/lang/Object;" } : Jvm.MethodName)) ∈ lw_all := lw_g (lw_at lw_m2 68 rfl) rfl
theorem q384 : (Jvm.Cond.code ({ cls := "EverybodyHasTheBook", name := "rowIn", desc := "(I)Ljava/lang/Object;" } : Jvm.MethodName) prog_1_method_17_code (3 : Nat) (Option.some (Jvm.ClassFile.FieldType.object "java/lang/Object"))) ∈ lw_all := lw_g (lw_at lw_m2 69 rfl) rfl
theorem q385 : (Jvm.Cond.classLink "EverybodyHasTheBook" (10 : Nat) "EverybodyHasTheBook$Goer") ∈ lw_all := lw_g (lw_at lw_m2 70 rfl) rfl
theorem q394 : (Jvm.Cond.methodLink "EverybodyHasTheBook" (108 : Nat) ({ cls := "EverybodyHasTheBook$Refused", name := "<init>", desc := "(I)V" } : Jvm.MethodName)) ∈ lw_all := lw_g (lw_at lw_m2 79 rfl) rfl
theorem q407 : (Jvm.Cond.fieldLink "EverybodyHasTheBook" (119 : Nat) "EverybodyHasTheBook$Refused" "by" "I") ∈ lw_all := lw_g (lw_at lw_m2 92 rfl) rfl
theorem q412 : (Jvm.Cond.methodLink "EverybodyHasTheBook" (115 : Nat) ({ cls := "EverybodyHasTheBook", name := "puts", desc := "(Ljava/lang/Object;IJ)V" } : Jvm.MethodName)) ∈ lw_all := lw_g (lw_at lw_m2 97 rfl) rfl
theorem q413 : (Jvm.Cond.static ({ cls := "EverybodyHasTheBook", name := "puts", desc := "(Ljava/lang/Object;IJ)V" } : Jvm.MethodName)) ∈ lw_all := lw_g (lw_at lw_m2 98 rfl) rfl
theorem q414 : (Jvm.Cond.code ({ cls := "EverybodyHasTheBook", name := "puts", desc := "(Ljava/lang/Object;IJ)V" } : Jvm.MethodName) prog_1_method_15_code (4 : Nat) (Option.none : Option Jvm.ClassFile.FieldType)) ∈ lw_all := lw_g (lw_at lw_m2 99 rfl) rfl
theorem q415 : (Jvm.Cond.methodLink "EverybodyHasTheBook" (86 : Nat) ({ cls := "EverybodyHasTheBook", name := "sortOf", desc := "(Ljava/lang/Object;)I" } : Jvm.MethodName)) ∈ lw_all := lw_g (lw_at lw_m2 100 rfl) rfl
theorem q416 : (Jvm.Cond.static ({ cls := "EverybodyHasTheBook", name := "sortOf", desc := "(Ljava/lang/Object;)I" } : Jvm.MethodName)) ∈ lw_all := lw_g (lw_at lw_m2 101 rfl) rfl
theorem q417 : (Jvm.Cond.code ({ cls := "EverybodyHasTheBook", name := "sortOf", desc := "(Ljava/lang/Object;)I" } : Jvm.MethodName) prog_1_method_13_code (1 : Nat) (Option.some Jvm.ClassFile.FieldType.int)) ∈ lw_all := lw_g (lw_at lw_m2 102 rfl) rfl
theorem q418 : (Jvm.Cond.classLink "EverybodyHasTheBook" (79 : Nat) "[B") ∈ lw_all := lw_g (lw_at lw_m2 103 rfl) rfl
theorem q419 : (Jvm.Cond.classLink "EverybodyHasTheBook" (81 : Nat) "[S") ∈ lw_all := lw_g (lw_at lw_m2 104 rfl) rfl
theorem q420 : (Jvm.Cond.classLink "EverybodyHasTheBook" (83 : Nat) "[I") ∈ lw_all := lw_g (lw_at lw_m2 105 rfl) rfl
theorem q421 : (Jvm.Cond.classLink "EverybodyHasTheBook" (84 : Nat) "[J") ∈ lw_all := lw_g (lw_at lw_m2 106 rfl) rfl
theorem q422 : (Jvm.Cond.classLink "EverybodyHasTheBook" (90 : Nat) "[Z") ∈ lw_all := lw_g (lw_at lw_m2 107 rfl) rfl
theorem q424 : (Jvm.Cond.instanceMethod ({ cls := "EverybodyHasTheBook", name := "copy", desc := "(IIIII)I" } : Jvm.MethodName)) ∈ lw_all := lw_g (lw_at lw_m2 109 rfl) rfl
theorem q425 : (Jvm.Cond.selects "EverybodyHasTheBook" ({ cls := "EverybodyHasTheBook", name := "copy", desc := "(IIIII)I" } : Jvm.MethodName) ({ cls := "EverybodyHasTheBook", name := "copy", desc := "(IIIII)I" } : Jvm.MethodName)) ∈ lw_all := lw_g (lw_at lw_m2 110 rfl) rfl
theorem q426 : (Jvm.Cond.codeWith ({ cls := "EverybodyHasTheBook", name := "copy", desc := "(IIIII)I" } : Jvm.MethodName) prog_1_method_19_code (9 : Nat) (Option.some Jvm.ClassFile.FieldType.int) [((66 : Nat), (80 : Nat), (81 : Nat), (130 : Nat)), ((66 : Nat), (80 : Nat), (90 : Nat), (132 : Nat)), ((66 : Nat), (80 : Nat), (99 : Nat), (134 : Nat))]) ∈ lw_all := lw_g (lw_at lw_m2 111 rfl) rfl
theorem q427 : (Jvm.Cond.classLink "EverybodyHasTheBook" (130 : Nat) "java/lang/NullPointerException") ∈ lw_all := lw_g (lw_at lw_m2 112 rfl) rfl
theorem q452 : (Jvm.Cond.classLink "EverybodyHasTheBook" (132 : Nat) "java/lang/ArrayStoreException") ∈ lw_all := lw_g (lw_at lw_m2 137 rfl) rfl
theorem q466 : (Jvm.Cond.classLink "EverybodyHasTheBook" (134 : Nat) "java/lang/IndexOutOfBoundsException") ∈ lw_all := lw_g (lw_at lw_m2 151 rfl) rfl
theorem q467 : (Jvm.Cond.methodLink "EverybodyHasTheBook" (124 : Nat) ({ cls := "java/lang/System", name := "arraycopy", desc := "(Ljava/lang/Object;ILjava/lang/Object;II)V" } : Jvm.MethodName)) ∈ lw_all := lw_g (lw_at lw_m2 152 rfl) rfl
theorem q471 : (Jvm.Cond.instanceMethod ({ cls := "EverybodyHasTheBook", name := "element", desc := "(II)J" } : Jvm.MethodName)) ∈ lw_all := lw_g (lw_at lw_m2 156 rfl) rfl
theorem q472 : (Jvm.Cond.selects "EverybodyHasTheBook" ({ cls := "EverybodyHasTheBook", name := "element", desc := "(II)J" } : Jvm.MethodName) ({ cls := "EverybodyHasTheBook", name := "element", desc := "(II)J" } : Jvm.MethodName)) ∈ lw_all := lw_g (lw_at lw_m2 157 rfl) rfl
theorem q473 : (Jvm.Cond.codeWith ({ cls := "EverybodyHasTheBook", name := "element", desc := "(II)J" } : Jvm.MethodName) prog_1_method_20_code (4 : Nat) (Option.some Jvm.ClassFile.FieldType.long) [((9 : Nat), (18 : Nat), (19 : Nat), (106 : Nat)), ((9 : Nat), (18 : Nat), (22 : Nat), (122 : Nat))]) ∈ lw_all := lw_g (lw_at lw_m2 158 rfl) rfl
theorem q474 : (Jvm.Cond.methodLink "EverybodyHasTheBook" (136 : Nat) ({ cls := "EverybodyHasTheBook", name := "elementOf", desc := "(Ljava/lang/Object;I)J" } : Jvm.MethodName)) ∈ lw_all := lw_g (lw_at lw_m2 159 rfl) rfl
theorem q475 : (Jvm.Cond.static ({ cls := "EverybodyHasTheBook", name := "elementOf", desc := "(Ljava/lang/Object;I)J" } : Jvm.MethodName)) ∈ lw_all := lw_g (lw_at lw_m2 160 rfl) rfl
theorem q476 : (Jvm.Cond.code ({ cls := "EverybodyHasTheBook", name := "elementOf", desc := "(Ljava/lang/Object;I)J" } : Jvm.MethodName) prog_1_method_14_code (2 : Nat) (Option.some Jvm.ClassFile.FieldType.long)) ∈ lw_all := lw_g (lw_at lw_m2 161 rfl) rfl
theorem q478 : (Jvm.Cond.instanceMethod ({ cls := "EverybodyHasTheBook", name := "holds", desc := "(I)I" } : Jvm.MethodName)) ∈ lw_all := lw_g (lw_at lw_m2 163 rfl) rfl
theorem q479 : (Jvm.Cond.selects "EverybodyHasTheBook" ({ cls := "EverybodyHasTheBook", name := "holds", desc := "(I)I" } : Jvm.MethodName) ({ cls := "EverybodyHasTheBook", name := "holds", desc := "(I)I" } : Jvm.MethodName)) ∈ lw_all := lw_g (lw_at lw_m2 164 rfl) rfl
theorem q480 : (Jvm.Cond.code ({ cls := "EverybodyHasTheBook", name := "holds", desc := "(I)I" } : Jvm.MethodName) prog_1_method_21_code (3 : Nat) (Option.some Jvm.ClassFile.FieldType.int)) ∈ lw_all := lw_g (lw_at lw_m2 165 rfl) rfl
theorem q482 : (Jvm.Cond.instanceMethod ({ cls := "EverybodyHasTheBook", name := "show", desc := "(II)I" } : Jvm.MethodName)) ∈ lw_all := lw_g (lw_at lw_m2 167 rfl) rfl
theorem q483 : (Jvm.Cond.selects "EverybodyHasTheBook" ({ cls := "EverybodyHasTheBook", name := "show", desc := "(II)I" } : Jvm.MethodName) ({ cls := "EverybodyHasTheBook", name := "show", desc := "(II)I" } : Jvm.MethodName)) ∈ lw_all := lw_g (lw_at lw_m2 168 rfl) rfl
theorem q484 : (Jvm.Cond.code ({ cls := "EverybodyHasTheBook", name := "show", desc := "(II)I" } : Jvm.MethodName) prog_1_method_22_code (3 : Nat) (Option.some Jvm.ClassFile.FieldType.int)) ∈ lw_all := lw_g (lw_at lw_m2 169 rfl) rfl
theorem q485 : (Jvm.Cond.methodLink "EverybodyHasTheBook" (143 : Nat) ({ cls := "EverybodyHasTheBook", name := "isGoer", desc := "(I)Z" } : Jvm.MethodName)) ∈ lw_all := lw_g (lw_at lw_m2 170 rfl) rfl
theorem q486 : (Jvm.Cond.privateMethod ({ cls := "EverybodyHasTheBook", name := "isGoer", desc := "(I)Z" } : Jvm.MethodName)) ∈ lw_tbl := lw_at lw_m2 171 rfl
theorem q487 : (Jvm.Cond.instanceMethod ({ cls := "EverybodyHasTheBook", name := "isGoer", desc := "(I)Z" } : Jvm.MethodName)) ∈ lw_all := lw_g (lw_at lw_m2 172 rfl) rfl
theorem q488 : (Jvm.Cond.code ({ cls := "EverybodyHasTheBook", name := "isGoer", desc := "(I)Z" } : Jvm.MethodName) prog_1_method_9_code (2 : Nat) (Option.some Jvm.ClassFile.FieldType.boolean)) ∈ lw_all := lw_g (lw_at lw_m2 173 rfl) rfl
theorem q490 : (Jvm.Cond.instanceMethod ({ cls := "EverybodyHasTheBook", name := "says", desc := "(II)I" } : Jvm.MethodName)) ∈ lw_all := lw_g (lw_at lw_m2 175 rfl) rfl
theorem q491 : (Jvm.Cond.selects "EverybodyHasTheBook" ({ cls := "EverybodyHasTheBook", name := "says", desc := "(II)I" } : Jvm.MethodName) ({ cls := "EverybodyHasTheBook", name := "says", desc := "(II)I" } : Jvm.MethodName)) ∈ lw_all := lw_g (lw_at lw_m2 176 rfl) rfl
theorem q492 : (Jvm.Cond.codeWith ({ cls := "EverybodyHasTheBook", name := "says", desc := "(II)I" } : Jvm.MethodName) prog_1_method_25_code (5 : Nat) (Option.some Jvm.ClassFile.FieldType.int) [((44 : Nat), (95 : Nat), (141 : Nat), (167 : Nat)), ((96 : Nat), (104 : Nat), (141 : Nat), (167 : Nat)), ((105 : Nat), (113 : Nat), (141 : Nat), (167 : Nat)), ((114 : Nat), (122 : Nat), (141 : Nat), (167 : Nat)), ((123 : Nat), (131 : Nat), (141 : Nat), (167 : Nat)), ((132 : Nat), (140 : Nat), (141 : Nat), (167 : Nat))]) ∈ lw_all := lw_g (lw_at lw_m2 177 rfl) rfl
theorem q493 : (Jvm.Cond.classLink "EverybodyHasTheBook" (167 : Nat) "java/lang/ClassCastException") ∈ lw_all := lw_g (lw_at lw_m2 178 rfl) rfl
theorem q507 : (Jvm.Cond.classLink "EverybodyHasTheBook" (16 : Nat) "EverybodyHasTheBook$Booked") ∈ lw_all := lw_g (lw_at lw_m2 192 rfl) rfl
theorem q508 : (Jvm.Cond.methodLink "EverybodyHasTheBook" (164 : Nat) ({ cls := "EverybodyHasTheBook", name := "first", desc := "(LEverybodyHasTheBook$Goer;)I" } : Jvm.MethodName)) ∈ lw_all := lw_g (lw_at lw_m2 193 rfl) rfl
theorem q509 : (Jvm.Cond.privateMethod ({ cls := "EverybodyHasTheBook", name := "first", desc := "(LEverybodyHasTheBook$Goer;)I" } : Jvm.MethodName)) ∈ lw_tbl := lw_at lw_m2 194 rfl
theorem q510 : (Jvm.Cond.instanceMethod ({ cls := "EverybodyHasTheBook", name := "first", desc := "(LEverybodyHasTheBook$Goer;)I" } : Jvm.MethodName)) ∈ lw_all := lw_g (lw_at lw_m2 195 rfl) rfl
theorem q511 : (Jvm.Cond.code ({ cls := "EverybodyHasTheBook", name := "first", desc := "(LEverybodyHasTheBook$Goer;)I" } : Jvm.MethodName) prog_1_method_24_code (2 : Nat) (Option.some Jvm.ClassFile.FieldType.int)) ∈ lw_all := lw_g (lw_at lw_m2 196 rfl) rfl
theorem q512 : (Jvm.Cond.methodLink "EverybodyHasTheBook" (153 : Nat) ({ cls := "EverybodyHasTheBook", name := "allInns", desc := "()I" } : Jvm.MethodName)) ∈ lw_all := lw_g (lw_at lw_m2 197 rfl) rfl
theorem q513 : (Jvm.Cond.privateMethod ({ cls := "EverybodyHasTheBook", name := "allInns", desc := "()I" } : Jvm.MethodName)) ∈ lw_tbl := lw_at lw_m2 198 rfl
theorem q514 : (Jvm.Cond.instanceMethod ({ cls := "EverybodyHasTheBook", name := "allInns", desc := "()I" } : Jvm.MethodName)) ∈ lw_all := lw_g (lw_at lw_m2 199 rfl) rfl
theorem q515 : (Jvm.Cond.code ({ cls := "EverybodyHasTheBook", name := "allInns", desc := "()I" } : Jvm.MethodName) prog_1_method_23_code (1 : Nat) (Option.some Jvm.ClassFile.FieldType.int)) ∈ lw_all := lw_g (lw_at lw_m2 200 rfl) rfl
theorem q589 : (Jvm.Cond.static ({ cls := "EverybodyHasTheBook", name := "has", desc := "(II)Z" } : Jvm.MethodName)) ∈ lw_all := lw_g (lw_at lw_m3 34 rfl) rfl
theorem q590 : (Jvm.Cond.code ({ cls := "EverybodyHasTheBook", name := "has", desc := "(II)Z" } : Jvm.MethodName) prog_1_method_2_code (2 : Nat) (Option.some Jvm.ClassFile.FieldType.boolean)) ∈ lw_all := lw_g (lw_at lw_m3 35 rfl) rfl
theorem q591 : (Jvm.Cond.classLink "EverybodyHasTheBook" (19 : Nat) "EverybodyHasTheBook$Against") ∈ lw_all := lw_g (lw_at lw_m3 36 rfl) rfl
theorem q592 : (Jvm.Cond.classLink "EverybodyHasTheBook" (22 : Nat) "EverybodyHasTheBook$Own") ∈ lw_all := lw_g (lw_at lw_m3 37 rfl) rfl
theorem q593 : (Jvm.Cond.classLink "EverybodyHasTheBook" (25 : Nat) "EverybodyHasTheBook$Lettered") ∈ lw_all := lw_g (lw_at lw_m3 38 rfl) rfl
theorem q594 : (Jvm.Cond.classLink "EverybodyHasTheBook" (28 : Nat) "EverybodyHasTheBook$Late") ∈ lw_all := lw_g (lw_at lw_m3 39 rfl) rfl
theorem q596 : (Jvm.Cond.instanceMethod ({ cls := "EverybodyHasTheBook", name := "inn", desc := "(III)I" } : Jvm.MethodName)) ∈ lw_all := lw_g (lw_at lw_m3 41 rfl) rfl
theorem q597 : (Jvm.Cond.selects "EverybodyHasTheBook" ({ cls := "EverybodyHasTheBook", name := "inn", desc := "(III)I" } : Jvm.MethodName) ({ cls := "EverybodyHasTheBook", name := "inn", desc := "(III)I" } : Jvm.MethodName)) ∈ lw_all := lw_g (lw_at lw_m3 42 rfl) rfl
theorem q598 : (Jvm.Cond.code ({ cls := "EverybodyHasTheBook", name := "inn", desc := "(III)I" } : Jvm.MethodName) prog_1_method_26_code (4 : Nat) (Option.some Jvm.ClassFile.FieldType.int)) ∈ lw_all := lw_g (lw_at lw_m3 43 rfl) rfl
theorem q599 : (Jvm.Cond.methodLink "EverybodyHasTheBook" (169 : Nat) ({ cls := "EverybodyHasTheBook$Valley", name := "adds", desc := "(III)V" } : Jvm.MethodName)) ∈ lw_all := lw_g (lw_at lw_m3 44 rfl) rfl
theorem q604 : (Jvm.Cond.instanceMethod ({ cls := "EverybodyHasTheBook", name := "goer", desc := "(III)I" } : Jvm.MethodName)) ∈ lw_all := lw_g (lw_at lw_m3 49 rfl) rfl
theorem q605 : (Jvm.Cond.selects "EverybodyHasTheBook" ({ cls := "EverybodyHasTheBook", name := "goer", desc := "(III)I" } : Jvm.MethodName) ({ cls := "EverybodyHasTheBook", name := "goer", desc := "(III)I" } : Jvm.MethodName)) ∈ lw_all := lw_g (lw_at lw_m3 50 rfl) rfl
theorem q606 : (Jvm.Cond.code ({ cls := "EverybodyHasTheBook", name := "goer", desc := "(III)I" } : Jvm.MethodName) prog_1_method_27_code (4 : Nat) (Option.some Jvm.ClassFile.FieldType.int)) ∈ lw_all := lw_g (lw_at lw_m3 51 rfl) rfl
theorem q607 : (Jvm.Cond.methodLink "EverybodyHasTheBook" (173 : Nat) ({ cls := "EverybodyHasTheBook", name := "made", desc := "(III)LEverybodyHasTheBook$Goer;" } : Jvm.MethodName)) ∈ lw_all := lw_g (lw_at lw_m3 52 rfl) rfl
theorem q608 : (Jvm.Cond.static ({ cls := "EverybodyHasTheBook", name := "made", desc := "(III)LEverybodyHasTheBook$Goer;" } : Jvm.MethodName)) ∈ lw_all := lw_g (lw_at lw_m3 53 rfl) rfl
theorem q609 : (Jvm.Cond.code ({ cls := "EverybodyHasTheBook", name := "made", desc := "(III)LEverybodyHasTheBook$Goer;" } : Jvm.MethodName) prog_1_method_4_code (3 : Nat) (Option.some (Jvm.ClassFile.FieldType.object "EverybodyHasTheBook$Goer"))) ∈ lw_all := lw_g (lw_at lw_m3 54 rfl) rfl
theorem q611 : (Jvm.Cond.methodLink "EverybodyHasTheBook" (12 : Nat) ({ cls := "EverybodyHasTheBook$Goer", name := "<init>", desc := "(II)V" } : Jvm.MethodName)) ∈ lw_all := lw_g (lw_at lw_m3 56 rfl) rfl
theorem q616 : (Jvm.Cond.fieldLink "EverybodyHasTheBook" (140 : Nat) "EverybodyHasTheBook$Goer" "number" "I") ∈ lw_all := lw_g (lw_at lw_m3 61 rfl) rfl
theorem q622 : (Jvm.Cond.fieldLink "EverybodyHasTheBook" (244 : Nat) "EverybodyHasTheBook$Goer" "a" "I") ∈ lw_all := lw_g (lw_at lw_m3 67 rfl) rfl
theorem q628 : (Jvm.Cond.methodLink "EverybodyHasTheBook" (18 : Nat) ({ cls := "EverybodyHasTheBook$Booked", name := "<init>", desc := "(II)V" } : Jvm.MethodName)) ∈ lw_all := lw_g (lw_at lw_m3 73 rfl) rfl
theorem q635 : (Jvm.Cond.methodLink "EverybodyHasTheBook" (21 : Nat) ({ cls := "EverybodyHasTheBook$Against", name := "<init>", desc := "(II)V" } : Jvm.MethodName)) ∈ lw_all := lw_g (lw_at lw_m3 80 rfl) rfl
theorem q642 : (Jvm.Cond.methodLink "EverybodyHasTheBook" (24 : Nat) ({ cls := "EverybodyHasTheBook$Own", name := "<init>", desc := "(II)V" } : Jvm.MethodName)) ∈ lw_all := lw_g (lw_at lw_m3 87 rfl) rfl
theorem q650 : (Jvm.Cond.methodLink "EverybodyHasTheBook" (27 : Nat) ({ cls := "EverybodyHasTheBook$Lettered", name := "<init>", desc := "(II)V" } : Jvm.MethodName)) ∈ lw_all := lw_g (lw_at lw_m3 95 rfl) rfl
theorem q657 : (Jvm.Cond.methodLink "EverybodyHasTheBook" (30 : Nat) ({ cls := "EverybodyHasTheBook$Late", name := "<init>", desc := "(II)V" } : Jvm.MethodName)) ∈ lw_all := lw_g (lw_at lw_m3 102 rfl) rfl
theorem q664 : (Jvm.Cond.methodLink "EverybodyHasTheBook" (177 : Nat) ({ cls := "EverybodyHasTheBook$Valley", name := "adds", desc := "(LEverybodyHasTheBook$Goer;I)V" } : Jvm.MethodName)) ∈ lw_all := lw_g (lw_at lw_m3 109 rfl) rfl
theorem q669 : (Jvm.Cond.instanceMethod ({ cls := "EverybodyHasTheBook", name := "change", desc := "(III)I" } : Jvm.MethodName)) ∈ lw_all := lw_g (lw_at lw_m3 114 rfl) rfl
theorem q670 : (Jvm.Cond.selects "EverybodyHasTheBook" ({ cls := "EverybodyHasTheBook", name := "change", desc := "(III)I" } : Jvm.MethodName) ({ cls := "EverybodyHasTheBook", name := "change", desc := "(III)I" } : Jvm.MethodName)) ∈ lw_all := lw_g (lw_at lw_m3 115 rfl) rfl
theorem q671 : (Jvm.Cond.code ({ cls := "EverybodyHasTheBook", name := "change", desc := "(III)I" } : Jvm.MethodName) prog_1_method_28_code (6 : Nat) (Option.some Jvm.ClassFile.FieldType.int)) ∈ lw_all := lw_g (lw_at lw_m3 116 rfl) rfl
theorem q672 : (Jvm.Cond.methodLink "EverybodyHasTheBook" (180 : Nat) ({ cls := "EverybodyHasTheBook$Valley", name := "isInn", desc := "(I)Z" } : Jvm.MethodName)) ∈ lw_all := lw_g (lw_at lw_m3 117 rfl) rfl
theorem q678 : (Jvm.Cond.instanceMethod ({ cls := "EverybodyHasTheBook", name := "say", desc := "(II)I" } : Jvm.MethodName)) ∈ lw_all := lw_g (lw_at lw_m3 123 rfl) rfl
theorem q679 : (Jvm.Cond.selects "EverybodyHasTheBook" ({ cls := "EverybodyHasTheBook", name := "say", desc := "(II)I" } : Jvm.MethodName) ({ cls := "EverybodyHasTheBook", name := "say", desc := "(II)I" } : Jvm.MethodName)) ∈ lw_all := lw_g (lw_at lw_m3 124 rfl) rfl
theorem q680 : (Jvm.Cond.code ({ cls := "EverybodyHasTheBook", name := "say", desc := "(II)I" } : Jvm.MethodName) prog_1_method_29_code (4 : Nat) (Option.some Jvm.ClassFile.FieldType.int)) ∈ lw_all := lw_g (lw_at lw_m3 125 rfl) rfl
theorem q682 : (Jvm.Cond.instanceMethod ({ cls := "EverybodyHasTheBook", name := "write", desc := "(I)I" } : Jvm.MethodName)) ∈ lw_all := lw_g (lw_at lw_m3 127 rfl) rfl
theorem q683 : (Jvm.Cond.selects "EverybodyHasTheBook" ({ cls := "EverybodyHasTheBook", name := "write", desc := "(I)I" } : Jvm.MethodName) ({ cls := "EverybodyHasTheBook", name := "write", desc := "(I)I" } : Jvm.MethodName)) ∈ lw_all := lw_g (lw_at lw_m3 128 rfl) rfl
theorem q684 : (Jvm.Cond.code ({ cls := "EverybodyHasTheBook", name := "write", desc := "(I)I" } : Jvm.MethodName) prog_1_method_30_code (2 : Nat) (Option.some Jvm.ClassFile.FieldType.int)) ∈ lw_all := lw_g (lw_at lw_m3 129 rfl) rfl
theorem q685 : (Jvm.Cond.methodLink "EverybodyHasTheBook" (192 : Nat) ({ cls := "EverybodyHasTheBook$Valley", name := "writes", desc := "(I)V" } : Jvm.MethodName)) ∈ lw_all := lw_g (lw_at lw_m3 130 rfl) rfl
theorem q690 : (Jvm.Cond.methodLink "EverybodyHasTheBook" (195 : Nat) ({ cls := "java/lang/Integer", name := "bitCount", desc := "(I)I" } : Jvm.MethodName)) ∈ lw_all := lw_g (lw_at lw_m3 135 rfl) rfl
theorem q697 : (Jvm.Cond.instanceMethod ({ cls := "EverybodyHasTheBook", name := "letter", desc := "(II)I" } : Jvm.MethodName)) ∈ lw_all := lw_g (lw_at lw_m3 142 rfl) rfl
theorem q698 : (Jvm.Cond.selects "EverybodyHasTheBook" ({ cls := "EverybodyHasTheBook", name := "letter", desc := "(II)I" } : Jvm.MethodName) ({ cls := "EverybodyHasTheBook", name := "letter", desc := "(II)I" } : Jvm.MethodName)) ∈ lw_all := lw_g (lw_at lw_m3 143 rfl) rfl
theorem q699 : (Jvm.Cond.code ({ cls := "EverybodyHasTheBook", name := "letter", desc := "(II)I" } : Jvm.MethodName) prog_1_method_31_code (3 : Nat) (Option.some Jvm.ClassFile.FieldType.int)) ∈ lw_all := lw_g (lw_at lw_m3 144 rfl) rfl
theorem q700 : (Jvm.Cond.methodLink "EverybodyHasTheBook" (203 : Nat) ({ cls := "EverybodyHasTheBook$Valley", name := "gets", desc := "(II)V" } : Jvm.MethodName)) ∈ lw_all := lw_g (lw_at lw_m3 145 rfl) rfl
theorem q705 : (Jvm.Cond.instanceMethod ({ cls := "EverybodyHasTheBook", name := "age", desc := "(I)I" } : Jvm.MethodName)) ∈ lw_all := lw_g (lw_at lw_m3 150 rfl) rfl
theorem q706 : (Jvm.Cond.selects "EverybodyHasTheBook" ({ cls := "EverybodyHasTheBook", name := "age", desc := "(I)I" } : Jvm.MethodName) ({ cls := "EverybodyHasTheBook", name := "age", desc := "(I)I" } : Jvm.MethodName)) ∈ lw_all := lw_g (lw_at lw_m3 151 rfl) rfl
theorem q707 : (Jvm.Cond.code ({ cls := "EverybodyHasTheBook", name := "age", desc := "(I)I" } : Jvm.MethodName) prog_1_method_32_code (3 : Nat) (Option.some Jvm.ClassFile.FieldType.int)) ∈ lw_all := lw_g (lw_at lw_m3 152 rfl) rfl
theorem q709 : (Jvm.Cond.instanceMethod ({ cls := "EverybodyHasTheBook", name := "heads", desc := "(II)I" } : Jvm.MethodName)) ∈ lw_all := lw_g (lw_at lw_m3 154 rfl) rfl
theorem q710 : (Jvm.Cond.selects "EverybodyHasTheBook" ({ cls := "EverybodyHasTheBook", name := "heads", desc := "(II)I" } : Jvm.MethodName) ({ cls := "EverybodyHasTheBook", name := "heads", desc := "(II)I" } : Jvm.MethodName)) ∈ lw_all := lw_g (lw_at lw_m3 155 rfl) rfl
theorem q711 : (Jvm.Cond.code ({ cls := "EverybodyHasTheBook", name := "heads", desc := "(II)I" } : Jvm.MethodName) prog_1_method_33_code (4 : Nat) (Option.some Jvm.ClassFile.FieldType.int)) ∈ lw_all := lw_g (lw_at lw_m3 156 rfl) rfl
theorem q713 : (Jvm.Cond.instanceMethod ({ cls := "EverybodyHasTheBook", name := "feed", desc := "(I)I" } : Jvm.MethodName)) ∈ lw_all := lw_g (lw_at lw_m3 158 rfl) rfl
theorem q714 : (Jvm.Cond.selects "EverybodyHasTheBook" ({ cls := "EverybodyHasTheBook", name := "feed", desc := "(I)I" } : Jvm.MethodName) ({ cls := "EverybodyHasTheBook", name := "feed", desc := "(I)I" } : Jvm.MethodName)) ∈ lw_all := lw_g (lw_at lw_m3 159 rfl) rfl
theorem q715 : (Jvm.Cond.code ({ cls := "EverybodyHasTheBook", name := "feed", desc := "(I)I" } : Jvm.MethodName) prog_1_method_34_code (2 : Nat) (Option.some Jvm.ClassFile.FieldType.int)) ∈ lw_all := lw_g (lw_at lw_m3 160 rfl) rfl
theorem q717 : (Jvm.Cond.instanceMethod ({ cls := "EverybodyHasTheBook", name := "wipe", desc := "()I" } : Jvm.MethodName)) ∈ lw_all := lw_g (lw_at lw_m3 162 rfl) rfl
theorem q718 : (Jvm.Cond.selects "EverybodyHasTheBook" ({ cls := "EverybodyHasTheBook", name := "wipe", desc := "()I" } : Jvm.MethodName) ({ cls := "EverybodyHasTheBook", name := "wipe", desc := "()I" } : Jvm.MethodName)) ∈ lw_all := lw_g (lw_at lw_m3 163 rfl) rfl
theorem q719 : (Jvm.Cond.code ({ cls := "EverybodyHasTheBook", name := "wipe", desc := "()I" } : Jvm.MethodName) prog_1_method_35_code (2 : Nat) (Option.some Jvm.ClassFile.FieldType.int)) ∈ lw_all := lw_g (lw_at lw_m3 164 rfl) rfl
theorem q721 : (Jvm.Cond.instanceMethod ({ cls := "EverybodyHasTheBook", name := "valley", desc := "()I" } : Jvm.MethodName)) ∈ lw_all := lw_g (lw_at lw_m3 166 rfl) rfl
theorem q722 : (Jvm.Cond.selects "EverybodyHasTheBook" ({ cls := "EverybodyHasTheBook", name := "valley", desc := "()I" } : Jvm.MethodName) ({ cls := "EverybodyHasTheBook", name := "valley", desc := "()I" } : Jvm.MethodName)) ∈ lw_all := lw_g (lw_at lw_m3 167 rfl) rfl
theorem q723 : (Jvm.Cond.codeWith ({ cls := "EverybodyHasTheBook", name := "valley", desc := "()I" } : Jvm.MethodName) prog_1_method_36_code (5 : Nat) (Option.some Jvm.ClassFile.FieldType.int) [((0 : Nat), (38 : Nat), (45 : Nat), (227 : Nat)), ((0 : Nat), (38 : Nat), (68 : Nat), (0 : Nat)), ((45 : Nat), (61 : Nat), (68 : Nat), (0 : Nat)), ((68 : Nat), (70 : Nat), (68 : Nat), (0 : Nat))]) ∈ lw_all := lw_g (lw_at lw_m3 168 rfl) rfl
theorem q724 : (Jvm.Cond.classLink "EverybodyHasTheBook" (227 : Nat) "EverybodyHasTheBook$Fault") ∈ lw_all := lw_g (lw_at lw_m3 169 rfl) rfl
theorem q725 : (Jvm.Cond.classLink "EverybodyHasTheBook" (212 : Nat) "EverybodyHasTheBook$Reader") ∈ lw_all := lw_g (lw_at lw_m3 170 rfl) rfl
theorem q727 : (Jvm.Cond.methodLink "EverybodyHasTheBook" (214 : Nat) ({ cls := "EverybodyHasTheBook$Valley", name := "copied", desc := "()LEverybodyHasTheBook$Valley;" } : Jvm.MethodName)) ∈ lw_all := lw_g (lw_at lw_m3 172 rfl) rfl
theorem q738 : (Jvm.Cond.methodLink "EverybodyHasTheBook" (218 : Nat) ({ cls := "EverybodyHasTheBook$Reader", name := "<init>", desc := "([IILEverybodyHasTheBook$Valley;)V" } : Jvm.MethodName)) ∈ lw_all := lw_g (lw_at lw_m3 183 rfl) rfl
theorem q745 : (Jvm.Cond.fieldLink "EverybodyHasTheBook" (224 : Nat) "EverybodyHasTheBook$Reader" "valley" "LEverybodyHasTheBook$Valley;") ∈ lw_all := lw_g (lw_at lw_m3 190 rfl) rfl
theorem q765 : (Jvm.Cond.methodLink "EverybodyHasTheBook" (221 : Nat) ({ cls := "EverybodyHasTheBook$Reader", name := "read", desc := "()I" } : Jvm.MethodName)) ∈ lw_all := lw_g (lw_at lw_m3 210 rfl) rfl
theorem q986 : (Jvm.Cond.fieldLink "EverybodyHasTheBook" (229 : Nat) "EverybodyHasTheBook$Fault" "place" "I") ∈ lw_all := lw_g (lw_at lw_m4 191 rfl) rfl
theorem q1094 : (Jvm.Cond.instanceMethod ({ cls := "EverybodyHasTheBook", name := "innOf", desc := "(II)I" } : Jvm.MethodName)) ∈ lw_all := lw_g (lw_at lw_m5 59 rfl) rfl
theorem q1095 : (Jvm.Cond.selects "EverybodyHasTheBook" ({ cls := "EverybodyHasTheBook", name := "innOf", desc := "(II)I" } : Jvm.MethodName) ({ cls := "EverybodyHasTheBook", name := "innOf", desc := "(II)I" } : Jvm.MethodName)) ∈ lw_all := lw_g (lw_at lw_m5 60 rfl) rfl
theorem q1096 : (Jvm.Cond.code ({ cls := "EverybodyHasTheBook", name := "innOf", desc := "(II)I" } : Jvm.MethodName) prog_1_method_37_code (3 : Nat) (Option.some Jvm.ClassFile.FieldType.int)) ∈ lw_all := lw_g (lw_at lw_m5 61 rfl) rfl
theorem q1098 : (Jvm.Cond.instanceMethod ({ cls := "EverybodyHasTheBook", name := "goerOf", desc := "(II)I" } : Jvm.MethodName)) ∈ lw_all := lw_g (lw_at lw_m5 63 rfl) rfl
theorem q1099 : (Jvm.Cond.selects "EverybodyHasTheBook" ({ cls := "EverybodyHasTheBook", name := "goerOf", desc := "(II)I" } : Jvm.MethodName) ({ cls := "EverybodyHasTheBook", name := "goerOf", desc := "(II)I" } : Jvm.MethodName)) ∈ lw_all := lw_g (lw_at lw_m5 64 rfl) rfl
theorem q1100 : (Jvm.Cond.code ({ cls := "EverybodyHasTheBook", name := "goerOf", desc := "(II)I" } : Jvm.MethodName) prog_1_method_38_code (3 : Nat) (Option.some Jvm.ClassFile.FieldType.int)) ∈ lw_all := lw_g (lw_at lw_m5 65 rfl) rfl
theorem q1101 : (Jvm.Cond.methodLink "EverybodyHasTheBook" (241 : Nat) ({ cls := "EverybodyHasTheBook$Goer", name := "kind", desc := "()I" } : Jvm.MethodName)) ∈ lw_all := lw_g (lw_at lw_m5 66 rfl) rfl
theorem q1122 : (Jvm.Cond.instanceMethod ({ cls := "EverybodyHasTheBook", name := "score", desc := "(II)I" } : Jvm.MethodName)) ∈ lw_all := lw_g (lw_at lw_m5 87 rfl) rfl
theorem q1123 : (Jvm.Cond.selects "EverybodyHasTheBook" ({ cls := "EverybodyHasTheBook", name := "score", desc := "(II)I" } : Jvm.MethodName) ({ cls := "EverybodyHasTheBook", name := "score", desc := "(II)I" } : Jvm.MethodName)) ∈ lw_all := lw_g (lw_at lw_m5 88 rfl) rfl
theorem q1124 : (Jvm.Cond.code ({ cls := "EverybodyHasTheBook", name := "score", desc := "(II)I" } : Jvm.MethodName) prog_1_method_39_code (3 : Nat) (Option.some Jvm.ClassFile.FieldType.int)) ∈ lw_all := lw_g (lw_at lw_m5 89 rfl) rfl
theorem q1125 : (Jvm.Cond.methodLink "EverybodyHasTheBook" (247 : Nat) ({ cls := "EverybodyHasTheBook$Goer", name := "score", desc := "(LEverybodyHasTheBook$Valley;I)I" } : Jvm.MethodName)) ∈ lw_all := lw_g (lw_at lw_m5 90 rfl) rfl
theorem q1126 : (Jvm.Cond.methodLink "EverybodyHasTheBook" (250 : Nat) ({ cls := "EverybodyHasTheBook", name := "noLow", desc := "(I)I" } : Jvm.MethodName)) ∈ lw_all := lw_g (lw_at lw_m5 91 rfl) rfl
theorem q1127 : (Jvm.Cond.privateMethod ({ cls := "EverybodyHasTheBook", name := "noLow", desc := "(I)I" } : Jvm.MethodName)) ∈ lw_tbl := lw_at lw_m5 92 rfl
theorem q1128 : (Jvm.Cond.instanceMethod ({ cls := "EverybodyHasTheBook", name := "noLow", desc := "(I)I" } : Jvm.MethodName)) ∈ lw_all := lw_g (lw_at lw_m5 93 rfl) rfl
theorem q1129 : (Jvm.Cond.code ({ cls := "EverybodyHasTheBook", name := "noLow", desc := "(I)I" } : Jvm.MethodName) prog_1_method_7_code (2 : Nat) (Option.some Jvm.ClassFile.FieldType.int)) ∈ lw_all := lw_g (lw_at lw_m5 94 rfl) rfl
theorem q1130 : (Jvm.Cond.constant "EverybodyHasTheBook" (62 : Nat) (-1000000 : Int32)) ∈ lw_all := lw_g (lw_at lw_m5 95 rfl) rfl
theorem q1132 : (Jvm.Cond.instanceMethod ({ cls := "EverybodyHasTheBook", name := "sleeps", desc := "(II)I" } : Jvm.MethodName)) ∈ lw_all := lw_g (lw_at lw_m5 97 rfl) rfl
theorem q1133 : (Jvm.Cond.selects "EverybodyHasTheBook" ({ cls := "EverybodyHasTheBook", name := "sleeps", desc := "(II)I" } : Jvm.MethodName) ({ cls := "EverybodyHasTheBook", name := "sleeps", desc := "(II)I" } : Jvm.MethodName)) ∈ lw_all := lw_g (lw_at lw_m5 98 rfl) rfl
theorem q1134 : (Jvm.Cond.code ({ cls := "EverybodyHasTheBook", name := "sleeps", desc := "(II)I" } : Jvm.MethodName) prog_1_method_40_code (3 : Nat) (Option.some Jvm.ClassFile.FieldType.int)) ∈ lw_all := lw_g (lw_at lw_m5 99 rfl) rfl
theorem q1135 : (Jvm.Cond.methodLink "EverybodyHasTheBook" (253 : Nat) ({ cls := "EverybodyHasTheBook$Valley", name := "night", desc := "()LEverybodyHasTheBook$Valley;" } : Jvm.MethodName)) ∈ lw_all := lw_g (lw_at lw_m5 100 rfl) rfl
theorem q1172 : (Jvm.Cond.instanceMethod ({ cls := "EverybodyHasTheBook", name := "guests", desc := "(I)I" } : Jvm.MethodName)) ∈ lw_all := lw_g (lw_at lw_m5 137 rfl) rfl
theorem q1173 : (Jvm.Cond.selects "EverybodyHasTheBook" ({ cls := "EverybodyHasTheBook", name := "guests", desc := "(I)I" } : Jvm.MethodName) ({ cls := "EverybodyHasTheBook", name := "guests", desc := "(I)I" } : Jvm.MethodName)) ∈ lw_all := lw_g (lw_at lw_m5 138 rfl) rfl
theorem q1174 : (Jvm.Cond.code ({ cls := "EverybodyHasTheBook", name := "guests", desc := "(I)I" } : Jvm.MethodName) prog_1_method_41_code (2 : Nat) (Option.some Jvm.ClassFile.FieldType.int)) ∈ lw_all := lw_g (lw_at lw_m5 139 rfl) rfl
theorem q1176 : (Jvm.Cond.instanceMethod ({ cls := "EverybodyHasTheBook", name := "out", desc := "(I)I" } : Jvm.MethodName)) ∈ lw_all := lw_g (lw_at lw_m5 141 rfl) rfl
theorem q1177 : (Jvm.Cond.selects "EverybodyHasTheBook" ({ cls := "EverybodyHasTheBook", name := "out", desc := "(I)I" } : Jvm.MethodName) ({ cls := "EverybodyHasTheBook", name := "out", desc := "(I)I" } : Jvm.MethodName)) ∈ lw_all := lw_g (lw_at lw_m5 142 rfl) rfl
theorem q1178 : (Jvm.Cond.code ({ cls := "EverybodyHasTheBook", name := "out", desc := "(I)I" } : Jvm.MethodName) prog_1_method_42_code (4 : Nat) (Option.some Jvm.ClassFile.FieldType.int)) ∈ lw_all := lw_g (lw_at lw_m5 143 rfl) rfl
theorem q1180 : (Jvm.Cond.instanceMethod ({ cls := "EverybodyHasTheBook", name := "full", desc := "()I" } : Jvm.MethodName)) ∈ lw_all := lw_g (lw_at lw_m5 145 rfl) rfl
theorem q1181 : (Jvm.Cond.selects "EverybodyHasTheBook" ({ cls := "EverybodyHasTheBook", name := "full", desc := "()I" } : Jvm.MethodName) ({ cls := "EverybodyHasTheBook", name := "full", desc := "()I" } : Jvm.MethodName)) ∈ lw_all := lw_g (lw_at lw_m5 146 rfl) rfl
theorem q1182 : (Jvm.Cond.code ({ cls := "EverybodyHasTheBook", name := "full", desc := "()I" } : Jvm.MethodName) prog_1_method_43_code (3 : Nat) (Option.some Jvm.ClassFile.FieldType.int)) ∈ lw_all := lw_g (lw_at lw_m5 147 rfl) rfl
theorem q1183 : (Jvm.Cond.methodLink "EverybodyHasTheBook" (266 : Nat) ({ cls := "EverybodyHasTheBook$Valley", name := "isFull", desc := "(I)Z" } : Jvm.MethodName)) ∈ lw_all := lw_g (lw_at lw_m5 148 rfl) rfl
theorem q1185 : (Jvm.Cond.instanceMethod ({ cls := "EverybodyHasTheBook", name := "joy", desc := "(I)I" } : Jvm.MethodName)) ∈ lw_all := lw_g (lw_at lw_m5 150 rfl) rfl
theorem q1186 : (Jvm.Cond.selects "EverybodyHasTheBook" ({ cls := "EverybodyHasTheBook", name := "joy", desc := "(I)I" } : Jvm.MethodName) ({ cls := "EverybodyHasTheBook", name := "joy", desc := "(I)I" } : Jvm.MethodName)) ∈ lw_all := lw_g (lw_at lw_m5 151 rfl) rfl
theorem q1187 : (Jvm.Cond.code ({ cls := "EverybodyHasTheBook", name := "joy", desc := "(I)I" } : Jvm.MethodName) prog_1_method_44_code (2 : Nat) (Option.some Jvm.ClassFile.FieldType.int)) ∈ lw_all := lw_g (lw_at lw_m5 152 rfl) rfl
theorem q1188 : (Jvm.Cond.methodLink "EverybodyHasTheBook" (269 : Nat) ({ cls := "EverybodyHasTheBook$Valley", name := "joy", desc := "(I)I" } : Jvm.MethodName)) ∈ lw_all := lw_g (lw_at lw_m5 153 rfl) rfl
theorem q1197 : (Jvm.Cond.instanceMethod ({ cls := "EverybodyHasTheBook", name := "taken", desc := "(I)I" } : Jvm.MethodName)) ∈ lw_all := lw_g (lw_at lw_m5 162 rfl) rfl
theorem q1198 : (Jvm.Cond.selects "EverybodyHasTheBook" ({ cls := "EverybodyHasTheBook", name := "taken", desc := "(I)I" } : Jvm.MethodName) ({ cls := "EverybodyHasTheBook", name := "taken", desc := "(I)I" } : Jvm.MethodName)) ∈ lw_all := lw_g (lw_at lw_m5 163 rfl) rfl
theorem q1199 : (Jvm.Cond.code ({ cls := "EverybodyHasTheBook", name := "taken", desc := "(I)I" } : Jvm.MethodName) prog_1_method_45_code (2 : Nat) (Option.some Jvm.ClassFile.FieldType.int)) ∈ lw_all := lw_g (lw_at lw_m5 164 rfl) rfl
theorem q1201 : (Jvm.Cond.instanceMethod ({ cls := "EverybodyHasTheBook", name := "crowd", desc := "(I)I" } : Jvm.MethodName)) ∈ lw_all := lw_g (lw_at lw_m5 166 rfl) rfl
theorem q1202 : (Jvm.Cond.selects "EverybodyHasTheBook" ({ cls := "EverybodyHasTheBook", name := "crowd", desc := "(I)I" } : Jvm.MethodName) ({ cls := "EverybodyHasTheBook", name := "crowd", desc := "(I)I" } : Jvm.MethodName)) ∈ lw_all := lw_g (lw_at lw_m5 167 rfl) rfl
theorem q1203 : (Jvm.Cond.code ({ cls := "EverybodyHasTheBook", name := "crowd", desc := "(I)I" } : Jvm.MethodName) prog_1_method_46_code (4 : Nat) (Option.some Jvm.ClassFile.FieldType.int)) ∈ lw_all := lw_g (lw_at lw_m5 168 rfl) rfl
theorem q1205 : (Jvm.Cond.instanceMethod ({ cls := "EverybodyHasTheBook", name := "lean", desc := "(I)I" } : Jvm.MethodName)) ∈ lw_all := lw_g (lw_at lw_m5 170 rfl) rfl
theorem q1206 : (Jvm.Cond.selects "EverybodyHasTheBook" ({ cls := "EverybodyHasTheBook", name := "lean", desc := "(I)I" } : Jvm.MethodName) ({ cls := "EverybodyHasTheBook", name := "lean", desc := "(I)I" } : Jvm.MethodName)) ∈ lw_all := lw_g (lw_at lw_m5 171 rfl) rfl
theorem q1207 : (Jvm.Cond.code ({ cls := "EverybodyHasTheBook", name := "lean", desc := "(I)I" } : Jvm.MethodName) prog_1_method_47_code (2 : Nat) (Option.some Jvm.ClassFile.FieldType.int)) ∈ lw_all := lw_g (lw_at lw_m5 172 rfl) rfl
theorem q1209 : (Jvm.Cond.instanceMethod ({ cls := "EverybodyHasTheBook", name := "truest", desc := "()I" } : Jvm.MethodName)) ∈ lw_all := lw_g (lw_at lw_m5 174 rfl) rfl
theorem q1210 : (Jvm.Cond.selects "EverybodyHasTheBook" ({ cls := "EverybodyHasTheBook", name := "truest", desc := "()I" } : Jvm.MethodName) ({ cls := "EverybodyHasTheBook", name := "truest", desc := "()I" } : Jvm.MethodName)) ∈ lw_all := lw_g (lw_at lw_m5 175 rfl) rfl
theorem q1211 : (Jvm.Cond.code ({ cls := "EverybodyHasTheBook", name := "truest", desc := "()I" } : Jvm.MethodName) prog_1_method_48_code (3 : Nat) (Option.some Jvm.ClassFile.FieldType.int)) ∈ lw_all := lw_g (lw_at lw_m5 176 rfl) rfl
theorem q1213 : (Jvm.Cond.instanceMethod ({ cls := "EverybodyHasTheBook", name := "oldest", desc := "()I" } : Jvm.MethodName)) ∈ lw_all := lw_g (lw_at lw_m5 178 rfl) rfl
theorem q1214 : (Jvm.Cond.selects "EverybodyHasTheBook" ({ cls := "EverybodyHasTheBook", name := "oldest", desc := "()I" } : Jvm.MethodName) ({ cls := "EverybodyHasTheBook", name := "oldest", desc := "()I" } : Jvm.MethodName)) ∈ lw_all := lw_g (lw_at lw_m5 179 rfl) rfl
theorem q1215 : (Jvm.Cond.code ({ cls := "EverybodyHasTheBook", name := "oldest", desc := "()I" } : Jvm.MethodName) prog_1_method_49_code (5 : Nat) (Option.some Jvm.ClassFile.FieldType.int)) ∈ lw_all := lw_g (lw_at lw_m5 180 rfl) rfl
theorem q1216 : (Jvm.Cond.methodLink "EverybodyHasTheBook" (272 : Nat) ({ cls := "java/lang/Math", name := "abs", desc := "(I)I" } : Jvm.MethodName)) ∈ lw_all := lw_g (lw_at lw_m5 181 rfl) rfl
theorem q1220 : (Jvm.Cond.instanceMethod ({ cls := "EverybodyHasTheBook", name := "enough", desc := "(I)I" } : Jvm.MethodName)) ∈ lw_all := lw_g (lw_at lw_m5 185 rfl) rfl
theorem q1221 : (Jvm.Cond.selects "EverybodyHasTheBook" ({ cls := "EverybodyHasTheBook", name := "enough", desc := "(I)I" } : Jvm.MethodName) ({ cls := "EverybodyHasTheBook", name := "enough", desc := "(I)I" } : Jvm.MethodName)) ∈ lw_all := lw_g (lw_at lw_m5 186 rfl) rfl
theorem q1222 : (Jvm.Cond.code ({ cls := "EverybodyHasTheBook", name := "enough", desc := "(I)I" } : Jvm.MethodName) prog_1_method_50_code (4 : Nat) (Option.some Jvm.ClassFile.FieldType.int)) ∈ lw_all := lw_g (lw_at lw_m5 187 rfl) rfl
theorem q1223 : (Jvm.Cond.methodLink "EverybodyHasTheBook" (275 : Nat) ({ cls := "EverybodyHasTheBook", name := "tried", desc := "()LEverybodyHasTheBook$Valley;" } : Jvm.MethodName)) ∈ lw_all := lw_g (lw_at lw_m5 188 rfl) rfl
theorem q1224 : (Jvm.Cond.privateMethod ({ cls := "EverybodyHasTheBook", name := "tried", desc := "()LEverybodyHasTheBook$Valley;" } : Jvm.MethodName)) ∈ lw_tbl := lw_at lw_m5 189 rfl
theorem q1225 : (Jvm.Cond.instanceMethod ({ cls := "EverybodyHasTheBook", name := "tried", desc := "()LEverybodyHasTheBook$Valley;" } : Jvm.MethodName)) ∈ lw_all := lw_g (lw_at lw_m5 190 rfl) rfl
theorem q1226 : (Jvm.Cond.code ({ cls := "EverybodyHasTheBook", name := "tried", desc := "()LEverybodyHasTheBook$Valley;" } : Jvm.MethodName) prog_1_method_11_code (1 : Nat) (Option.some (Jvm.ClassFile.FieldType.object "EverybodyHasTheBook$Valley"))) ∈ lw_all := lw_g (lw_at lw_m5 191 rfl) rfl
theorem q1227 : (Jvm.Cond.methodLink "EverybodyHasTheBook" (75 : Nat) ({ cls := "EverybodyHasTheBook$Valley", name := "becomes", desc := "(LEverybodyHasTheBook$Valley;)LEverybodyHasTheBook$Valley;" } : Jvm.MethodName)) ∈ lw_all := lw_g (lw_at lw_m5 192 rfl) rfl
theorem q1229 : (Jvm.Cond.instanceMethod ({ cls := "EverybodyHasTheBook", name := "better", desc := "(I)I" } : Jvm.MethodName)) ∈ lw_all := lw_g (lw_at lw_m5 194 rfl) rfl
theorem q1230 : (Jvm.Cond.selects "EverybodyHasTheBook" ({ cls := "EverybodyHasTheBook", name := "better", desc := "(I)I" } : Jvm.MethodName) ({ cls := "EverybodyHasTheBook", name := "better", desc := "(I)I" } : Jvm.MethodName)) ∈ lw_all := lw_g (lw_at lw_m5 195 rfl) rfl
theorem q1231 : (Jvm.Cond.code ({ cls := "EverybodyHasTheBook", name := "better", desc := "(I)I" } : Jvm.MethodName) prog_1_method_51_code (7 : Nat) (Option.some Jvm.ClassFile.FieldType.int)) ∈ lw_all := lw_g (lw_at lw_m5 196 rfl) rfl
theorem q1233 : (Jvm.Cond.instanceMethod ({ cls := "EverybodyHasTheBook", name := "trust", desc := "(I)I" } : Jvm.MethodName)) ∈ lw_all := lw_g (lw_at lw_m5 198 rfl) rfl
theorem q1234 : (Jvm.Cond.selects "EverybodyHasTheBook" ({ cls := "EverybodyHasTheBook", name := "trust", desc := "(I)I" } : Jvm.MethodName) ({ cls := "EverybodyHasTheBook", name := "trust", desc := "(I)I" } : Jvm.MethodName)) ∈ lw_all := lw_g (lw_at lw_m5 199 rfl) rfl
theorem q1235 : (Jvm.Cond.code ({ cls := "EverybodyHasTheBook", name := "trust", desc := "(I)I" } : Jvm.MethodName) prog_1_method_53_code (4 : Nat) (Option.some Jvm.ClassFile.FieldType.int)) ∈ lw_all := lw_g (lw_at lw_m5 200 rfl) rfl
theorem q1236 : (Jvm.Cond.methodLink "EverybodyHasTheBook" (277 : Nat) ({ cls := "EverybodyHasTheBook", name := "isWanted", desc := "(LEverybodyHasTheBook$Valley;I)Z" } : Jvm.MethodName)) ∈ lw_all := lw_g (lw_at lw_m5 201 rfl) rfl
theorem q1237 : (Jvm.Cond.privateMethod ({ cls := "EverybodyHasTheBook", name := "isWanted", desc := "(LEverybodyHasTheBook$Valley;I)Z" } : Jvm.MethodName)) ∈ lw_tbl := lw_at lw_m5 202 rfl
theorem q1238 : (Jvm.Cond.instanceMethod ({ cls := "EverybodyHasTheBook", name := "isWanted", desc := "(LEverybodyHasTheBook$Valley;I)Z" } : Jvm.MethodName)) ∈ lw_all := lw_g (lw_at lw_m5 203 rfl) rfl
theorem q1239 : (Jvm.Cond.code ({ cls := "EverybodyHasTheBook", name := "isWanted", desc := "(LEverybodyHasTheBook$Valley;I)Z" } : Jvm.MethodName) prog_1_method_52_code (4 : Nat) (Option.some Jvm.ClassFile.FieldType.boolean)) ∈ lw_all := lw_g (lw_at lw_m5 204 rfl) rfl
theorem q1241 : (Jvm.Cond.instanceMethod ({ cls := "EverybodyHasTheBook", name := "share", desc := "(I)I" } : Jvm.MethodName)) ∈ lw_all := lw_g (lw_at lw_m5 206 rfl) rfl
theorem q1242 : (Jvm.Cond.selects "EverybodyHasTheBook" ({ cls := "EverybodyHasTheBook", name := "share", desc := "(I)I" } : Jvm.MethodName) ({ cls := "EverybodyHasTheBook", name := "share", desc := "(I)I" } : Jvm.MethodName)) ∈ lw_all := lw_g (lw_at lw_m5 207 rfl) rfl
theorem q1243 : (Jvm.Cond.code ({ cls := "EverybodyHasTheBook", name := "share", desc := "(I)I" } : Jvm.MethodName) prog_1_method_54_code (3 : Nat) (Option.some Jvm.ClassFile.FieldType.int)) ∈ lw_all := lw_g (lw_at lw_m5 208 rfl) rfl
theorem q1244 : (Jvm.Cond.methodLink "EverybodyHasTheBook" (281 : Nat) ({ cls := "EverybodyHasTheBook", name := "truest", desc := "()I" } : Jvm.MethodName)) ∈ lw_all := lw_g (lw_at lw_m5 209 rfl) rfl
theorem q1246 : (Jvm.Cond.instanceMethod ({ cls := "EverybodyHasTheBook", name := "nine", desc := "(III)I" } : Jvm.MethodName)) ∈ lw_all := lw_g (lw_at lw_m5 211 rfl) rfl
theorem q1247 : (Jvm.Cond.selects "EverybodyHasTheBook" ({ cls := "EverybodyHasTheBook", name := "nine", desc := "(III)I" } : Jvm.MethodName) ({ cls := "EverybodyHasTheBook", name := "nine", desc := "(III)I" } : Jvm.MethodName)) ∈ lw_all := lw_g (lw_at lw_m5 212 rfl) rfl
theorem q1248 : (Jvm.Cond.code ({ cls := "EverybodyHasTheBook", name := "nine", desc := "(III)I" } : Jvm.MethodName) prog_1_method_55_code (4 : Nat) (Option.some Jvm.ClassFile.FieldType.int)) ∈ lw_all := lw_g (lw_at lw_m5 213 rfl) rfl
theorem q1250 : (Jvm.Cond.instanceMethod ({ cls := "EverybodyHasTheBook", name := "two", desc := "(II)I" } : Jvm.MethodName)) ∈ lw_all := lw_g (lw_at lw_m5 215 rfl) rfl
theorem q1251 : (Jvm.Cond.selects "EverybodyHasTheBook" ({ cls := "EverybodyHasTheBook", name := "two", desc := "(II)I" } : Jvm.MethodName) ({ cls := "EverybodyHasTheBook", name := "two", desc := "(II)I" } : Jvm.MethodName)) ∈ lw_all := lw_g (lw_at lw_m5 216 rfl) rfl
theorem q1252 : (Jvm.Cond.code ({ cls := "EverybodyHasTheBook", name := "two", desc := "(II)I" } : Jvm.MethodName) prog_1_method_56_code (3 : Nat) (Option.some Jvm.ClassFile.FieldType.int)) ∈ lw_all := lw_g (lw_at lw_m5 217 rfl) rfl
theorem q1253 : (Jvm.Cond.methodLink "EverybodyHasTheBook" (284 : Nat) ({ cls := "EverybodyHasTheBook$Valley", name := "night", desc := "(II)LEverybodyHasTheBook$Valley;" } : Jvm.MethodName)) ∈ lw_all := lw_g (lw_at lw_m5 218 rfl) rfl
theorem q1260 : (Jvm.Cond.instanceMethod ({ cls := "EverybodyHasTheBook", name := "judge", desc := "(I)I" } : Jvm.MethodName)) ∈ lw_all := lw_g (lw_at lw_m5 225 rfl) rfl
theorem q1261 : (Jvm.Cond.selects "EverybodyHasTheBook" ({ cls := "EverybodyHasTheBook", name := "judge", desc := "(I)I" } : Jvm.MethodName) ({ cls := "EverybodyHasTheBook", name := "judge", desc := "(I)I" } : Jvm.MethodName)) ∈ lw_all := lw_g (lw_at lw_m5 226 rfl) rfl
theorem q1262 : (Jvm.Cond.codeWith ({ cls := "EverybodyHasTheBook", name := "judge", desc := "(I)I" } : Jvm.MethodName) prog_1_method_58_code (3 : Nat) (Option.some Jvm.ClassFile.FieldType.int) [((14 : Nat), (23 : Nat), (24 : Nat), (106 : Nat)), ((14 : Nat), (23 : Nat), (34 : Nat), (122 : Nat))]) ∈ lw_all := lw_g (lw_at lw_m5 227 rfl) rfl
theorem q1263 : (Jvm.Cond.methodLink "EverybodyHasTheBook" (287 : Nat) ({ cls := "EverybodyHasTheBook", name := "wrongIn", desc := "(Ljava/lang/Object;)I" } : Jvm.MethodName)) ∈ lw_all := lw_g (lw_at lw_m5 228 rfl) rfl
theorem q1264 : (Jvm.Cond.privateMethod ({ cls := "EverybodyHasTheBook", name := "wrongIn", desc := "(Ljava/lang/Object;)I" } : Jvm.MethodName)) ∈ lw_tbl := lw_at lw_m5 229 rfl
theorem q1265 : (Jvm.Cond.instanceMethod ({ cls := "EverybodyHasTheBook", name := "wrongIn", desc := "(Ljava/lang/Object;)I" } : Jvm.MethodName)) ∈ lw_all := lw_g (lw_at lw_m5 230 rfl) rfl
theorem q1266 : (Jvm.Cond.code ({ cls := "EverybodyHasTheBook", name := "wrongIn", desc := "(Ljava/lang/Object;)I" } : Jvm.MethodName) prog_1_method_57_code (5 : Nat) (Option.some Jvm.ClassFile.FieldType.int)) ∈ lw_all := lw_g (lw_at lw_m5 231 rfl) rfl
theorem q1268 : (Jvm.Cond.instanceMethod ({ cls := "EverybodyHasTheBook", name := "years", desc := "(II)I" } : Jvm.MethodName)) ∈ lw_all := lw_g (lw_at lw_m5 233 rfl) rfl
theorem q1269 : (Jvm.Cond.selects "EverybodyHasTheBook" ({ cls := "EverybodyHasTheBook", name := "years", desc := "(II)I" } : Jvm.MethodName) ({ cls := "EverybodyHasTheBook", name := "years", desc := "(II)I" } : Jvm.MethodName)) ∈ lw_all := lw_g (lw_at lw_m5 234 rfl) rfl
theorem q1270 : (Jvm.Cond.code ({ cls := "EverybodyHasTheBook", name := "years", desc := "(II)I" } : Jvm.MethodName) prog_1_method_59_code (3 : Nat) (Option.some Jvm.ClassFile.FieldType.int)) ∈ lw_all := lw_g (lw_at lw_m5 235 rfl) rfl
theorem q1271 : (Jvm.Cond.methodLink "EverybodyHasTheBook" (290 : Nat) ({ cls := "EverybodyHasTheBook", name := "isYears", desc := "(I)Z" } : Jvm.MethodName)) ∈ lw_all := lw_g (lw_at lw_m5 236 rfl) rfl
theorem q1272 : (Jvm.Cond.static ({ cls := "EverybodyHasTheBook", name := "isYears", desc := "(I)Z" } : Jvm.MethodName)) ∈ lw_all := lw_g (lw_at lw_m5 237 rfl) rfl
theorem q1273 : (Jvm.Cond.code ({ cls := "EverybodyHasTheBook", name := "isYears", desc := "(I)Z" } : Jvm.MethodName) prog_1_method_10_code (1 : Nat) (Option.some Jvm.ClassFile.FieldType.boolean)) ∈ lw_all := lw_g (lw_at lw_m5 238 rfl) rfl
theorem q1274 : (Jvm.Cond.methodLink "EverybodyHasTheBook" (293 : Nat) ({ cls := "EverybodyHasTheBook$Valley", name := "years", desc := "(II)I" } : Jvm.MethodName)) ∈ lw_all := lw_g (lw_at lw_m5 239 rfl) rfl
theorem q1291 : (Jvm.Cond.instanceMethod ({ cls := "EverybodyHasTheBook", name := "then", desc := "(III)I" } : Jvm.MethodName)) ∈ lw_all := lw_g (lw_at lw_m6 16 rfl) rfl
theorem q1292 : (Jvm.Cond.selects "EverybodyHasTheBook" ({ cls := "EverybodyHasTheBook", name := "then", desc := "(III)I" } : Jvm.MethodName) ({ cls := "EverybodyHasTheBook", name := "then", desc := "(III)I" } : Jvm.MethodName)) ∈ lw_all := lw_g (lw_at lw_m6 17 rfl) rfl
theorem q1293 : (Jvm.Cond.code ({ cls := "EverybodyHasTheBook", name := "then", desc := "(III)I" } : Jvm.MethodName) prog_1_method_61_code (6 : Nat) (Option.some Jvm.ClassFile.FieldType.int)) ∈ lw_all := lw_g (lw_at lw_m6 18 rfl) rfl
theorem q1294 : (Jvm.Cond.methodLink "EverybodyHasTheBook" (299 : Nat) ({ cls := "EverybodyHasTheBook", name := "takes", desc := "(LEverybodyHasTheBook$Valley;II)I" } : Jvm.MethodName)) ∈ lw_all := lw_g (lw_at lw_m6 19 rfl) rfl
theorem q1295 : (Jvm.Cond.static ({ cls := "EverybodyHasTheBook", name := "takes", desc := "(LEverybodyHasTheBook$Valley;II)I" } : Jvm.MethodName)) ∈ lw_all := lw_g (lw_at lw_m6 20 rfl) rfl
theorem q1296 : (Jvm.Cond.code ({ cls := "EverybodyHasTheBook", name := "takes", desc := "(LEverybodyHasTheBook$Valley;II)I" } : Jvm.MethodName) prog_1_method_60_code (5 : Nat) (Option.some Jvm.ClassFile.FieldType.int)) ∈ lw_all := lw_g (lw_at lw_m6 21 rfl) rfl
theorem q1297 : (Jvm.Cond.methodLink "EverybodyHasTheBook" (296 : Nat) ({ cls := "EverybodyHasTheBook$Valley", name := "ages", desc := "()V" } : Jvm.MethodName)) ∈ lw_all := lw_g (lw_at lw_m6 22 rfl) rfl
theorem q1299 : (Jvm.Cond.instanceMethod ({ cls := "EverybodyHasTheBook", name := "written", desc := "(II)I" } : Jvm.MethodName)) ∈ lw_all := lw_g (lw_at lw_m6 24 rfl) rfl
theorem q1300 : (Jvm.Cond.selects "EverybodyHasTheBook" ({ cls := "EverybodyHasTheBook", name := "written", desc := "(II)I" } : Jvm.MethodName) ({ cls := "EverybodyHasTheBook", name := "written", desc := "(II)I" } : Jvm.MethodName)) ∈ lw_all := lw_g (lw_at lw_m6 25 rfl) rfl
theorem q1301 : (Jvm.Cond.code ({ cls := "EverybodyHasTheBook", name := "written", desc := "(II)I" } : Jvm.MethodName) prog_1_method_63_code (3 : Nat) (Option.some Jvm.ClassFile.FieldType.int)) ∈ lw_all := lw_g (lw_at lw_m6 26 rfl) rfl
theorem q1302 : (Jvm.Cond.methodLink "EverybodyHasTheBook" (303 : Nat) ({ cls := "EverybodyHasTheBook", name := "writtenBy", desc := "(II)I" } : Jvm.MethodName)) ∈ lw_all := lw_g (lw_at lw_m6 27 rfl) rfl
theorem q1303 : (Jvm.Cond.privateMethod ({ cls := "EverybodyHasTheBook", name := "writtenBy", desc := "(II)I" } : Jvm.MethodName)) ∈ lw_tbl := lw_at lw_m6 28 rfl
theorem q1304 : (Jvm.Cond.instanceMethod ({ cls := "EverybodyHasTheBook", name := "writtenBy", desc := "(II)I" } : Jvm.MethodName)) ∈ lw_all := lw_g (lw_at lw_m6 29 rfl) rfl
theorem q1305 : (Jvm.Cond.code ({ cls := "EverybodyHasTheBook", name := "writtenBy", desc := "(II)I" } : Jvm.MethodName) prog_1_method_62_code (4 : Nat) (Option.some Jvm.ClassFile.FieldType.int)) ∈ lw_all := lw_g (lw_at lw_m6 30 rfl) rfl
theorem q1307 : (Jvm.Cond.instanceMethod ({ cls := "EverybodyHasTheBook", name := "book", desc := "(II)I" } : Jvm.MethodName)) ∈ lw_all := lw_g (lw_at lw_m6 32 rfl) rfl
theorem q1308 : (Jvm.Cond.selects "EverybodyHasTheBook" ({ cls := "EverybodyHasTheBook", name := "book", desc := "(II)I" } : Jvm.MethodName) ({ cls := "EverybodyHasTheBook", name := "book", desc := "(II)I" } : Jvm.MethodName)) ∈ lw_all := lw_g (lw_at lw_m6 33 rfl) rfl
theorem q1309 : (Jvm.Cond.code ({ cls := "EverybodyHasTheBook", name := "book", desc := "(II)I" } : Jvm.MethodName) prog_1_method_65_code (3 : Nat) (Option.some Jvm.ClassFile.FieldType.int)) ∈ lw_all := lw_g (lw_at lw_m6 34 rfl) rfl
theorem q1310 : (Jvm.Cond.methodLink "EverybodyHasTheBook" (306 : Nat) ({ cls := "EverybodyHasTheBook", name := "bookOf", desc := "(II)I" } : Jvm.MethodName)) ∈ lw_all := lw_g (lw_at lw_m6 35 rfl) rfl
theorem q1311 : (Jvm.Cond.privateMethod ({ cls := "EverybodyHasTheBook", name := "bookOf", desc := "(II)I" } : Jvm.MethodName)) ∈ lw_tbl := lw_at lw_m6 36 rfl
theorem q1312 : (Jvm.Cond.instanceMethod ({ cls := "EverybodyHasTheBook", name := "bookOf", desc := "(II)I" } : Jvm.MethodName)) ∈ lw_all := lw_g (lw_at lw_m6 37 rfl) rfl
theorem q1313 : (Jvm.Cond.code ({ cls := "EverybodyHasTheBook", name := "bookOf", desc := "(II)I" } : Jvm.MethodName) prog_1_method_64_code (7 : Nat) (Option.some Jvm.ClassFile.FieldType.int)) ∈ lw_all := lw_g (lw_at lw_m6 38 rfl) rfl
theorem q1315 : (Jvm.Cond.instanceMethod ({ cls := "EverybodyHasTheBook", name := "many", desc := "(I)I" } : Jvm.MethodName)) ∈ lw_all := lw_g (lw_at lw_m6 40 rfl) rfl
theorem q1316 : (Jvm.Cond.selects "EverybodyHasTheBook" ({ cls := "EverybodyHasTheBook", name := "many", desc := "(I)I" } : Jvm.MethodName) ({ cls := "EverybodyHasTheBook", name := "many", desc := "(I)I" } : Jvm.MethodName)) ∈ lw_all := lw_g (lw_at lw_m6 41 rfl) rfl
theorem q1317 : (Jvm.Cond.code ({ cls := "EverybodyHasTheBook", name := "many", desc := "(I)I" } : Jvm.MethodName) prog_1_method_66_code (4 : Nat) (Option.some Jvm.ClassFile.FieldType.int)) ∈ lw_all := lw_g (lw_at lw_m6 42 rfl) rfl
theorem q1319 : (Jvm.Cond.instanceMethod ({ cls := "EverybodyHasTheBook", name := "round", desc := "(II)I" } : Jvm.MethodName)) ∈ lw_all := lw_g (lw_at lw_m6 44 rfl) rfl
theorem q1320 : (Jvm.Cond.selects "EverybodyHasTheBook" ({ cls := "EverybodyHasTheBook", name := "round", desc := "(II)I" } : Jvm.MethodName) ({ cls := "EverybodyHasTheBook", name := "round", desc := "(II)I" } : Jvm.MethodName)) ∈ lw_all := lw_g (lw_at lw_m6 45 rfl) rfl
theorem q1321 : (Jvm.Cond.code ({ cls := "EverybodyHasTheBook", name := "round", desc := "(II)I" } : Jvm.MethodName) prog_1_method_67_code (4 : Nat) (Option.some Jvm.ClassFile.FieldType.int)) ∈ lw_all := lw_g (lw_at lw_m6 46 rfl) rfl
theorem q1322 : (Jvm.Cond.classLink "EverybodyHasTheBook" (309 : Nat) "EverybodyHasTheBook$Rounds") ∈ lw_all := lw_g (lw_at lw_m6 47 rfl) rfl
theorem q1324 : (Jvm.Cond.methodLink "EverybodyHasTheBook" (311 : Nat) ({ cls := "EverybodyHasTheBook$Rounds", name := "<init>", desc := "(LEverybodyHasTheBook;I)V" } : Jvm.MethodName)) ∈ lw_all := lw_g (lw_at lw_m6 49 rfl) rfl
theorem q1342 : (Jvm.Cond.fieldLink "EverybodyHasTheBook" (316 : Nat) "EverybodyHasTheBook$Rounds" "best" "[I") ∈ lw_all := lw_g (lw_at lw_m6 67 rfl) rfl
theorem q1345 : (Jvm.Cond.fieldLink "EverybodyHasTheBook" (314 : Nat) "EverybodyHasTheBook$Rounds" "joy" "I") ∈ lw_all := lw_g (lw_at lw_m6 70 rfl) rfl
theorem q1361 : (Jvm.Cond.instanceMethod ({ cls := "EverybodyHasTheBook", name := "kept", desc := "(II)I" } : Jvm.MethodName)) ∈ lw_all := lw_g (lw_at lw_m6 86 rfl) rfl
theorem q1362 : (Jvm.Cond.selects "EverybodyHasTheBook" ({ cls := "EverybodyHasTheBook", name := "kept", desc := "(II)I" } : Jvm.MethodName) ({ cls := "EverybodyHasTheBook", name := "kept", desc := "(II)I" } : Jvm.MethodName)) ∈ lw_all := lw_g (lw_at lw_m6 87 rfl) rfl
theorem q1363 : (Jvm.Cond.code ({ cls := "EverybodyHasTheBook", name := "kept", desc := "(II)I" } : Jvm.MethodName) prog_1_method_68_code (5 : Nat) (Option.some Jvm.ClassFile.FieldType.int)) ∈ lw_all := lw_g (lw_at lw_m6 88 rfl) rfl
theorem q1364 : (Jvm.Cond.methodLink "EverybodyHasTheBook" (319 : Nat) ({ cls := "EverybodyHasTheBook$Valley", name := "yearsOfOwn", desc := "(I)I" } : Jvm.MethodName)) ∈ lw_all := lw_g (lw_at lw_m6 89 rfl) rfl
theorem q1374 : (Jvm.Cond.instanceMethod ({ cls := "EverybodyHasTheBook", name := "called", desc := "(III)I" } : Jvm.MethodName)) ∈ lw_all := lw_g (lw_at lw_m6 99 rfl) rfl
theorem q1375 : (Jvm.Cond.selects "EverybodyHasTheBook" ({ cls := "EverybodyHasTheBook", name := "called", desc := "(III)I" } : Jvm.MethodName) ({ cls := "EverybodyHasTheBook", name := "called", desc := "(III)I" } : Jvm.MethodName)) ∈ lw_all := lw_g (lw_at lw_m6 100 rfl) rfl
theorem q1376 : (Jvm.Cond.code ({ cls := "EverybodyHasTheBook", name := "called", desc := "(III)I" } : Jvm.MethodName) prog_1_method_69_code (6 : Nat) (Option.some Jvm.ClassFile.FieldType.int)) ∈ lw_all := lw_g (lw_at lw_m6 101 rfl) rfl
theorem q1378 : (Jvm.Cond.instanceMethod ({ cls := "EverybodyHasTheBook", name := "spoilt", desc := "(II)I" } : Jvm.MethodName)) ∈ lw_all := lw_g (lw_at lw_m6 103 rfl) rfl
theorem q1379 : (Jvm.Cond.selects "EverybodyHasTheBook" ({ cls := "EverybodyHasTheBook", name := "spoilt", desc := "(II)I" } : Jvm.MethodName) ({ cls := "EverybodyHasTheBook", name := "spoilt", desc := "(II)I" } : Jvm.MethodName)) ∈ lw_all := lw_g (lw_at lw_m6 104 rfl) rfl
theorem q1380 : (Jvm.Cond.code ({ cls := "EverybodyHasTheBook", name := "spoilt", desc := "(II)I" } : Jvm.MethodName) prog_1_method_70_code (5 : Nat) (Option.some Jvm.ClassFile.FieldType.int)) ∈ lw_all := lw_g (lw_at lw_m6 105 rfl) rfl
theorem q1382 : (Jvm.Cond.instanceMethod ({ cls := "EverybodyHasTheBook", name := "bears", desc := "(IIII)I" } : Jvm.MethodName)) ∈ lw_all := lw_g (lw_at lw_m6 107 rfl) rfl
theorem q1383 : (Jvm.Cond.selects "EverybodyHasTheBook" ({ cls := "EverybodyHasTheBook", name := "bears", desc := "(IIII)I" } : Jvm.MethodName) ({ cls := "EverybodyHasTheBook", name := "bears", desc := "(IIII)I" } : Jvm.MethodName)) ∈ lw_all := lw_g (lw_at lw_m6 108 rfl) rfl
theorem q1384 : (Jvm.Cond.code ({ cls := "EverybodyHasTheBook", name := "bears", desc := "(IIII)I" } : Jvm.MethodName) prog_1_method_72_code (7 : Nat) (Option.some Jvm.ClassFile.FieldType.int)) ∈ lw_all := lw_g (lw_at lw_m6 109 rfl) rfl
theorem q1385 : (Jvm.Cond.methodLink "EverybodyHasTheBook" (322 : Nat) ({ cls := "EverybodyHasTheBook", name := "stays", desc := "(LEverybodyHasTheBook$Valley;III)Z" } : Jvm.MethodName)) ∈ lw_all := lw_g (lw_at lw_m6 110 rfl) rfl
theorem q1386 : (Jvm.Cond.static ({ cls := "EverybodyHasTheBook", name := "stays", desc := "(LEverybodyHasTheBook$Valley;III)Z" } : Jvm.MethodName)) ∈ lw_all := lw_g (lw_at lw_m6 111 rfl) rfl
theorem q1387 : (Jvm.Cond.code ({ cls := "EverybodyHasTheBook", name := "stays", desc := "(LEverybodyHasTheBook$Valley;III)Z" } : Jvm.MethodName) prog_1_method_71_code (5 : Nat) (Option.some Jvm.ClassFile.FieldType.boolean)) ∈ lw_all := lw_g (lw_at lw_m6 112 rfl) rfl
theorem q1389 : (Jvm.Cond.instanceMethod ({ cls := "EverybodyHasTheBook", name := "recovers", desc := "(I)I" } : Jvm.MethodName)) ∈ lw_all := lw_g (lw_at lw_m6 114 rfl) rfl
theorem q1390 : (Jvm.Cond.selects "EverybodyHasTheBook" ({ cls := "EverybodyHasTheBook", name := "recovers", desc := "(I)I" } : Jvm.MethodName) ({ cls := "EverybodyHasTheBook", name := "recovers", desc := "(I)I" } : Jvm.MethodName)) ∈ lw_all := lw_g (lw_at lw_m6 115 rfl) rfl
theorem q1391 : (Jvm.Cond.code ({ cls := "EverybodyHasTheBook", name := "recovers", desc := "(I)I" } : Jvm.MethodName) prog_1_method_73_code (4 : Nat) (Option.some Jvm.ClassFile.FieldType.int)) ∈ lw_all := lw_g (lw_at lw_m6 116 rfl) rfl
theorem q1392 : (Jvm.Cond.methodLink "EverybodyHasTheBook" (326 : Nat) ({ cls := "java/util/Arrays", name := "fill", desc := "([II)V" } : Jvm.MethodName)) ∈ lw_all := lw_g (lw_at lw_m6 117 rfl) rfl
theorem q1394 : (Jvm.Cond.instanceMethod ({ cls := "EverybodyHasTheBook", name := "dearest", desc := "(II)I" } : Jvm.MethodName)) ∈ lw_all := lw_g (lw_at lw_m6 119 rfl) rfl
theorem q1395 : (Jvm.Cond.selects "EverybodyHasTheBook" ({ cls := "EverybodyHasTheBook", name := "dearest", desc := "(II)I" } : Jvm.MethodName) ({ cls := "EverybodyHasTheBook", name := "dearest", desc := "(II)I" } : Jvm.MethodName)) ∈ lw_all := lw_g (lw_at lw_m6 120 rfl) rfl
theorem q1396 : (Jvm.Cond.code ({ cls := "EverybodyHasTheBook", name := "dearest", desc := "(II)I" } : Jvm.MethodName) prog_1_method_74_code (8 : Nat) (Option.some Jvm.ClassFile.FieldType.int)) ∈ lw_all := lw_g (lw_at lw_m6 121 rfl) rfl
theorem q1398 : (Jvm.Cond.instanceMethod ({ cls := "EverybodyHasTheBook", name := "year", desc := "()I" } : Jvm.MethodName)) ∈ lw_all := lw_g (lw_at lw_m6 123 rfl) rfl
theorem q1399 : (Jvm.Cond.selects "EverybodyHasTheBook" ({ cls := "EverybodyHasTheBook", name := "year", desc := "()I" } : Jvm.MethodName) ({ cls := "EverybodyHasTheBook", name := "year", desc := "()I" } : Jvm.MethodName)) ∈ lw_all := lw_g (lw_at lw_m6 124 rfl) rfl
theorem q1400 : (Jvm.Cond.code ({ cls := "EverybodyHasTheBook", name := "year", desc := "()I" } : Jvm.MethodName) prog_1_method_76_code (1 : Nat) (Option.some Jvm.ClassFile.FieldType.int)) ∈ lw_all := lw_g (lw_at lw_m6 125 rfl) rfl
theorem q1401 : (Jvm.Cond.methodLink "EverybodyHasTheBook" (335 : Nat) ({ cls := "EverybodyHasTheBook", name := "lives", desc := "(I)I" } : Jvm.MethodName)) ∈ lw_all := lw_g (lw_at lw_m6 126 rfl) rfl
theorem q1402 : (Jvm.Cond.privateMethod ({ cls := "EverybodyHasTheBook", name := "lives", desc := "(I)I" } : Jvm.MethodName)) ∈ lw_tbl := lw_at lw_m6 127 rfl
theorem q1403 : (Jvm.Cond.instanceMethod ({ cls := "EverybodyHasTheBook", name := "lives", desc := "(I)I" } : Jvm.MethodName)) ∈ lw_all := lw_g (lw_at lw_m6 128 rfl) rfl
theorem q1404 : (Jvm.Cond.code ({ cls := "EverybodyHasTheBook", name := "lives", desc := "(I)I" } : Jvm.MethodName) prog_1_method_75_code (2 : Nat) (Option.some Jvm.ClassFile.FieldType.int)) ∈ lw_all := lw_g (lw_at lw_m6 129 rfl) rfl
theorem q1406 : (Jvm.Cond.instanceMethod ({ cls := "EverybodyHasTheBook", name := "goes", desc := "(I)I" } : Jvm.MethodName)) ∈ lw_all := lw_g (lw_at lw_m6 131 rfl) rfl
theorem q1407 : (Jvm.Cond.selects "EverybodyHasTheBook" ({ cls := "EverybodyHasTheBook", name := "goes", desc := "(I)I" } : Jvm.MethodName) ({ cls := "EverybodyHasTheBook", name := "goes", desc := "(I)I" } : Jvm.MethodName)) ∈ lw_all := lw_g (lw_at lw_m6 132 rfl) rfl
theorem q1408 : (Jvm.Cond.code ({ cls := "EverybodyHasTheBook", name := "goes", desc := "(I)I" } : Jvm.MethodName) prog_1_method_77_code (2 : Nat) (Option.some Jvm.ClassFile.FieldType.int)) ∈ lw_all := lw_g (lw_at lw_m6 133 rfl) rfl
theorem q1410 : (Jvm.Cond.instanceMethod ({ cls := "EverybodyHasTheBook", name := "post", desc := "(I)I" } : Jvm.MethodName)) ∈ lw_all := lw_g (lw_at lw_m6 135 rfl) rfl
theorem q1411 : (Jvm.Cond.selects "EverybodyHasTheBook" ({ cls := "EverybodyHasTheBook", name := "post", desc := "(I)I" } : Jvm.MethodName) ({ cls := "EverybodyHasTheBook", name := "post", desc := "(I)I" } : Jvm.MethodName)) ∈ lw_all := lw_g (lw_at lw_m6 136 rfl) rfl
theorem q1412 : (Jvm.Cond.code ({ cls := "EverybodyHasTheBook", name := "post", desc := "(I)I" } : Jvm.MethodName) prog_1_method_78_code (6 : Nat) (Option.some Jvm.ClassFile.FieldType.int)) ∈ lw_all := lw_g (lw_at lw_m6 137 rfl) rfl
theorem q1413 : (Jvm.Cond.methodLink "EverybodyHasTheBook" (338 : Nat) ({ cls := "EverybodyHasTheBook$Valley", name := "draw", desc := "(I)I" } : Jvm.MethodName)) ∈ lw_all := lw_g (lw_at lw_m6 138 rfl) rfl
theorem q1418 : (Jvm.Cond.methodLink "EverybodyHasTheBook" (341 : Nat) ({ cls := "EverybodyHasTheBook", name := "within", desc := "(II)I" } : Jvm.MethodName)) ∈ lw_all := lw_g (lw_at lw_m6 143 rfl) rfl
theorem q1419 : (Jvm.Cond.static ({ cls := "EverybodyHasTheBook", name := "within", desc := "(II)I" } : Jvm.MethodName)) ∈ lw_all := lw_g (lw_at lw_m6 144 rfl) rfl
theorem q1420 : (Jvm.Cond.code ({ cls := "EverybodyHasTheBook", name := "within", desc := "(II)I" } : Jvm.MethodName) prog_1_method_3_code (2 : Nat) (Option.some Jvm.ClassFile.FieldType.int)) ∈ lw_all := lw_g (lw_at lw_m6 145 rfl) rfl
theorem q1421 : (Jvm.Cond.methodLink "EverybodyHasTheBook" (1 : Nat) ({ cls := "java/lang/Math", name := "min", desc := "(II)I" } : Jvm.MethodName)) ∈ lw_all := lw_g (lw_at lw_m6 146 rfl) rfl
theorem q1422 : (Jvm.Cond.methodLink "EverybodyHasTheBook" (7 : Nat) ({ cls := "java/lang/Math", name := "max", desc := "(II)I" } : Jvm.MethodName)) ∈ lw_all := lw_g (lw_at lw_m6 147 rfl) rfl
theorem q1424 : (Jvm.Cond.instanceMethod ({ cls := "EverybodyHasTheBook", name := "seed", desc := "(I)I" } : Jvm.MethodName)) ∈ lw_all := lw_g (lw_at lw_m6 149 rfl) rfl
theorem q1425 : (Jvm.Cond.selects "EverybodyHasTheBook" ({ cls := "EverybodyHasTheBook", name := "seed", desc := "(I)I" } : Jvm.MethodName) ({ cls := "EverybodyHasTheBook", name := "seed", desc := "(I)I" } : Jvm.MethodName)) ∈ lw_all := lw_g (lw_at lw_m6 150 rfl) rfl
theorem q1426 : (Jvm.Cond.code ({ cls := "EverybodyHasTheBook", name := "seed", desc := "(I)I" } : Jvm.MethodName) prog_1_method_79_code (3 : Nat) (Option.some Jvm.ClassFile.FieldType.int)) ∈ lw_all := lw_g (lw_at lw_m6 151 rfl) rfl
theorem q1428 : (Jvm.Cond.instanceMethod ({ cls := "EverybodyHasTheBook", name := "image", desc := "()I" } : Jvm.MethodName)) ∈ lw_all := lw_g (lw_at lw_m6 153 rfl) rfl
theorem q1429 : (Jvm.Cond.selects "EverybodyHasTheBook" ({ cls := "EverybodyHasTheBook", name := "image", desc := "()I" } : Jvm.MethodName) ({ cls := "EverybodyHasTheBook", name := "image", desc := "()I" } : Jvm.MethodName)) ∈ lw_all := lw_g (lw_at lw_m6 154 rfl) rfl
theorem q1430 : (Jvm.Cond.code ({ cls := "EverybodyHasTheBook", name := "image", desc := "()I" } : Jvm.MethodName) prog_1_method_80_code (1 : Nat) (Option.some Jvm.ClassFile.FieldType.int)) ∈ lw_all := lw_g (lw_at lw_m6 155 rfl) rfl
theorem q1432 : (Jvm.Cond.instanceMethod ({ cls := "EverybodyHasTheBook", name := "back", desc := "()I" } : Jvm.MethodName)) ∈ lw_all := lw_g (lw_at lw_m6 157 rfl) rfl
theorem q1433 : (Jvm.Cond.selects "EverybodyHasTheBook" ({ cls := "EverybodyHasTheBook", name := "back", desc := "()I" } : Jvm.MethodName) ({ cls := "EverybodyHasTheBook", name := "back", desc := "()I" } : Jvm.MethodName)) ∈ lw_all := lw_g (lw_at lw_m6 158 rfl) rfl
theorem q1434 : (Jvm.Cond.code ({ cls := "EverybodyHasTheBook", name := "back", desc := "()I" } : Jvm.MethodName) prog_1_method_81_code (3 : Nat) (Option.some Jvm.ClassFile.FieldType.int)) ∈ lw_all := lw_g (lw_at lw_m6 159 rfl) rfl
theorem q1436 : (Jvm.Cond.instanceMethod ({ cls := "EverybodyHasTheBook", name := "status", desc := "(I)I" } : Jvm.MethodName)) ∈ lw_all := lw_g (lw_at lw_m6 161 rfl) rfl
theorem q1437 : (Jvm.Cond.selects "EverybodyHasTheBook" ({ cls := "EverybodyHasTheBook", name := "status", desc := "(I)I" } : Jvm.MethodName) ({ cls := "EverybodyHasTheBook", name := "status", desc := "(I)I" } : Jvm.MethodName)) ∈ lw_all := lw_g (lw_at lw_m6 162 rfl) rfl
theorem q1438 : (Jvm.Cond.code ({ cls := "EverybodyHasTheBook", name := "status", desc := "(I)I" } : Jvm.MethodName) prog_1_method_85_code (2 : Nat) (Option.some Jvm.ClassFile.FieldType.int)) ∈ lw_all := lw_g (lw_at lw_m6 163 rfl) rfl
theorem q1439 : (Jvm.Cond.methodLink "EverybodyHasTheBook" (350 : Nat) ({ cls := "EverybodyHasTheBook", name := "inBook", desc := "()I" } : Jvm.MethodName)) ∈ lw_all := lw_g (lw_at lw_m6 164 rfl) rfl
theorem q1440 : (Jvm.Cond.privateMethod ({ cls := "EverybodyHasTheBook", name := "inBook", desc := "()I" } : Jvm.MethodName)) ∈ lw_tbl := lw_at lw_m6 165 rfl
theorem q1441 : (Jvm.Cond.instanceMethod ({ cls := "EverybodyHasTheBook", name := "inBook", desc := "()I" } : Jvm.MethodName)) ∈ lw_all := lw_g (lw_at lw_m6 166 rfl) rfl
theorem q1442 : (Jvm.Cond.code ({ cls := "EverybodyHasTheBook", name := "inBook", desc := "()I" } : Jvm.MethodName) prog_1_method_83_code (3 : Nat) (Option.some Jvm.ClassFile.FieldType.int)) ∈ lw_all := lw_g (lw_at lw_m6 167 rfl) rfl
theorem q1443 : (Jvm.Cond.methodLink "EverybodyHasTheBook" (353 : Nat) ({ cls := "EverybodyHasTheBook", name := "summed", desc := "([II)I" } : Jvm.MethodName)) ∈ lw_all := lw_g (lw_at lw_m6 168 rfl) rfl
theorem q1444 : (Jvm.Cond.static ({ cls := "EverybodyHasTheBook", name := "summed", desc := "([II)I" } : Jvm.MethodName)) ∈ lw_all := lw_g (lw_at lw_m6 169 rfl) rfl
theorem q1445 : (Jvm.Cond.code ({ cls := "EverybodyHasTheBook", name := "summed", desc := "([II)I" } : Jvm.MethodName) prog_1_method_84_code (4 : Nat) (Option.some Jvm.ClassFile.FieldType.int)) ∈ lw_all := lw_g (lw_at lw_m6 170 rfl) rfl
theorem q1446 : (Jvm.Cond.methodLink "EverybodyHasTheBook" (357 : Nat) ({ cls := "EverybodyHasTheBook", name := "held", desc := "()I" } : Jvm.MethodName)) ∈ lw_all := lw_g (lw_at lw_m6 171 rfl) rfl
theorem q1447 : (Jvm.Cond.privateMethod ({ cls := "EverybodyHasTheBook", name := "held", desc := "()I" } : Jvm.MethodName)) ∈ lw_tbl := lw_at lw_m6 172 rfl
theorem q1448 : (Jvm.Cond.instanceMethod ({ cls := "EverybodyHasTheBook", name := "held", desc := "()I" } : Jvm.MethodName)) ∈ lw_all := lw_g (lw_at lw_m6 173 rfl) rfl
theorem q1449 : (Jvm.Cond.code ({ cls := "EverybodyHasTheBook", name := "held", desc := "()I" } : Jvm.MethodName) prog_1_method_82_code (3 : Nat) (Option.some Jvm.ClassFile.FieldType.int)) ∈ lw_all := lw_g (lw_at lw_m6 174 rfl) rfl
theorem in_X0 : ∀ w ∈ wsX00, w ∈ lw_all := lw_in wsX00 [234, 236, 238, 240, 242, 244, 246] (by decide +kernel) (by decide +kernel)
