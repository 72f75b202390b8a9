/-! SongThatStays -/
set_option maxRecDepth 100000
def RX0 : String := "SongThatStays"
def TX0 : u_T := fun k => match k with
  | 0 => ("SongThatStays", "kinds", "[LSongThatStays$Kind;", true)
  | 1 => ("SongThatStays", "office", "LSongThatStays$Office;", true)
  | 2 => ("SongThatStays", "mind", "LSongThatStays$Office;", true)
  | 3 => ("SongThatStays", "imaged", "LSongThatStays$Office;", true)
  | 4 => ("SongThatStays", "hasImage", "Z", false)
  | 5 => ("SongThatStays", "row", "[B", true)
  | 6 => ("SongThatStays", "rowMany", "I", false)
  | 7 => ("SongThatStays", "letters", "[C", true)
  | 8 => ("SongThatStays", "letterMany", "I", false)
  | _ => ("SongThatStays", "refused", "[I", true)
def tyX0 : Nat → FieldType := fun k => match k with
  | 0 => .array (.object "SongThatStays$Kind")
  | 1 => .object "SongThatStays$Office"
  | 2 => .object "SongThatStays$Office"
  | 3 => .object "SongThatStays$Office"
  | 4 => .boolean
  | 5 => .array .byte
  | 6 => .int
  | 7 => .array .char
  | 8 => .int
  | _ => .array .int
abbrev wsX00 : List Cond := u_ws RX0 TX0 10
theorem nmX0 : ∀ a, a < 10 → ∀ b, b < 10 → a ≠ b → (TX0 a).2.1 ≠ (TX0 b).2.1 := by decide +kernel
theorem tyX0_ok : ∀ k, k < 10 → parseFieldDescriptor (TX0 k).2.2.1 = some (tyX0 k) := by decide +kernel
abbrev cX0_init : ByteArray := prog_1_method_8_code
def yX0_init : MethodName := ⟨RX0, "<init>", "()V"⟩
def dkwX0_init_5 : List UInt8 := [16, 96, 188, 5, 181, 0, 83, 42, 16, 7, 188, 10, 181, 0, 87, 177]
abbrev dktX0_init_5 : List UInt8 := dkwX0_init_5 ++ []
def dkwX0_init_4 : List UInt8 := [181, 0, 73, 42, 187, 0, 66, 89, 183, 0, 68, 181, 0, 76, 42, 16, 6, 188, 8, 181, 0, 79, 42]
abbrev dktX0_init_4 : List UInt8 := dkwX0_init_4 ++ dktX0_init_5
def dkwX0_init_3 : List UInt8 := [181, 0, 62, 42, 187, 0, 66, 89, 183, 0, 68, 181, 0, 69, 42, 187, 0, 66, 89, 183, 0, 68]
abbrev dktX0_init_3 : List UInt8 := dkwX0_init_3 ++ dktX0_init_4
def dkwX0_init_2 : List UInt8 := [183, 0, 55, 83, 89, 7, 187, 0, 56, 89, 183, 0, 58, 83, 89, 8, 187, 0, 59, 89, 183, 0, 61, 83]
abbrev dktX0_init_2 : List UInt8 := dkwX0_init_2 ++ dktX0_init_3
def dkwX0_init_1 : List UInt8 := [187, 0, 47, 89, 183, 0, 49, 83, 89, 5, 187, 0, 50, 89, 183, 0, 52, 83, 89, 6, 187, 0, 53, 89]
abbrev dktX0_init_1 : List UInt8 := dkwX0_init_1 ++ dktX0_init_2
def dkwX0_init_0 : List UInt8 := [42, 183, 0, 37, 42, 16, 6, 189, 0, 42, 89, 3, 187, 0, 44, 89, 183, 0, 46, 83, 89, 4]
abbrev dktX0_init_0 : List UInt8 := dkwX0_init_0 ++ dktX0_init_1
theorem dksX0_init_0 : cX0_init.data.toList.drop 0 = dktX0_init_0 := by decide +kernel
theorem dksX0_init_1 : cX0_init.data.toList.drop 22 = dktX0_init_1 := dk_seg dksX0_init_0 22 rfl rfl
theorem dksX0_init_2 : cX0_init.data.toList.drop 46 = dktX0_init_2 := dk_seg dksX0_init_1 24 rfl rfl
theorem dksX0_init_3 : cX0_init.data.toList.drop 70 = dktX0_init_3 := dk_seg dksX0_init_2 24 rfl rfl
theorem dksX0_init_4 : cX0_init.data.toList.drop 92 = dktX0_init_4 := dk_seg dksX0_init_3 22 rfl rfl
theorem dksX0_init_5 : cX0_init.data.toList.drop 115 = dktX0_init_5 := dk_seg dksX0_init_4 23 rfl rfl
theorem dX0_init_0 : decode cX0_init 0 = .ok (.aload_n 0, 1) := dk_42 (dk_at dksX0_init_0 0 rfl rfl)
theorem dX0_init_1 : decode cX0_init 1 = .ok (.invokespecial 37, 3) := dk_183 0 37 (dk_at dksX0_init_0 1 rfl rfl)
theorem dX0_init_4 : decode cX0_init 4 = .ok (.aload_n 0, 1) := dk_42 (dk_at dksX0_init_0 4 rfl rfl)
theorem dX0_init_5 : decode cX0_init 5 = .ok (.bipush 6, 2) := dk_16 6 (dk_at dksX0_init_0 5 rfl rfl)
theorem dX0_init_7 : decode cX0_init 7 = .ok (.anewarray 42, 3) := dk_189 0 42 (dk_at dksX0_init_0 7 rfl rfl)
theorem dX0_init_10 : decode cX0_init 10 = .ok (.dup, 1) := dk_89 (dk_at dksX0_init_0 10 rfl rfl)
theorem dX0_init_11 : decode cX0_init 11 = .ok (.iconst 0, 1) := dk_3 (dk_at dksX0_init_0 11 rfl rfl)
theorem dX0_init_12 : decode cX0_init 12 = .ok (.new 44, 3) := dk_187 0 44 (dk_at dksX0_init_0 12 rfl rfl)
theorem dX0_init_15 : decode cX0_init 15 = .ok (.dup, 1) := dk_89 (dk_at dksX0_init_0 15 rfl rfl)
theorem dX0_init_16 : decode cX0_init 16 = .ok (.invokespecial 46, 3) := dk_183 0 46 (dk_at dksX0_init_0 16 rfl rfl)
theorem dX0_init_19 : decode cX0_init 19 = .ok (.aastore, 1) := dk_83 (dk_at dksX0_init_0 19 rfl rfl)
theorem dX0_init_20 : decode cX0_init 20 = .ok (.dup, 1) := dk_89 (dk_at dksX0_init_0 20 rfl rfl)
theorem dX0_init_21 : decode cX0_init 21 = .ok (.iconst 1, 1) := dk_4 (dk_at dksX0_init_0 21 rfl rfl)
theorem dX0_init_22 : decode cX0_init 22 = .ok (.new 47, 3) := dk_187 0 47 (dk_at dksX0_init_1 0 rfl rfl)
theorem dX0_init_25 : decode cX0_init 25 = .ok (.dup, 1) := dk_89 (dk_at dksX0_init_1 3 rfl rfl)
theorem dX0_init_26 : decode cX0_init 26 = .ok (.invokespecial 49, 3) := dk_183 0 49 (dk_at dksX0_init_1 4 rfl rfl)
theorem dX0_init_29 : decode cX0_init 29 = .ok (.aastore, 1) := dk_83 (dk_at dksX0_init_1 7 rfl rfl)
theorem dX0_init_30 : decode cX0_init 30 = .ok (.dup, 1) := dk_89 (dk_at dksX0_init_1 8 rfl rfl)
theorem dX0_init_31 : decode cX0_init 31 = .ok (.iconst 2, 1) := dk_5 (dk_at dksX0_init_1 9 rfl rfl)
theorem dX0_init_32 : decode cX0_init 32 = .ok (.new 50, 3) := dk_187 0 50 (dk_at dksX0_init_1 10 rfl rfl)
theorem dX0_init_35 : decode cX0_init 35 = .ok (.dup, 1) := dk_89 (dk_at dksX0_init_1 13 rfl rfl)
theorem dX0_init_36 : decode cX0_init 36 = .ok (.invokespecial 52, 3) := dk_183 0 52 (dk_at dksX0_init_1 14 rfl rfl)
theorem dX0_init_39 : decode cX0_init 39 = .ok (.aastore, 1) := dk_83 (dk_at dksX0_init_1 17 rfl rfl)
theorem dX0_init_40 : decode cX0_init 40 = .ok (.dup, 1) := dk_89 (dk_at dksX0_init_1 18 rfl rfl)
theorem dX0_init_41 : decode cX0_init 41 = .ok (.iconst 3, 1) := dk_6 (dk_at dksX0_init_1 19 rfl rfl)
theorem dX0_init_42 : decode cX0_init 42 = .ok (.new 53, 3) := dk_187 0 53 (dk_at dksX0_init_1 20 rfl rfl)
theorem dX0_init_45 : decode cX0_init 45 = .ok (.dup, 1) := dk_89 (dk_at dksX0_init_1 23 rfl rfl)
theorem dX0_init_46 : decode cX0_init 46 = .ok (.invokespecial 55, 3) := dk_183 0 55 (dk_at dksX0_init_2 0 rfl rfl)
theorem dX0_init_49 : decode cX0_init 49 = .ok (.aastore, 1) := dk_83 (dk_at dksX0_init_2 3 rfl rfl)
theorem dX0_init_50 : decode cX0_init 50 = .ok (.dup, 1) := dk_89 (dk_at dksX0_init_2 4 rfl rfl)
theorem dX0_init_51 : decode cX0_init 51 = .ok (.iconst 4, 1) := dk_7 (dk_at dksX0_init_2 5 rfl rfl)
theorem dX0_init_52 : decode cX0_init 52 = .ok (.new 56, 3) := dk_187 0 56 (dk_at dksX0_init_2 6 rfl rfl)
theorem dX0_init_55 : decode cX0_init 55 = .ok (.dup, 1) := dk_89 (dk_at dksX0_init_2 9 rfl rfl)
theorem dX0_init_56 : decode cX0_init 56 = .ok (.invokespecial 58, 3) := dk_183 0 58 (dk_at dksX0_init_2 10 rfl rfl)
theorem dX0_init_59 : decode cX0_init 59 = .ok (.aastore, 1) := dk_83 (dk_at dksX0_init_2 13 rfl rfl)
theorem dX0_init_60 : decode cX0_init 60 = .ok (.dup, 1) := dk_89 (dk_at dksX0_init_2 14 rfl rfl)
theorem dX0_init_61 : decode cX0_init 61 = .ok (.iconst 5, 1) := dk_8 (dk_at dksX0_init_2 15 rfl rfl)
theorem dX0_init_62 : decode cX0_init 62 = .ok (.new 59, 3) := dk_187 0 59 (dk_at dksX0_init_2 16 rfl rfl)
theorem dX0_init_65 : decode cX0_init 65 = .ok (.dup, 1) := dk_89 (dk_at dksX0_init_2 19 rfl rfl)
theorem dX0_init_66 : decode cX0_init 66 = .ok (.invokespecial 61, 3) := dk_183 0 61 (dk_at dksX0_init_2 20 rfl rfl)
theorem dX0_init_69 : decode cX0_init 69 = .ok (.aastore, 1) := dk_83 (dk_at dksX0_init_2 23 rfl rfl)
theorem dX0_init_70 : decode cX0_init 70 = .ok (.putfield 62, 3) := dk_181 0 62 (dk_at dksX0_init_3 0 rfl rfl)
theorem dX0_init_73 : decode cX0_init 73 = .ok (.aload_n 0, 1) := dk_42 (dk_at dksX0_init_3 3 rfl rfl)
theorem dX0_init_74 : decode cX0_init 74 = .ok (.new 66, 3) := dk_187 0 66 (dk_at dksX0_init_3 4 rfl rfl)
theorem dX0_init_77 : decode cX0_init 77 = .ok (.dup, 1) := dk_89 (dk_at dksX0_init_3 7 rfl rfl)
theorem dX0_init_78 : decode cX0_init 78 = .ok (.invokespecial 68, 3) := dk_183 0 68 (dk_at dksX0_init_3 8 rfl rfl)
theorem dX0_init_81 : decode cX0_init 81 = .ok (.putfield 69, 3) := dk_181 0 69 (dk_at dksX0_init_3 11 rfl rfl)
theorem dX0_init_84 : decode cX0_init 84 = .ok (.aload_n 0, 1) := dk_42 (dk_at dksX0_init_3 14 rfl rfl)
theorem dX0_init_85 : decode cX0_init 85 = .ok (.new 66, 3) := dk_187 0 66 (dk_at dksX0_init_3 15 rfl rfl)
theorem dX0_init_88 : decode cX0_init 88 = .ok (.dup, 1) := dk_89 (dk_at dksX0_init_3 18 rfl rfl)
theorem dX0_init_89 : decode cX0_init 89 = .ok (.invokespecial 68, 3) := dk_183 0 68 (dk_at dksX0_init_3 19 rfl rfl)
theorem dX0_init_92 : decode cX0_init 92 = .ok (.putfield 73, 3) := dk_181 0 73 (dk_at dksX0_init_4 0 rfl rfl)
theorem dX0_init_95 : decode cX0_init 95 = .ok (.aload_n 0, 1) := dk_42 (dk_at dksX0_init_4 3 rfl rfl)
theorem dX0_init_96 : decode cX0_init 96 = .ok (.new 66, 3) := dk_187 0 66 (dk_at dksX0_init_4 4 rfl rfl)
theorem dX0_init_99 : decode cX0_init 99 = .ok (.dup, 1) := dk_89 (dk_at dksX0_init_4 7 rfl rfl)
theorem dX0_init_100 : decode cX0_init 100 = .ok (.invokespecial 68, 3) := dk_183 0 68 (dk_at dksX0_init_4 8 rfl rfl)
theorem dX0_init_103 : decode cX0_init 103 = .ok (.putfield 76, 3) := dk_181 0 76 (dk_at dksX0_init_4 11 rfl rfl)
theorem dX0_init_106 : decode cX0_init 106 = .ok (.aload_n 0, 1) := dk_42 (dk_at dksX0_init_4 14 rfl rfl)
theorem dX0_init_107 : decode cX0_init 107 = .ok (.bipush 6, 2) := dk_16 6 (dk_at dksX0_init_4 15 rfl rfl)
theorem dX0_init_109 : decode cX0_init 109 = .ok (.newarray .byte, 2) := dk_188_8 (dk_at dksX0_init_4 17 rfl rfl)
theorem dX0_init_111 : decode cX0_init 111 = .ok (.putfield 79, 3) := dk_181 0 79 (dk_at dksX0_init_4 19 rfl rfl)
theorem dX0_init_114 : decode cX0_init 114 = .ok (.aload_n 0, 1) := dk_42 (dk_at dksX0_init_4 22 rfl rfl)
theorem dX0_init_115 : decode cX0_init 115 = .ok (.bipush 96, 2) := dk_16 96 (dk_at dksX0_init_5 0 rfl rfl)
theorem dX0_init_117 : decode cX0_init 117 = .ok (.newarray .char, 2) := dk_188_5 (dk_at dksX0_init_5 2 rfl rfl)
theorem dX0_init_119 : decode cX0_init 119 = .ok (.putfield 83, 3) := dk_181 0 83 (dk_at dksX0_init_5 4 rfl rfl)
theorem dX0_init_122 : decode cX0_init 122 = .ok (.aload_n 0, 1) := dk_42 (dk_at dksX0_init_5 7 rfl rfl)
theorem dX0_init_123 : decode cX0_init 123 = .ok (.bipush 7, 2) := dk_16 7 (dk_at dksX0_init_5 8 rfl rfl)
theorem dX0_init_125 : decode cX0_init 125 = .ok (.newarray .int, 2) := dk_188_10 (dk_at dksX0_init_5 10 rfl rfl)
theorem dX0_init_127 : decode cX0_init 127 = .ok (.putfield 87, 3) := dk_181 0 87 (dk_at dksX0_init_5 12 rfl rfl)
theorem dX0_init_130 : decode cX0_init 130 = .ok (.return_, 1) := dk_177 (dk_at dksX0_init_5 15 rfl rfl)
abbrev cX0_letter : ByteArray := prog_1_method_58_code
def yX0_letter : MethodName := ⟨RX0, "letter", "(I)I"⟩
def dkwX0_letter_0 : List UInt8 := [42, 3, 27, 3, 3, 182, 1, 164, 172]
abbrev dktX0_letter_0 : List UInt8 := dkwX0_letter_0 ++ []
theorem dksX0_letter_0 : cX0_letter.data.toList.drop 0 = dktX0_letter_0 := by decide +kernel
theorem dX0_letter_0 : decode cX0_letter 0 = .ok (.aload_n 0, 1) := dk_42 (dk_at dksX0_letter_0 0 rfl rfl)
theorem dX0_letter_1 : decode cX0_letter 1 = .ok (.iconst 0, 1) := dk_3 (dk_at dksX0_letter_0 1 rfl rfl)
theorem dX0_letter_2 : decode cX0_letter 2 = .ok (.iload_n 1, 1) := dk_27 (dk_at dksX0_letter_0 2 rfl rfl)
theorem dX0_letter_3 : decode cX0_letter 3 = .ok (.iconst 0, 1) := dk_3 (dk_at dksX0_letter_0 3 rfl rfl)
theorem dX0_letter_4 : decode cX0_letter 4 = .ok (.iconst 0, 1) := dk_3 (dk_at dksX0_letter_0 4 rfl rfl)
theorem dX0_letter_5 : decode cX0_letter 5 = .ok (.invokevirtual 420, 3) := dk_182 1 164 (dk_at dksX0_letter_0 5 rfl rfl)
theorem dX0_letter_8 : decode cX0_letter 8 = .ok (.ireturn, 1) := dk_172 (dk_at dksX0_letter_0 8 rfl rfl)
abbrev cX0_act : ByteArray := prog_1_method_28_code
def yX0_act : MethodName := ⟨RX0, "act", "(IIII)I"⟩
def dkwX0_act_2 : List UInt8 := [25, 5, 182, 0, 225, 182, 0, 228, 172]
abbrev dktX0_act_2 : List UInt8 := dkwX0_act_2 ++ []
def dkwX0_act_1 : List UInt8 := [28, 29, 21, 4, 182, 0, 216, 167, 0, 12, 42, 27, 28, 29, 21, 4, 182, 0, 220, 172, 58, 5, 42]
abbrev dktX0_act_1 : List UInt8 := dkwX0_act_1 ++ dktX0_act_2
def dkwX0_act_0 : List UInt8 := [27, 16, 11, 162, 0, 13, 42, 27, 28, 29, 182, 0, 212, 167, 0, 30, 27, 16, 21, 162, 0, 15, 42, 27]
abbrev dktX0_act_0 : List UInt8 := dkwX0_act_0 ++ dktX0_act_1
theorem dksX0_act_0 : cX0_act.data.toList.drop 0 = dktX0_act_0 := by decide +kernel
theorem dksX0_act_1 : cX0_act.data.toList.drop 24 = dktX0_act_1 := dk_seg dksX0_act_0 24 rfl rfl
theorem dksX0_act_2 : cX0_act.data.toList.drop 47 = dktX0_act_2 := dk_seg dksX0_act_1 23 rfl rfl
theorem dX0_act_0 : decode cX0_act 0 = .ok (.iload_n 1, 1) := dk_27 (dk_at dksX0_act_0 0 rfl rfl)
theorem dX0_act_1 : decode cX0_act 1 = .ok (.bipush 11, 2) := dk_16 11 (dk_at dksX0_act_0 1 rfl rfl)
theorem dX0_act_3 : decode cX0_act 3 = .ok (.if_icmp .ge 13, 3) := dk_162 0 13 (dk_at dksX0_act_0 3 rfl rfl)
theorem dX0_act_6 : decode cX0_act 6 = .ok (.aload_n 0, 1) := dk_42 (dk_at dksX0_act_0 6 rfl rfl)
theorem dX0_act_7 : decode cX0_act 7 = .ok (.iload_n 1, 1) := dk_27 (dk_at dksX0_act_0 7 rfl rfl)
theorem dX0_act_8 : decode cX0_act 8 = .ok (.iload_n 2, 1) := dk_28 (dk_at dksX0_act_0 8 rfl rfl)
theorem dX0_act_9 : decode cX0_act 9 = .ok (.iload_n 3, 1) := dk_29 (dk_at dksX0_act_0 9 rfl rfl)
theorem dX0_act_10 : decode cX0_act 10 = .ok (.invokevirtual 212, 3) := dk_182 0 212 (dk_at dksX0_act_0 10 rfl rfl)
theorem dX0_act_13 : decode cX0_act 13 = .ok (.goto 30, 3) := dk_167 0 30 (dk_at dksX0_act_0 13 rfl rfl)
theorem dX0_act_16 : decode cX0_act 16 = .ok (.iload_n 1, 1) := dk_27 (dk_at dksX0_act_0 16 rfl rfl)
theorem dX0_act_17 : decode cX0_act 17 = .ok (.bipush 21, 2) := dk_16 21 (dk_at dksX0_act_0 17 rfl rfl)
theorem dX0_act_19 : decode cX0_act 19 = .ok (.if_icmp .ge 15, 3) := dk_162 0 15 (dk_at dksX0_act_0 19 rfl rfl)
theorem dX0_act_22 : decode cX0_act 22 = .ok (.aload_n 0, 1) := dk_42 (dk_at dksX0_act_0 22 rfl rfl)
theorem dX0_act_23 : decode cX0_act 23 = .ok (.iload_n 1, 1) := dk_27 (dk_at dksX0_act_0 23 rfl rfl)
theorem dX0_act_24 : decode cX0_act 24 = .ok (.iload_n 2, 1) := dk_28 (dk_at dksX0_act_1 0 rfl rfl)
theorem dX0_act_25 : decode cX0_act 25 = .ok (.iload_n 3, 1) := dk_29 (dk_at dksX0_act_1 1 rfl rfl)
theorem dX0_act_26 : decode cX0_act 26 = .ok (.iload 4, 2) := dk_21 4 (dk_at dksX0_act_1 2 rfl rfl)
theorem dX0_act_28 : decode cX0_act 28 = .ok (.invokevirtual 216, 3) := dk_182 0 216 (dk_at dksX0_act_1 4 rfl rfl)
theorem dX0_act_31 : decode cX0_act 31 = .ok (.goto 12, 3) := dk_167 0 12 (dk_at dksX0_act_1 7 rfl rfl)
theorem dX0_act_34 : decode cX0_act 34 = .ok (.aload_n 0, 1) := dk_42 (dk_at dksX0_act_1 10 rfl rfl)
theorem dX0_act_35 : decode cX0_act 35 = .ok (.iload_n 1, 1) := dk_27 (dk_at dksX0_act_1 11 rfl rfl)
theorem dX0_act_36 : decode cX0_act 36 = .ok (.iload_n 2, 1) := dk_28 (dk_at dksX0_act_1 12 rfl rfl)
theorem dX0_act_37 : decode cX0_act 37 = .ok (.iload_n 3, 1) := dk_29 (dk_at dksX0_act_1 13 rfl rfl)
theorem dX0_act_38 : decode cX0_act 38 = .ok (.iload 4, 2) := dk_21 4 (dk_at dksX0_act_1 14 rfl rfl)
theorem dX0_act_40 : decode cX0_act 40 = .ok (.invokevirtual 220, 3) := dk_182 0 220 (dk_at dksX0_act_1 16 rfl rfl)
theorem dX0_act_43 : decode cX0_act 43 = .ok (.ireturn, 1) := dk_172 (dk_at dksX0_act_1 19 rfl rfl)
theorem dX0_act_44 : decode cX0_act 44 = .ok (.astore 5, 2) := dk_58 5 (dk_at dksX0_act_1 20 rfl rfl)
theorem dX0_act_46 : decode cX0_act 46 = .ok (.aload_n 0, 1) := dk_42 (dk_at dksX0_act_1 22 rfl rfl)
theorem dX0_act_47 : decode cX0_act 47 = .ok (.aload 5, 2) := dk_25 5 (dk_at dksX0_act_2 0 rfl rfl)
theorem dX0_act_49 : decode cX0_act 49 = .ok (.invokevirtual 225, 3) := dk_182 0 225 (dk_at dksX0_act_2 2 rfl rfl)
theorem dX0_act_52 : decode cX0_act 52 = .ok (.invokevirtual 228, 3) := dk_182 0 228 (dk_at dksX0_act_2 5 rfl rfl)
theorem dX0_act_55 : decode cX0_act 55 = .ok (.ireturn, 1) := dk_172 (dk_at dksX0_act_2 8 rfl rfl)
abbrev cX0_ofOffice : ByteArray := prog_1_method_43_code
def yX0_ofOffice : MethodName := ⟨RX0, "ofOffice", "(III)I"⟩
def dkwX0_ofOffice_6 : List UInt8 := [182, 1, 65, 172]
abbrev dktX0_ofOffice_6 : List UInt8 := dkwX0_ofOffice_6 ++ []
def dkwX0_ofOffice_5 : List UInt8 := [3, 167, 0, 4, 4, 172, 42, 28, 29, 182, 1, 59, 172, 42, 28, 29, 182, 1, 62, 172, 42, 27, 28, 29]
abbrev dktX0_ofOffice_5 : List UInt8 := dkwX0_ofOffice_5 ++ dktX0_ofOffice_6
def dkwX0_ofOffice_4 : List UInt8 := [180, 0, 182, 4, 28, 120, 130, 181, 0, 182, 42, 180, 0, 69, 180, 0, 182, 28, 184, 0, 185, 153, 0, 7]
abbrev dktX0_ofOffice_4 : List UInt8 := dkwX0_ofOffice_4 ++ dktX0_ofOffice_5
def dkwX0_ofOffice_3 : List UInt8 := [172, 42, 28, 182, 1, 56, 172, 28, 42, 180, 0, 69, 180, 0, 179, 184, 0, 231, 42, 180, 0, 69, 89]
abbrev dktX0_ofOffice_3 : List UInt8 := dkwX0_ofOffice_3 ++ dktX0_ofOffice_4
def dkwX0_ofOffice_2 : List UInt8 := [42, 28, 182, 1, 44, 172, 42, 182, 1, 47, 172, 42, 28, 29, 182, 1, 50, 172, 42, 28, 29, 182, 1, 53]
abbrev dktX0_ofOffice_2 : List UInt8 := dkwX0_ofOffice_2 ++ dktX0_ofOffice_3
def dkwX0_ofOffice_1 : List UInt8 := [170, 0, 0, 0, 0, 0, 138, 0, 0, 0, 0, 0, 0, 0, 7, 0, 0, 0, 47, 0, 0, 0, 53, 0, 0, 0, 58, 0, 0, 0, 65, 0, 0, 0, 72, 0, 0, 0, 78, 0, 0, 0, 124, 0, 0, 0, 131]
abbrev dktX0_ofOffice_1 : List UInt8 := dkwX0_ofOffice_1 ++ dktX0_ofOffice_2
def dkwX0_ofOffice_0 : List UInt8 := [27]
abbrev dktX0_ofOffice_0 : List UInt8 := dkwX0_ofOffice_0 ++ dktX0_ofOffice_1
theorem dksX0_ofOffice_0 : cX0_ofOffice.data.toList.drop 0 = dktX0_ofOffice_0 := by decide +kernel
theorem dksX0_ofOffice_1 : cX0_ofOffice.data.toList.drop 1 = dktX0_ofOffice_1 := dk_seg dksX0_ofOffice_0 1 rfl rfl
theorem dksX0_ofOffice_2 : cX0_ofOffice.data.toList.drop 48 = dktX0_ofOffice_2 := dk_seg dksX0_ofOffice_1 47 rfl rfl
theorem dksX0_ofOffice_3 : cX0_ofOffice.data.toList.drop 72 = dktX0_ofOffice_3 := dk_seg dksX0_ofOffice_2 24 rfl rfl
theorem dksX0_ofOffice_4 : cX0_ofOffice.data.toList.drop 95 = dktX0_ofOffice_4 := dk_seg dksX0_ofOffice_3 23 rfl rfl
theorem dksX0_ofOffice_5 : cX0_ofOffice.data.toList.drop 119 = dktX0_ofOffice_5 := dk_seg dksX0_ofOffice_4 24 rfl rfl
theorem dksX0_ofOffice_6 : cX0_ofOffice.data.toList.drop 143 = dktX0_ofOffice_6 := dk_seg dksX0_ofOffice_5 24 rfl rfl
theorem dX0_ofOffice_0 : decode cX0_ofOffice 0 = .ok (.iload_n 1, 1) := dk_27 (dk_at dksX0_ofOffice_0 0 rfl rfl)
theorem dX0_ofOffice_1 : decode cX0_ofOffice 1 = .ok (.tableswitch 138 0 7 #[47, 53, 58, 65, 72, 78, 124, 131], 47) := by decide +kernel
theorem dX0_ofOffice_48 : decode cX0_ofOffice 48 = .ok (.aload_n 0, 1) := dk_42 (dk_at dksX0_ofOffice_2 0 rfl rfl)
theorem dX0_ofOffice_49 : decode cX0_ofOffice 49 = .ok (.iload_n 2, 1) := dk_28 (dk_at dksX0_ofOffice_2 1 rfl rfl)
theorem dX0_ofOffice_50 : decode cX0_ofOffice 50 = .ok (.invokevirtual 300, 3) := dk_182 1 44 (dk_at dksX0_ofOffice_2 2 rfl rfl)
theorem dX0_ofOffice_53 : decode cX0_ofOffice 53 = .ok (.ireturn, 1) := dk_172 (dk_at dksX0_ofOffice_2 5 rfl rfl)
theorem dX0_ofOffice_54 : decode cX0_ofOffice 54 = .ok (.aload_n 0, 1) := dk_42 (dk_at dksX0_ofOffice_2 6 rfl rfl)
theorem dX0_ofOffice_55 : decode cX0_ofOffice 55 = .ok (.invokevirtual 303, 3) := dk_182 1 47 (dk_at dksX0_ofOffice_2 7 rfl rfl)
theorem dX0_ofOffice_58 : decode cX0_ofOffice 58 = .ok (.ireturn, 1) := dk_172 (dk_at dksX0_ofOffice_2 10 rfl rfl)
theorem dX0_ofOffice_59 : decode cX0_ofOffice 59 = .ok (.aload_n 0, 1) := dk_42 (dk_at dksX0_ofOffice_2 11 rfl rfl)
theorem dX0_ofOffice_60 : decode cX0_ofOffice 60 = .ok (.iload_n 2, 1) := dk_28 (dk_at dksX0_ofOffice_2 12 rfl rfl)
theorem dX0_ofOffice_61 : decode cX0_ofOffice 61 = .ok (.iload_n 3, 1) := dk_29 (dk_at dksX0_ofOffice_2 13 rfl rfl)
theorem dX0_ofOffice_62 : decode cX0_ofOffice 62 = .ok (.invokevirtual 306, 3) := dk_182 1 50 (dk_at dksX0_ofOffice_2 14 rfl rfl)
theorem dX0_ofOffice_65 : decode cX0_ofOffice 65 = .ok (.ireturn, 1) := dk_172 (dk_at dksX0_ofOffice_2 17 rfl rfl)
theorem dX0_ofOffice_66 : decode cX0_ofOffice 66 = .ok (.aload_n 0, 1) := dk_42 (dk_at dksX0_ofOffice_2 18 rfl rfl)
theorem dX0_ofOffice_67 : decode cX0_ofOffice 67 = .ok (.iload_n 2, 1) := dk_28 (dk_at dksX0_ofOffice_2 19 rfl rfl)
theorem dX0_ofOffice_68 : decode cX0_ofOffice 68 = .ok (.iload_n 3, 1) := dk_29 (dk_at dksX0_ofOffice_2 20 rfl rfl)
theorem dX0_ofOffice_69 : decode cX0_ofOffice 69 = .ok (.invokevirtual 309, 3) := dk_182 1 53 (dk_at dksX0_ofOffice_2 21 rfl rfl)
theorem dX0_ofOffice_72 : decode cX0_ofOffice 72 = .ok (.ireturn, 1) := dk_172 (dk_at dksX0_ofOffice_3 0 rfl rfl)
theorem dX0_ofOffice_73 : decode cX0_ofOffice 73 = .ok (.aload_n 0, 1) := dk_42 (dk_at dksX0_ofOffice_3 1 rfl rfl)
theorem dX0_ofOffice_74 : decode cX0_ofOffice 74 = .ok (.iload_n 2, 1) := dk_28 (dk_at dksX0_ofOffice_3 2 rfl rfl)
theorem dX0_ofOffice_75 : decode cX0_ofOffice 75 = .ok (.invokevirtual 312, 3) := dk_182 1 56 (dk_at dksX0_ofOffice_3 3 rfl rfl)
theorem dX0_ofOffice_78 : decode cX0_ofOffice 78 = .ok (.ireturn, 1) := dk_172 (dk_at dksX0_ofOffice_3 6 rfl rfl)
theorem dX0_ofOffice_79 : decode cX0_ofOffice 79 = .ok (.iload_n 2, 1) := dk_28 (dk_at dksX0_ofOffice_3 7 rfl rfl)
theorem dX0_ofOffice_80 : decode cX0_ofOffice 80 = .ok (.aload_n 0, 1) := dk_42 (dk_at dksX0_ofOffice_3 8 rfl rfl)
theorem dX0_ofOffice_81 : decode cX0_ofOffice 81 = .ok (.getfield 69, 3) := dk_180 0 69 (dk_at dksX0_ofOffice_3 9 rfl rfl)
theorem dX0_ofOffice_84 : decode cX0_ofOffice 84 = .ok (.getfield 179, 3) := dk_180 0 179 (dk_at dksX0_ofOffice_3 12 rfl rfl)
theorem dX0_ofOffice_87 : decode cX0_ofOffice 87 = .ok (.invokestatic 231, 3) := dk_184 0 231 (dk_at dksX0_ofOffice_3 15 rfl rfl)
theorem dX0_ofOffice_90 : decode cX0_ofOffice 90 = .ok (.aload_n 0, 1) := dk_42 (dk_at dksX0_ofOffice_3 18 rfl rfl)
theorem dX0_ofOffice_91 : decode cX0_ofOffice 91 = .ok (.getfield 69, 3) := dk_180 0 69 (dk_at dksX0_ofOffice_3 19 rfl rfl)
theorem dX0_ofOffice_94 : decode cX0_ofOffice 94 = .ok (.dup, 1) := dk_89 (dk_at dksX0_ofOffice_3 22 rfl rfl)
theorem dX0_ofOffice_95 : decode cX0_ofOffice 95 = .ok (.getfield 182, 3) := dk_180 0 182 (dk_at dksX0_ofOffice_4 0 rfl rfl)
theorem dX0_ofOffice_98 : decode cX0_ofOffice 98 = .ok (.iconst 1, 1) := dk_4 (dk_at dksX0_ofOffice_4 3 rfl rfl)
theorem dX0_ofOffice_99 : decode cX0_ofOffice 99 = .ok (.iload_n 2, 1) := dk_28 (dk_at dksX0_ofOffice_4 4 rfl rfl)
theorem dX0_ofOffice_100 : decode cX0_ofOffice 100 = .ok (.ishl, 1) := dk_120 (dk_at dksX0_ofOffice_4 5 rfl rfl)
theorem dX0_ofOffice_101 : decode cX0_ofOffice 101 = .ok (.ixor, 1) := dk_130 (dk_at dksX0_ofOffice_4 6 rfl rfl)
theorem dX0_ofOffice_102 : decode cX0_ofOffice 102 = .ok (.putfield 182, 3) := dk_181 0 182 (dk_at dksX0_ofOffice_4 7 rfl rfl)
theorem dX0_ofOffice_105 : decode cX0_ofOffice 105 = .ok (.aload_n 0, 1) := dk_42 (dk_at dksX0_ofOffice_4 10 rfl rfl)
theorem dX0_ofOffice_106 : decode cX0_ofOffice 106 = .ok (.getfield 69, 3) := dk_180 0 69 (dk_at dksX0_ofOffice_4 11 rfl rfl)
theorem dX0_ofOffice_109 : decode cX0_ofOffice 109 = .ok (.getfield 182, 3) := dk_180 0 182 (dk_at dksX0_ofOffice_4 14 rfl rfl)
theorem dX0_ofOffice_112 : decode cX0_ofOffice 112 = .ok (.iload_n 2, 1) := dk_28 (dk_at dksX0_ofOffice_4 17 rfl rfl)
theorem dX0_ofOffice_113 : decode cX0_ofOffice 113 = .ok (.invokestatic 185, 3) := dk_184 0 185 (dk_at dksX0_ofOffice_4 18 rfl rfl)
theorem dX0_ofOffice_116 : decode cX0_ofOffice 116 = .ok (.ifCond .eq 7, 3) := dk_153 0 7 (dk_at dksX0_ofOffice_4 21 rfl rfl)
theorem dX0_ofOffice_119 : decode cX0_ofOffice 119 = .ok (.iconst 0, 1) := dk_3 (dk_at dksX0_ofOffice_5 0 rfl rfl)
theorem dX0_ofOffice_120 : decode cX0_ofOffice 120 = .ok (.goto 4, 3) := dk_167 0 4 (dk_at dksX0_ofOffice_5 1 rfl rfl)
theorem dX0_ofOffice_123 : decode cX0_ofOffice 123 = .ok (.iconst 1, 1) := dk_4 (dk_at dksX0_ofOffice_5 4 rfl rfl)
theorem dX0_ofOffice_124 : decode cX0_ofOffice 124 = .ok (.ireturn, 1) := dk_172 (dk_at dksX0_ofOffice_5 5 rfl rfl)
theorem dX0_ofOffice_125 : decode cX0_ofOffice 125 = .ok (.aload_n 0, 1) := dk_42 (dk_at dksX0_ofOffice_5 6 rfl rfl)
theorem dX0_ofOffice_126 : decode cX0_ofOffice 126 = .ok (.iload_n 2, 1) := dk_28 (dk_at dksX0_ofOffice_5 7 rfl rfl)
theorem dX0_ofOffice_127 : decode cX0_ofOffice 127 = .ok (.iload_n 3, 1) := dk_29 (dk_at dksX0_ofOffice_5 8 rfl rfl)
theorem dX0_ofOffice_128 : decode cX0_ofOffice 128 = .ok (.invokevirtual 315, 3) := dk_182 1 59 (dk_at dksX0_ofOffice_5 9 rfl rfl)
theorem dX0_ofOffice_131 : decode cX0_ofOffice 131 = .ok (.ireturn, 1) := dk_172 (dk_at dksX0_ofOffice_5 12 rfl rfl)
theorem dX0_ofOffice_132 : decode cX0_ofOffice 132 = .ok (.aload_n 0, 1) := dk_42 (dk_at dksX0_ofOffice_5 13 rfl rfl)
theorem dX0_ofOffice_133 : decode cX0_ofOffice 133 = .ok (.iload_n 2, 1) := dk_28 (dk_at dksX0_ofOffice_5 14 rfl rfl)
theorem dX0_ofOffice_134 : decode cX0_ofOffice 134 = .ok (.iload_n 3, 1) := dk_29 (dk_at dksX0_ofOffice_5 15 rfl rfl)
theorem dX0_ofOffice_135 : decode cX0_ofOffice 135 = .ok (.invokevirtual 318, 3) := dk_182 1 62 (dk_at dksX0_ofOffice_5 16 rfl rfl)
theorem dX0_ofOffice_138 : decode cX0_ofOffice 138 = .ok (.ireturn, 1) := dk_172 (dk_at dksX0_ofOffice_5 19 rfl rfl)
theorem dX0_ofOffice_139 : decode cX0_ofOffice 139 = .ok (.aload_n 0, 1) := dk_42 (dk_at dksX0_ofOffice_5 20 rfl rfl)
theorem dX0_ofOffice_140 : decode cX0_ofOffice 140 = .ok (.iload_n 1, 1) := dk_27 (dk_at dksX0_ofOffice_5 21 rfl rfl)
theorem dX0_ofOffice_141 : decode cX0_ofOffice 141 = .ok (.iload_n 2, 1) := dk_28 (dk_at dksX0_ofOffice_5 22 rfl rfl)
theorem dX0_ofOffice_142 : decode cX0_ofOffice 142 = .ok (.iload_n 3, 1) := dk_29 (dk_at dksX0_ofOffice_5 23 rfl rfl)
theorem dX0_ofOffice_143 : decode cX0_ofOffice 143 = .ok (.invokevirtual 321, 3) := dk_182 1 65 (dk_at dksX0_ofOffice_6 0 rfl rfl)
theorem dX0_ofOffice_146 : decode cX0_ofOffice 146 = .ok (.ireturn, 1) := dk_172 (dk_at dksX0_ofOffice_6 3 rfl rfl)
abbrev cX0_letterIt : ByteArray := prog_1_method_35_code
def yX0_letterIt : MethodName := ⟨RX0, "letterIt", "(I)I"⟩
def dkwX0_letterIt_2 : List UInt8 := [181, 0, 96, 42, 180, 0, 96, 172]
abbrev dktX0_letterIt_2 : List UInt8 := dkwX0_letterIt_2 ++ []
def dkwX0_letterIt_1 : List UInt8 := [16, 250, 184, 0, 9, 42, 180, 0, 83, 42, 180, 0, 96, 27, 146, 85, 42, 89, 180, 0, 96, 4, 96]
abbrev dktX0_letterIt_1 : List UInt8 := dkwX0_letterIt_1 ++ dktX0_letterIt_2
def dkwX0_letterIt_0 : List UInt8 := [27, 133, 9, 20, 0, 242, 184, 0, 238, 42, 180, 0, 96, 16, 96, 162, 0, 7, 4, 167, 0, 4, 3]
abbrev dktX0_letterIt_0 : List UInt8 := dkwX0_letterIt_0 ++ dktX0_letterIt_1
theorem dksX0_letterIt_0 : cX0_letterIt.data.toList.drop 0 = dktX0_letterIt_0 := by decide +kernel
theorem dksX0_letterIt_1 : cX0_letterIt.data.toList.drop 23 = dktX0_letterIt_1 := dk_seg dksX0_letterIt_0 23 rfl rfl
theorem dksX0_letterIt_2 : cX0_letterIt.data.toList.drop 46 = dktX0_letterIt_2 := dk_seg dksX0_letterIt_1 23 rfl rfl
theorem dX0_letterIt_0 : decode cX0_letterIt 0 = .ok (.iload_n 1, 1) := dk_27 (dk_at dksX0_letterIt_0 0 rfl rfl)
theorem dX0_letterIt_1 : decode cX0_letterIt 1 = .ok (.i2l, 1) := dk_133 (dk_at dksX0_letterIt_0 1 rfl rfl)
theorem dX0_letterIt_2 : decode cX0_letterIt 2 = .ok (.lconst 0, 1) := dk_9 (dk_at dksX0_letterIt_0 2 rfl rfl)
theorem dX0_letterIt_3 : decode cX0_letterIt 3 = .ok (.ldc2_w 242, 3) := dk_20 0 242 (dk_at dksX0_letterIt_0 3 rfl rfl)
theorem dX0_letterIt_6 : decode cX0_letterIt 6 = .ok (.invokestatic 238, 3) := dk_184 0 238 (dk_at dksX0_letterIt_0 6 rfl rfl)
theorem dX0_letterIt_9 : decode cX0_letterIt 9 = .ok (.aload_n 0, 1) := dk_42 (dk_at dksX0_letterIt_0 9 rfl rfl)
theorem dX0_letterIt_10 : decode cX0_letterIt 10 = .ok (.getfield 96, 3) := dk_180 0 96 (dk_at dksX0_letterIt_0 10 rfl rfl)
theorem dX0_letterIt_13 : decode cX0_letterIt 13 = .ok (.bipush 96, 2) := dk_16 96 (dk_at dksX0_letterIt_0 13 rfl rfl)
theorem dX0_letterIt_15 : decode cX0_letterIt 15 = .ok (.if_icmp .ge 7, 3) := dk_162 0 7 (dk_at dksX0_letterIt_0 15 rfl rfl)
theorem dX0_letterIt_18 : decode cX0_letterIt 18 = .ok (.iconst 1, 1) := dk_4 (dk_at dksX0_letterIt_0 18 rfl rfl)
theorem dX0_letterIt_19 : decode cX0_letterIt 19 = .ok (.goto 4, 3) := dk_167 0 4 (dk_at dksX0_letterIt_0 19 rfl rfl)
theorem dX0_letterIt_22 : decode cX0_letterIt 22 = .ok (.iconst 0, 1) := dk_3 (dk_at dksX0_letterIt_0 22 rfl rfl)
theorem dX0_letterIt_23 : decode cX0_letterIt 23 = .ok (.bipush (-6), 2) := dk_16 250 (dk_at dksX0_letterIt_1 0 rfl rfl)
theorem dX0_letterIt_25 : decode cX0_letterIt 25 = .ok (.invokestatic 9, 3) := dk_184 0 9 (dk_at dksX0_letterIt_1 2 rfl rfl)
theorem dX0_letterIt_28 : decode cX0_letterIt 28 = .ok (.aload_n 0, 1) := dk_42 (dk_at dksX0_letterIt_1 5 rfl rfl)
theorem dX0_letterIt_29 : decode cX0_letterIt 29 = .ok (.getfield 83, 3) := dk_180 0 83 (dk_at dksX0_letterIt_1 6 rfl rfl)
theorem dX0_letterIt_32 : decode cX0_letterIt 32 = .ok (.aload_n 0, 1) := dk_42 (dk_at dksX0_letterIt_1 9 rfl rfl)
theorem dX0_letterIt_33 : decode cX0_letterIt 33 = .ok (.getfield 96, 3) := dk_180 0 96 (dk_at dksX0_letterIt_1 10 rfl rfl)
theorem dX0_letterIt_36 : decode cX0_letterIt 36 = .ok (.iload_n 1, 1) := dk_27 (dk_at dksX0_letterIt_1 13 rfl rfl)
theorem dX0_letterIt_37 : decode cX0_letterIt 37 = .ok (.i2c, 1) := dk_146 (dk_at dksX0_letterIt_1 14 rfl rfl)
theorem dX0_letterIt_38 : decode cX0_letterIt 38 = .ok (.castore, 1) := dk_85 (dk_at dksX0_letterIt_1 15 rfl rfl)
theorem dX0_letterIt_39 : decode cX0_letterIt 39 = .ok (.aload_n 0, 1) := dk_42 (dk_at dksX0_letterIt_1 16 rfl rfl)
theorem dX0_letterIt_40 : decode cX0_letterIt 40 = .ok (.dup, 1) := dk_89 (dk_at dksX0_letterIt_1 17 rfl rfl)
theorem dX0_letterIt_41 : decode cX0_letterIt 41 = .ok (.getfield 96, 3) := dk_180 0 96 (dk_at dksX0_letterIt_1 18 rfl rfl)
theorem dX0_letterIt_44 : decode cX0_letterIt 44 = .ok (.iconst 1, 1) := dk_4 (dk_at dksX0_letterIt_1 21 rfl rfl)
theorem dX0_letterIt_45 : decode cX0_letterIt 45 = .ok (.iadd, 1) := dk_96 (dk_at dksX0_letterIt_1 22 rfl rfl)
theorem dX0_letterIt_46 : decode cX0_letterIt 46 = .ok (.putfield 96, 3) := dk_181 0 96 (dk_at dksX0_letterIt_2 0 rfl rfl)
theorem dX0_letterIt_49 : decode cX0_letterIt 49 = .ok (.aload_n 0, 1) := dk_42 (dk_at dksX0_letterIt_2 3 rfl rfl)
theorem dX0_letterIt_50 : decode cX0_letterIt 50 = .ok (.getfield 96, 3) := dk_180 0 96 (dk_at dksX0_letterIt_2 4 rfl rfl)
theorem dX0_letterIt_53 : decode cX0_letterIt 53 = .ok (.ireturn, 1) := dk_172 (dk_at dksX0_letterIt_2 7 rfl rfl)
abbrev cX0_within : ByteArray := prog_1_method_3_code
def yX0_within : MethodName := ⟨RX0, "within", "(JJJ)V"⟩
def dkwX0_within_1 : List UInt8 := [167, 0, 4, 3, 16, 250, 184, 0, 9, 177]
abbrev dktX0_within_1 : List UInt8 := dkwX0_within_1 ++ []
def dkwX0_within_0 : List UInt8 := [30, 32, 148, 155, 0, 7, 4, 167, 0, 4, 3, 16, 252, 184, 0, 9, 30, 22, 4, 148, 157, 0, 7, 4]
abbrev dktX0_within_0 : List UInt8 := dkwX0_within_0 ++ dktX0_within_1
theorem dksX0_within_0 : cX0_within.data.toList.drop 0 = dktX0_within_0 := by decide +kernel
theorem dksX0_within_1 : cX0_within.data.toList.drop 24 = dktX0_within_1 := dk_seg dksX0_within_0 24 rfl rfl
theorem dX0_within_0 : decode cX0_within 0 = .ok (.lload_n 0, 1) := dk_30 (dk_at dksX0_within_0 0 rfl rfl)
theorem dX0_within_1 : decode cX0_within 1 = .ok (.lload_n 2, 1) := dk_32 (dk_at dksX0_within_0 1 rfl rfl)
theorem dX0_within_2 : decode cX0_within 2 = .ok (.lcmp, 1) := dk_148 (dk_at dksX0_within_0 2 rfl rfl)
theorem dX0_within_3 : decode cX0_within 3 = .ok (.ifCond .lt 7, 3) := dk_155 0 7 (dk_at dksX0_within_0 3 rfl rfl)
theorem dX0_within_6 : decode cX0_within 6 = .ok (.iconst 1, 1) := dk_4 (dk_at dksX0_within_0 6 rfl rfl)
theorem dX0_within_7 : decode cX0_within 7 = .ok (.goto 4, 3) := dk_167 0 4 (dk_at dksX0_within_0 7 rfl rfl)
theorem dX0_within_10 : decode cX0_within 10 = .ok (.iconst 0, 1) := dk_3 (dk_at dksX0_within_0 10 rfl rfl)
theorem dX0_within_11 : decode cX0_within 11 = .ok (.bipush (-4), 2) := dk_16 252 (dk_at dksX0_within_0 11 rfl rfl)
theorem dX0_within_13 : decode cX0_within 13 = .ok (.invokestatic 9, 3) := dk_184 0 9 (dk_at dksX0_within_0 13 rfl rfl)
theorem dX0_within_16 : decode cX0_within 16 = .ok (.lload_n 0, 1) := dk_30 (dk_at dksX0_within_0 16 rfl rfl)
theorem dX0_within_17 : decode cX0_within 17 = .ok (.lload 4, 2) := dk_22 4 (dk_at dksX0_within_0 17 rfl rfl)
theorem dX0_within_19 : decode cX0_within 19 = .ok (.lcmp, 1) := dk_148 (dk_at dksX0_within_0 19 rfl rfl)
theorem dX0_within_20 : decode cX0_within 20 = .ok (.ifCond .gt 7, 3) := dk_157 0 7 (dk_at dksX0_within_0 20 rfl rfl)
theorem dX0_within_23 : decode cX0_within 23 = .ok (.iconst 1, 1) := dk_4 (dk_at dksX0_within_0 23 rfl rfl)
theorem dX0_within_24 : decode cX0_within 24 = .ok (.goto 4, 3) := dk_167 0 4 (dk_at dksX0_within_1 0 rfl rfl)
theorem dX0_within_27 : decode cX0_within 27 = .ok (.iconst 0, 1) := dk_3 (dk_at dksX0_within_1 3 rfl rfl)
theorem dX0_within_28 : decode cX0_within 28 = .ok (.bipush (-6), 2) := dk_16 250 (dk_at dksX0_within_1 4 rfl rfl)
theorem dX0_within_30 : decode cX0_within 30 = .ok (.invokestatic 9, 3) := dk_184 0 9 (dk_at dksX0_within_1 6 rfl rfl)
theorem dX0_within_33 : decode cX0_within 33 = .ok (.return_, 1) := dk_177 (dk_at dksX0_within_1 9 rfl rfl)
abbrev cX0_must : ByteArray := prog_1_method_2_code
def yX0_must : MethodName := ⟨RX0, "must", "(ZI)V"⟩
def dkwX0_must_0 : List UInt8 := [26, 154, 0, 12, 187, 0, 1, 89, 27, 183, 0, 3, 191, 177]
abbrev dktX0_must_0 : List UInt8 := dkwX0_must_0 ++ []
theorem dksX0_must_0 : cX0_must.data.toList.drop 0 = dktX0_must_0 := by decide +kernel
theorem dX0_must_0 : decode cX0_must 0 = .ok (.iload_n 0, 1) := dk_26 (dk_at dksX0_must_0 0 rfl rfl)
theorem dX0_must_1 : decode cX0_must 1 = .ok (.ifCond .ne 12, 3) := dk_154 0 12 (dk_at dksX0_must_0 1 rfl rfl)
theorem dX0_must_4 : decode cX0_must 4 = .ok (.new 1, 3) := dk_187 0 1 (dk_at dksX0_must_0 4 rfl rfl)
theorem dX0_must_7 : decode cX0_must 7 = .ok (.dup, 1) := dk_89 (dk_at dksX0_must_0 7 rfl rfl)
theorem dX0_must_8 : decode cX0_must 8 = .ok (.iload_n 1, 1) := dk_27 (dk_at dksX0_must_0 8 rfl rfl)
theorem dX0_must_9 : decode cX0_must 9 = .ok (.invokespecial 3, 3) := dk_183 0 3 (dk_at dksX0_must_0 9 rfl rfl)
theorem dX0_must_12 : decode cX0_must 12 = .ok (.athrow, 1) := dk_191 (dk_at dksX0_must_0 12 rfl rfl)
theorem dX0_must_13 : decode cX0_must 13 = .ok (.return_, 1) := dk_177 (dk_at dksX0_must_0 13 rfl rfl)
abbrev cX0_readOffice : ByteArray := prog_1_method_9_code
def yX0_readOffice : MethodName := ⟨RX0, "readOffice", "()I"⟩
def dkwX0_readOffice_4 : List UInt8 := [191, 132, 4, 1, 167, 255, 214, 42, 180, 0, 69, 42, 180, 0, 73, 182, 0, 112, 29, 172]
abbrev dktX0_readOffice_4 : List UInt8 := dkwX0_readOffice_4 ++ []
def dkwX0_readOffice_3 : List UInt8 := [182, 0, 116, 154, 0, 22, 187, 0, 120, 89, 17, 248, 48, 44, 21, 4, 50, 180, 0, 122, 100, 183, 0, 125]
abbrev dktX0_readOffice_3 : List UInt8 := dkwX0_readOffice_3 ++ dktX0_readOffice_4
def dkwX0_readOffice_2 : List UInt8 := [180, 0, 69, 182, 0, 112, 3, 54, 4, 21, 4, 29, 162, 0, 42, 44, 21, 4, 50, 42, 180, 0, 73]
abbrev dktX0_readOffice_2 : List UInt8 := dkwX0_readOffice_2 ++ dktX0_readOffice_3
def dkwX0_readOffice_1 : List UInt8 := [43, 182, 0, 102, 83, 132, 3, 1, 43, 180, 0, 106, 43, 180, 0, 109, 161, 255, 238, 42, 180, 0, 73, 42]
abbrev dktX0_readOffice_1 : List UInt8 := dkwX0_readOffice_1 ++ dktX0_readOffice_2
def dkwX0_readOffice_0 : List UInt8 := [187, 0, 91, 89, 42, 183, 0, 93, 76, 42, 3, 181, 0, 96, 16, 96, 189, 0, 100, 77, 3, 62, 44, 29]
abbrev dktX0_readOffice_0 : List UInt8 := dkwX0_readOffice_0 ++ dktX0_readOffice_1
theorem dksX0_readOffice_0 : cX0_readOffice.data.toList.drop 0 = dktX0_readOffice_0 := by decide +kernel
theorem dksX0_readOffice_1 : cX0_readOffice.data.toList.drop 24 = dktX0_readOffice_1 := dk_seg dksX0_readOffice_0 24 rfl rfl
theorem dksX0_readOffice_2 : cX0_readOffice.data.toList.drop 48 = dktX0_readOffice_2 := dk_seg dksX0_readOffice_1 24 rfl rfl
theorem dksX0_readOffice_3 : cX0_readOffice.data.toList.drop 71 = dktX0_readOffice_3 := dk_seg dksX0_readOffice_2 23 rfl rfl
theorem dksX0_readOffice_4 : cX0_readOffice.data.toList.drop 95 = dktX0_readOffice_4 := dk_seg dksX0_readOffice_3 24 rfl rfl
theorem dX0_readOffice_0 : decode cX0_readOffice 0 = .ok (.new 91, 3) := dk_187 0 91 (dk_at dksX0_readOffice_0 0 rfl rfl)
theorem dX0_readOffice_3 : decode cX0_readOffice 3 = .ok (.dup, 1) := dk_89 (dk_at dksX0_readOffice_0 3 rfl rfl)
theorem dX0_readOffice_4 : decode cX0_readOffice 4 = .ok (.aload_n 0, 1) := dk_42 (dk_at dksX0_readOffice_0 4 rfl rfl)
theorem dX0_readOffice_5 : decode cX0_readOffice 5 = .ok (.invokespecial 93, 3) := dk_183 0 93 (dk_at dksX0_readOffice_0 5 rfl rfl)
theorem dX0_readOffice_8 : decode cX0_readOffice 8 = .ok (.astore_n 1, 1) := dk_76 (dk_at dksX0_readOffice_0 8 rfl rfl)
theorem dX0_readOffice_9 : decode cX0_readOffice 9 = .ok (.aload_n 0, 1) := dk_42 (dk_at dksX0_readOffice_0 9 rfl rfl)
theorem dX0_readOffice_10 : decode cX0_readOffice 10 = .ok (.iconst 0, 1) := dk_3 (dk_at dksX0_readOffice_0 10 rfl rfl)
theorem dX0_readOffice_11 : decode cX0_readOffice 11 = .ok (.putfield 96, 3) := dk_181 0 96 (dk_at dksX0_readOffice_0 11 rfl rfl)
theorem dX0_readOffice_14 : decode cX0_readOffice 14 = .ok (.bipush 96, 2) := dk_16 96 (dk_at dksX0_readOffice_0 14 rfl rfl)
theorem dX0_readOffice_16 : decode cX0_readOffice 16 = .ok (.anewarray 100, 3) := dk_189 0 100 (dk_at dksX0_readOffice_0 16 rfl rfl)
theorem dX0_readOffice_19 : decode cX0_readOffice 19 = .ok (.astore_n 2, 1) := dk_77 (dk_at dksX0_readOffice_0 19 rfl rfl)
theorem dX0_readOffice_20 : decode cX0_readOffice 20 = .ok (.iconst 0, 1) := dk_3 (dk_at dksX0_readOffice_0 20 rfl rfl)
theorem dX0_readOffice_21 : decode cX0_readOffice 21 = .ok (.istore_n 3, 1) := dk_62 (dk_at dksX0_readOffice_0 21 rfl rfl)
theorem dX0_readOffice_22 : decode cX0_readOffice 22 = .ok (.aload_n 2, 1) := dk_44 (dk_at dksX0_readOffice_0 22 rfl rfl)
theorem dX0_readOffice_23 : decode cX0_readOffice 23 = .ok (.iload_n 3, 1) := dk_29 (dk_at dksX0_readOffice_0 23 rfl rfl)
theorem dX0_readOffice_24 : decode cX0_readOffice 24 = .ok (.aload_n 1, 1) := dk_43 (dk_at dksX0_readOffice_1 0 rfl rfl)
theorem dX0_readOffice_25 : decode cX0_readOffice 25 = .ok (.invokevirtual 102, 3) := dk_182 0 102 (dk_at dksX0_readOffice_1 1 rfl rfl)
theorem dX0_readOffice_28 : decode cX0_readOffice 28 = .ok (.aastore, 1) := dk_83 (dk_at dksX0_readOffice_1 4 rfl rfl)
theorem dX0_readOffice_29 : decode cX0_readOffice 29 = .ok (.iinc 3 1, 3) := dk_132 3 1 (dk_at dksX0_readOffice_1 5 rfl rfl)
theorem dX0_readOffice_32 : decode cX0_readOffice 32 = .ok (.aload_n 1, 1) := dk_43 (dk_at dksX0_readOffice_1 8 rfl rfl)
theorem dX0_readOffice_33 : decode cX0_readOffice 33 = .ok (.getfield 106, 3) := dk_180 0 106 (dk_at dksX0_readOffice_1 9 rfl rfl)
theorem dX0_readOffice_36 : decode cX0_readOffice 36 = .ok (.aload_n 1, 1) := dk_43 (dk_at dksX0_readOffice_1 12 rfl rfl)
theorem dX0_readOffice_37 : decode cX0_readOffice 37 = .ok (.getfield 109, 3) := dk_180 0 109 (dk_at dksX0_readOffice_1 13 rfl rfl)
theorem dX0_readOffice_40 : decode cX0_readOffice 40 = .ok (.if_icmp .lt (-18), 3) := dk_161 255 238 (dk_at dksX0_readOffice_1 16 rfl rfl)
theorem dX0_readOffice_43 : decode cX0_readOffice 43 = .ok (.aload_n 0, 1) := dk_42 (dk_at dksX0_readOffice_1 19 rfl rfl)
theorem dX0_readOffice_44 : decode cX0_readOffice 44 = .ok (.getfield 73, 3) := dk_180 0 73 (dk_at dksX0_readOffice_1 20 rfl rfl)
theorem dX0_readOffice_47 : decode cX0_readOffice 47 = .ok (.aload_n 0, 1) := dk_42 (dk_at dksX0_readOffice_1 23 rfl rfl)
theorem dX0_readOffice_48 : decode cX0_readOffice 48 = .ok (.getfield 69, 3) := dk_180 0 69 (dk_at dksX0_readOffice_2 0 rfl rfl)
theorem dX0_readOffice_51 : decode cX0_readOffice 51 = .ok (.invokevirtual 112, 3) := dk_182 0 112 (dk_at dksX0_readOffice_2 3 rfl rfl)
theorem dX0_readOffice_54 : decode cX0_readOffice 54 = .ok (.iconst 0, 1) := dk_3 (dk_at dksX0_readOffice_2 6 rfl rfl)
theorem dX0_readOffice_55 : decode cX0_readOffice 55 = .ok (.istore 4, 2) := dk_54 4 (dk_at dksX0_readOffice_2 7 rfl rfl)
theorem dX0_readOffice_57 : decode cX0_readOffice 57 = .ok (.iload 4, 2) := dk_21 4 (dk_at dksX0_readOffice_2 9 rfl rfl)
theorem dX0_readOffice_59 : decode cX0_readOffice 59 = .ok (.iload_n 3, 1) := dk_29 (dk_at dksX0_readOffice_2 11 rfl rfl)
theorem dX0_readOffice_60 : decode cX0_readOffice 60 = .ok (.if_icmp .ge 42, 3) := dk_162 0 42 (dk_at dksX0_readOffice_2 12 rfl rfl)
theorem dX0_readOffice_63 : decode cX0_readOffice 63 = .ok (.aload_n 2, 1) := dk_44 (dk_at dksX0_readOffice_2 15 rfl rfl)
theorem dX0_readOffice_64 : decode cX0_readOffice 64 = .ok (.iload 4, 2) := dk_21 4 (dk_at dksX0_readOffice_2 16 rfl rfl)
theorem dX0_readOffice_66 : decode cX0_readOffice 66 = .ok (.aaload, 1) := dk_50 (dk_at dksX0_readOffice_2 18 rfl rfl)
theorem dX0_readOffice_67 : decode cX0_readOffice 67 = .ok (.aload_n 0, 1) := dk_42 (dk_at dksX0_readOffice_2 19 rfl rfl)
theorem dX0_readOffice_68 : decode cX0_readOffice 68 = .ok (.getfield 73, 3) := dk_180 0 73 (dk_at dksX0_readOffice_2 20 rfl rfl)
theorem dX0_readOffice_71 : decode cX0_readOffice 71 = .ok (.invokevirtual 116, 3) := dk_182 0 116 (dk_at dksX0_readOffice_3 0 rfl rfl)
theorem dX0_readOffice_74 : decode cX0_readOffice 74 = .ok (.ifCond .ne 22, 3) := dk_154 0 22 (dk_at dksX0_readOffice_3 3 rfl rfl)
theorem dX0_readOffice_77 : decode cX0_readOffice 77 = .ok (.new 120, 3) := dk_187 0 120 (dk_at dksX0_readOffice_3 6 rfl rfl)
theorem dX0_readOffice_80 : decode cX0_readOffice 80 = .ok (.dup, 1) := dk_89 (dk_at dksX0_readOffice_3 9 rfl rfl)
theorem dX0_readOffice_81 : decode cX0_readOffice 81 = .ok (.sipush (-2000), 3) := dk_17 248 48 (dk_at dksX0_readOffice_3 10 rfl rfl)
theorem dX0_readOffice_84 : decode cX0_readOffice 84 = .ok (.aload_n 2, 1) := dk_44 (dk_at dksX0_readOffice_3 13 rfl rfl)
theorem dX0_readOffice_85 : decode cX0_readOffice 85 = .ok (.iload 4, 2) := dk_21 4 (dk_at dksX0_readOffice_3 14 rfl rfl)
theorem dX0_readOffice_87 : decode cX0_readOffice 87 = .ok (.aaload, 1) := dk_50 (dk_at dksX0_readOffice_3 16 rfl rfl)
theorem dX0_readOffice_88 : decode cX0_readOffice 88 = .ok (.getfield 122, 3) := dk_180 0 122 (dk_at dksX0_readOffice_3 17 rfl rfl)
theorem dX0_readOffice_91 : decode cX0_readOffice 91 = .ok (.isub, 1) := dk_100 (dk_at dksX0_readOffice_3 20 rfl rfl)
theorem dX0_readOffice_92 : decode cX0_readOffice 92 = .ok (.invokespecial 125, 3) := dk_183 0 125 (dk_at dksX0_readOffice_3 21 rfl rfl)
theorem dX0_readOffice_95 : decode cX0_readOffice 95 = .ok (.athrow, 1) := dk_191 (dk_at dksX0_readOffice_4 0 rfl rfl)
theorem dX0_readOffice_96 : decode cX0_readOffice 96 = .ok (.iinc 4 1, 3) := dk_132 4 1 (dk_at dksX0_readOffice_4 1 rfl rfl)
theorem dX0_readOffice_99 : decode cX0_readOffice 99 = .ok (.goto (-42), 3) := dk_167 255 214 (dk_at dksX0_readOffice_4 4 rfl rfl)
theorem dX0_readOffice_102 : decode cX0_readOffice 102 = .ok (.aload_n 0, 1) := dk_42 (dk_at dksX0_readOffice_4 7 rfl rfl)
theorem dX0_readOffice_103 : decode cX0_readOffice 103 = .ok (.getfield 69, 3) := dk_180 0 69 (dk_at dksX0_readOffice_4 8 rfl rfl)
theorem dX0_readOffice_106 : decode cX0_readOffice 106 = .ok (.aload_n 0, 1) := dk_42 (dk_at dksX0_readOffice_4 11 rfl rfl)
theorem dX0_readOffice_107 : decode cX0_readOffice 107 = .ok (.getfield 73, 3) := dk_180 0 73 (dk_at dksX0_readOffice_4 12 rfl rfl)
theorem dX0_readOffice_110 : decode cX0_readOffice 110 = .ok (.invokevirtual 112, 3) := dk_182 0 112 (dk_at dksX0_readOffice_4 15 rfl rfl)
theorem dX0_readOffice_113 : decode cX0_readOffice 113 = .ok (.iload_n 3, 1) := dk_29 (dk_at dksX0_readOffice_4 18 rfl rfl)
theorem dX0_readOffice_114 : decode cX0_readOffice 114 = .ok (.ireturn, 1) := dk_172 (dk_at dksX0_readOffice_4 19 rfl rfl)
abbrev cX0_in : ByteArray := prog_1_method_1_code
def yX0_in : MethodName := ⟨RX0, "in", "(JJJ)Z"⟩
def dkwX0_in_0 : List UInt8 := [30, 32, 148, 155, 0, 14, 30, 22, 4, 148, 157, 0, 7, 4, 167, 0, 4, 3, 172]
abbrev dktX0_in_0 : List UInt8 := dkwX0_in_0 ++ []
theorem dksX0_in_0 : cX0_in.data.toList.drop 0 = dktX0_in_0 := by decide +kernel
theorem dX0_in_0 : decode cX0_in 0 = .ok (.lload_n 0, 1) := dk_30 (dk_at dksX0_in_0 0 rfl rfl)
theorem dX0_in_1 : decode cX0_in 1 = .ok (.lload_n 2, 1) := dk_32 (dk_at dksX0_in_0 1 rfl rfl)
theorem dX0_in_2 : decode cX0_in 2 = .ok (.lcmp, 1) := dk_148 (dk_at dksX0_in_0 2 rfl rfl)
theorem dX0_in_3 : decode cX0_in 3 = .ok (.ifCond .lt 14, 3) := dk_155 0 14 (dk_at dksX0_in_0 3 rfl rfl)
theorem dX0_in_6 : decode cX0_in 6 = .ok (.lload_n 0, 1) := dk_30 (dk_at dksX0_in_0 6 rfl rfl)
theorem dX0_in_7 : decode cX0_in 7 = .ok (.lload 4, 2) := dk_22 4 (dk_at dksX0_in_0 7 rfl rfl)
theorem dX0_in_9 : decode cX0_in 9 = .ok (.lcmp, 1) := dk_148 (dk_at dksX0_in_0 9 rfl rfl)
theorem dX0_in_10 : decode cX0_in 10 = .ok (.ifCond .gt 7, 3) := dk_157 0 7 (dk_at dksX0_in_0 10 rfl rfl)
theorem dX0_in_13 : decode cX0_in 13 = .ok (.iconst 1, 1) := dk_4 (dk_at dksX0_in_0 13 rfl rfl)
theorem dX0_in_14 : decode cX0_in 14 = .ok (.goto 4, 3) := dk_167 0 4 (dk_at dksX0_in_0 14 rfl rfl)
theorem dX0_in_17 : decode cX0_in 17 = .ok (.iconst 0, 1) := dk_3 (dk_at dksX0_in_0 17 rfl rfl)
theorem dX0_in_18 : decode cX0_in 18 = .ok (.ireturn, 1) := dk_172 (dk_at dksX0_in_0 18 rfl rfl)
abbrev cX0_songOf : ByteArray := prog_1_method_7_code
def yX0_songOf : MethodName := ⟨RX0, "songOf", "(III)LSongThatStays$Song;"⟩
def dkwX0_songOf_4 : List UInt8 := [183, 0, 33, 176, 187, 0, 34, 89, 27, 28, 183, 0, 36, 176]
abbrev dktX0_songOf_4 : List UInt8 := dkwX0_songOf_4 ++ []
def dkwX0_songOf_3 : List UInt8 := [27, 28, 183, 0, 27, 176, 187, 0, 28, 89, 27, 28, 183, 0, 30, 176, 187, 0, 31, 89, 27, 28]
abbrev dktX0_songOf_3 : List UInt8 := dkwX0_songOf_3 ++ dktX0_songOf_4
def dkwX0_songOf_2 : List UInt8 := [187, 0, 17, 89, 27, 28, 183, 0, 19, 176, 187, 0, 22, 89, 27, 28, 183, 0, 24, 176, 187, 0, 25, 89]
abbrev dktX0_songOf_2 : List UInt8 := dkwX0_songOf_2 ++ dktX0_songOf_3
def dkwX0_songOf_1 : List UInt8 := [170, 0, 0, 0, 0, 0, 85, 0, 0, 0, 0, 0, 0, 0, 4, 0, 0, 0, 35, 0, 0, 0, 45, 0, 0, 0, 55, 0, 0, 0, 65, 0, 0, 0, 75]
abbrev dktX0_songOf_1 : List UInt8 := dkwX0_songOf_1 ++ dktX0_songOf_2
def dkwX0_songOf_0 : List UInt8 := [26]
abbrev dktX0_songOf_0 : List UInt8 := dkwX0_songOf_0 ++ dktX0_songOf_1
theorem dksX0_songOf_0 : cX0_songOf.data.toList.drop 0 = dktX0_songOf_0 := by decide +kernel
theorem dksX0_songOf_1 : cX0_songOf.data.toList.drop 1 = dktX0_songOf_1 := dk_seg dksX0_songOf_0 1 rfl rfl
theorem dksX0_songOf_2 : cX0_songOf.data.toList.drop 36 = dktX0_songOf_2 := dk_seg dksX0_songOf_1 35 rfl rfl
theorem dksX0_songOf_3 : cX0_songOf.data.toList.drop 60 = dktX0_songOf_3 := dk_seg dksX0_songOf_2 24 rfl rfl
theorem dksX0_songOf_4 : cX0_songOf.data.toList.drop 82 = dktX0_songOf_4 := dk_seg dksX0_songOf_3 22 rfl rfl
theorem dX0_songOf_0 : decode cX0_songOf 0 = .ok (.iload_n 0, 1) := dk_26 (dk_at dksX0_songOf_0 0 rfl rfl)
theorem dX0_songOf_1 : decode cX0_songOf 1 = .ok (.tableswitch 85 0 4 #[35, 45, 55, 65, 75], 35) := by decide +kernel
theorem dX0_songOf_36 : decode cX0_songOf 36 = .ok (.new 17, 3) := dk_187 0 17 (dk_at dksX0_songOf_2 0 rfl rfl)
theorem dX0_songOf_39 : decode cX0_songOf 39 = .ok (.dup, 1) := dk_89 (dk_at dksX0_songOf_2 3 rfl rfl)
theorem dX0_songOf_40 : decode cX0_songOf 40 = .ok (.iload_n 1, 1) := dk_27 (dk_at dksX0_songOf_2 4 rfl rfl)
theorem dX0_songOf_41 : decode cX0_songOf 41 = .ok (.iload_n 2, 1) := dk_28 (dk_at dksX0_songOf_2 5 rfl rfl)
theorem dX0_songOf_42 : decode cX0_songOf 42 = .ok (.invokespecial 19, 3) := dk_183 0 19 (dk_at dksX0_songOf_2 6 rfl rfl)
theorem dX0_songOf_45 : decode cX0_songOf 45 = .ok (.areturn, 1) := dk_176 (dk_at dksX0_songOf_2 9 rfl rfl)
theorem dX0_songOf_46 : decode cX0_songOf 46 = .ok (.new 22, 3) := dk_187 0 22 (dk_at dksX0_songOf_2 10 rfl rfl)
theorem dX0_songOf_49 : decode cX0_songOf 49 = .ok (.dup, 1) := dk_89 (dk_at dksX0_songOf_2 13 rfl rfl)
theorem dX0_songOf_50 : decode cX0_songOf 50 = .ok (.iload_n 1, 1) := dk_27 (dk_at dksX0_songOf_2 14 rfl rfl)
theorem dX0_songOf_51 : decode cX0_songOf 51 = .ok (.iload_n 2, 1) := dk_28 (dk_at dksX0_songOf_2 15 rfl rfl)
theorem dX0_songOf_52 : decode cX0_songOf 52 = .ok (.invokespecial 24, 3) := dk_183 0 24 (dk_at dksX0_songOf_2 16 rfl rfl)
theorem dX0_songOf_55 : decode cX0_songOf 55 = .ok (.areturn, 1) := dk_176 (dk_at dksX0_songOf_2 19 rfl rfl)
theorem dX0_songOf_56 : decode cX0_songOf 56 = .ok (.new 25, 3) := dk_187 0 25 (dk_at dksX0_songOf_2 20 rfl rfl)
theorem dX0_songOf_59 : decode cX0_songOf 59 = .ok (.dup, 1) := dk_89 (dk_at dksX0_songOf_2 23 rfl rfl)
theorem dX0_songOf_60 : decode cX0_songOf 60 = .ok (.iload_n 1, 1) := dk_27 (dk_at dksX0_songOf_3 0 rfl rfl)
theorem dX0_songOf_61 : decode cX0_songOf 61 = .ok (.iload_n 2, 1) := dk_28 (dk_at dksX0_songOf_3 1 rfl rfl)
theorem dX0_songOf_62 : decode cX0_songOf 62 = .ok (.invokespecial 27, 3) := dk_183 0 27 (dk_at dksX0_songOf_3 2 rfl rfl)
theorem dX0_songOf_65 : decode cX0_songOf 65 = .ok (.areturn, 1) := dk_176 (dk_at dksX0_songOf_3 5 rfl rfl)
theorem dX0_songOf_66 : decode cX0_songOf 66 = .ok (.new 28, 3) := dk_187 0 28 (dk_at dksX0_songOf_3 6 rfl rfl)
theorem dX0_songOf_69 : decode cX0_songOf 69 = .ok (.dup, 1) := dk_89 (dk_at dksX0_songOf_3 9 rfl rfl)
theorem dX0_songOf_70 : decode cX0_songOf 70 = .ok (.iload_n 1, 1) := dk_27 (dk_at dksX0_songOf_3 10 rfl rfl)
theorem dX0_songOf_71 : decode cX0_songOf 71 = .ok (.iload_n 2, 1) := dk_28 (dk_at dksX0_songOf_3 11 rfl rfl)
theorem dX0_songOf_72 : decode cX0_songOf 72 = .ok (.invokespecial 30, 3) := dk_183 0 30 (dk_at dksX0_songOf_3 12 rfl rfl)
theorem dX0_songOf_75 : decode cX0_songOf 75 = .ok (.areturn, 1) := dk_176 (dk_at dksX0_songOf_3 15 rfl rfl)
theorem dX0_songOf_76 : decode cX0_songOf 76 = .ok (.new 31, 3) := dk_187 0 31 (dk_at dksX0_songOf_3 16 rfl rfl)
theorem dX0_songOf_79 : decode cX0_songOf 79 = .ok (.dup, 1) := dk_89 (dk_at dksX0_songOf_3 19 rfl rfl)
theorem dX0_songOf_80 : decode cX0_songOf 80 = .ok (.iload_n 1, 1) := dk_27 (dk_at dksX0_songOf_3 20 rfl rfl)
theorem dX0_songOf_81 : decode cX0_songOf 81 = .ok (.iload_n 2, 1) := dk_28 (dk_at dksX0_songOf_3 21 rfl rfl)
theorem dX0_songOf_82 : decode cX0_songOf 82 = .ok (.invokespecial 33, 3) := dk_183 0 33 (dk_at dksX0_songOf_4 0 rfl rfl)
theorem dX0_songOf_85 : decode cX0_songOf 85 = .ok (.areturn, 1) := dk_176 (dk_at dksX0_songOf_4 3 rfl rfl)
theorem dX0_songOf_86 : decode cX0_songOf 86 = .ok (.new 34, 3) := dk_187 0 34 (dk_at dksX0_songOf_4 4 rfl rfl)
theorem dX0_songOf_89 : decode cX0_songOf 89 = .ok (.dup, 1) := dk_89 (dk_at dksX0_songOf_4 7 rfl rfl)
theorem dX0_songOf_90 : decode cX0_songOf 90 = .ok (.iload_n 1, 1) := dk_27 (dk_at dksX0_songOf_4 8 rfl rfl)
theorem dX0_songOf_91 : decode cX0_songOf 91 = .ok (.iload_n 2, 1) := dk_28 (dk_at dksX0_songOf_4 9 rfl rfl)
theorem dX0_songOf_92 : decode cX0_songOf 92 = .ok (.invokespecial 36, 3) := dk_183 0 36 (dk_at dksX0_songOf_4 10 rfl rfl)
theorem dX0_songOf_95 : decode cX0_songOf 95 = .ok (.areturn, 1) := dk_176 (dk_at dksX0_songOf_4 13 rfl rfl)
abbrev cX0_songTold : ByteArray := prog_1_method_36_code
def yX0_songTold : MethodName := ⟨RX0, "songTold", "(II)I"⟩
def dkwX0_songTold_4 : List UInt8 := [27, 182, 0, 137, 172]
abbrev dktX0_songTold_4 : List UInt8 := dkwX0_songTold_4 ++ []
def dkwX0_songTold_3 : List UInt8 := [45, 182, 0, 249, 172, 45, 180, 0, 254, 172, 45, 180, 1, 1, 172, 45, 182, 1, 4, 172, 42, 180, 0, 69]
abbrev dktX0_songTold_3 : List UInt8 := dkwX0_songTold_3 ++ dktX0_songTold_4
def dkwX0_songTold_2 : List UInt8 := [170, 0, 0, 0, 0, 50, 0, 0, 0, 0, 0, 0, 0, 3, 0, 0, 0, 30, 0, 0, 0, 35, 0, 0, 0, 40, 0, 0, 0, 45]
abbrev dktX0_songTold_2 : List UInt8 := dkwX0_songTold_2 ++ dktX0_songTold_3
def dkwX0_songTold_1 : List UInt8 := [180, 0, 195, 27, 50, 78, 28]
abbrev dktX0_songTold_1 : List UInt8 := dkwX0_songTold_1 ++ dktX0_songTold_2
def dkwX0_songTold_0 : List UInt8 := [42, 27, 182, 0, 244, 28, 133, 9, 20, 0, 247, 184, 0, 13, 16, 254, 184, 0, 9, 42, 180, 0, 69]
abbrev dktX0_songTold_0 : List UInt8 := dkwX0_songTold_0 ++ dktX0_songTold_1
theorem dksX0_songTold_0 : cX0_songTold.data.toList.drop 0 = dktX0_songTold_0 := by decide +kernel
theorem dksX0_songTold_1 : cX0_songTold.data.toList.drop 23 = dktX0_songTold_1 := dk_seg dksX0_songTold_0 23 rfl rfl
theorem dksX0_songTold_2 : cX0_songTold.data.toList.drop 30 = dktX0_songTold_2 := dk_seg dksX0_songTold_1 7 rfl rfl
theorem dksX0_songTold_3 : cX0_songTold.data.toList.drop 60 = dktX0_songTold_3 := dk_seg dksX0_songTold_2 30 rfl rfl
theorem dksX0_songTold_4 : cX0_songTold.data.toList.drop 84 = dktX0_songTold_4 := dk_seg dksX0_songTold_3 24 rfl rfl
theorem dX0_songTold_0 : decode cX0_songTold 0 = .ok (.aload_n 0, 1) := dk_42 (dk_at dksX0_songTold_0 0 rfl rfl)
theorem dX0_songTold_1 : decode cX0_songTold 1 = .ok (.iload_n 1, 1) := dk_27 (dk_at dksX0_songTold_0 1 rfl rfl)
theorem dX0_songTold_2 : decode cX0_songTold 2 = .ok (.invokevirtual 244, 3) := dk_182 0 244 (dk_at dksX0_songTold_0 2 rfl rfl)
theorem dX0_songTold_5 : decode cX0_songTold 5 = .ok (.iload_n 2, 1) := dk_28 (dk_at dksX0_songTold_0 5 rfl rfl)
theorem dX0_songTold_6 : decode cX0_songTold 6 = .ok (.i2l, 1) := dk_133 (dk_at dksX0_songTold_0 6 rfl rfl)
theorem dX0_songTold_7 : decode cX0_songTold 7 = .ok (.lconst 0, 1) := dk_9 (dk_at dksX0_songTold_0 7 rfl rfl)
theorem dX0_songTold_8 : decode cX0_songTold 8 = .ok (.ldc2_w 247, 3) := dk_20 0 247 (dk_at dksX0_songTold_0 8 rfl rfl)
theorem dX0_songTold_11 : decode cX0_songTold 11 = .ok (.invokestatic 13, 3) := dk_184 0 13 (dk_at dksX0_songTold_0 11 rfl rfl)
theorem dX0_songTold_14 : decode cX0_songTold 14 = .ok (.bipush (-2), 2) := dk_16 254 (dk_at dksX0_songTold_0 14 rfl rfl)
theorem dX0_songTold_16 : decode cX0_songTold 16 = .ok (.invokestatic 9, 3) := dk_184 0 9 (dk_at dksX0_songTold_0 16 rfl rfl)
theorem dX0_songTold_19 : decode cX0_songTold 19 = .ok (.aload_n 0, 1) := dk_42 (dk_at dksX0_songTold_0 19 rfl rfl)
theorem dX0_songTold_20 : decode cX0_songTold 20 = .ok (.getfield 69, 3) := dk_180 0 69 (dk_at dksX0_songTold_0 20 rfl rfl)
theorem dX0_songTold_23 : decode cX0_songTold 23 = .ok (.getfield 195, 3) := dk_180 0 195 (dk_at dksX0_songTold_1 0 rfl rfl)
theorem dX0_songTold_26 : decode cX0_songTold 26 = .ok (.iload_n 1, 1) := dk_27 (dk_at dksX0_songTold_1 3 rfl rfl)
theorem dX0_songTold_27 : decode cX0_songTold 27 = .ok (.aaload, 1) := dk_50 (dk_at dksX0_songTold_1 4 rfl rfl)
theorem dX0_songTold_28 : decode cX0_songTold 28 = .ok (.astore_n 3, 1) := dk_78 (dk_at dksX0_songTold_1 5 rfl rfl)
theorem dX0_songTold_29 : decode cX0_songTold 29 = .ok (.iload_n 2, 1) := dk_28 (dk_at dksX0_songTold_1 6 rfl rfl)
theorem dX0_songTold_30 : decode cX0_songTold 30 = .ok (.tableswitch 50 0 3 #[30, 35, 40, 45], 30) := by decide +kernel
theorem dX0_songTold_60 : decode cX0_songTold 60 = .ok (.aload_n 3, 1) := dk_45 (dk_at dksX0_songTold_3 0 rfl rfl)
theorem dX0_songTold_61 : decode cX0_songTold 61 = .ok (.invokevirtual 249, 3) := dk_182 0 249 (dk_at dksX0_songTold_3 1 rfl rfl)
theorem dX0_songTold_64 : decode cX0_songTold 64 = .ok (.ireturn, 1) := dk_172 (dk_at dksX0_songTold_3 4 rfl rfl)
theorem dX0_songTold_65 : decode cX0_songTold 65 = .ok (.aload_n 3, 1) := dk_45 (dk_at dksX0_songTold_3 5 rfl rfl)
theorem dX0_songTold_66 : decode cX0_songTold 66 = .ok (.getfield 254, 3) := dk_180 0 254 (dk_at dksX0_songTold_3 6 rfl rfl)
theorem dX0_songTold_69 : decode cX0_songTold 69 = .ok (.ireturn, 1) := dk_172 (dk_at dksX0_songTold_3 9 rfl rfl)
theorem dX0_songTold_70 : decode cX0_songTold 70 = .ok (.aload_n 3, 1) := dk_45 (dk_at dksX0_songTold_3 10 rfl rfl)
theorem dX0_songTold_71 : decode cX0_songTold 71 = .ok (.getfield 257, 3) := dk_180 1 1 (dk_at dksX0_songTold_3 11 rfl rfl)
theorem dX0_songTold_74 : decode cX0_songTold 74 = .ok (.ireturn, 1) := dk_172 (dk_at dksX0_songTold_3 14 rfl rfl)
theorem dX0_songTold_75 : decode cX0_songTold 75 = .ok (.aload_n 3, 1) := dk_45 (dk_at dksX0_songTold_3 15 rfl rfl)
theorem dX0_songTold_76 : decode cX0_songTold 76 = .ok (.invokevirtual 260, 3) := dk_182 1 4 (dk_at dksX0_songTold_3 16 rfl rfl)
theorem dX0_songTold_79 : decode cX0_songTold 79 = .ok (.ireturn, 1) := dk_172 (dk_at dksX0_songTold_3 19 rfl rfl)
theorem dX0_songTold_80 : decode cX0_songTold 80 = .ok (.aload_n 0, 1) := dk_42 (dk_at dksX0_songTold_3 20 rfl rfl)
theorem dX0_songTold_81 : decode cX0_songTold 81 = .ok (.getfield 69, 3) := dk_180 0 69 (dk_at dksX0_songTold_3 21 rfl rfl)
theorem dX0_songTold_84 : decode cX0_songTold 84 = .ok (.iload_n 1, 1) := dk_27 (dk_at dksX0_songTold_4 0 rfl rfl)
theorem dX0_songTold_85 : decode cX0_songTold 85 = .ok (.invokevirtual 137, 3) := dk_182 0 137 (dk_at dksX0_songTold_4 1 rfl rfl)
theorem dX0_songTold_88 : decode cX0_songTold 88 = .ok (.ireturn, 1) := dk_172 (dk_at dksX0_songTold_4 4 rfl rfl)
abbrev cX0_mustBeSong : ByteArray := prog_1_method_30_code
def yX0_mustBeSong : MethodName := ⟨RX0, "mustBeSong", "(I)V"⟩
def dkwX0_mustBeSong_0 : List UInt8 := [27, 42, 180, 0, 69, 180, 0, 151, 184, 0, 231, 177]
abbrev dktX0_mustBeSong_0 : List UInt8 := dkwX0_mustBeSong_0 ++ []
theorem dksX0_mustBeSong_0 : cX0_mustBeSong.data.toList.drop 0 = dktX0_mustBeSong_0 := by decide +kernel
theorem dX0_mustBeSong_0 : decode cX0_mustBeSong 0 = .ok (.iload_n 1, 1) := dk_27 (dk_at dksX0_mustBeSong_0 0 rfl rfl)
theorem dX0_mustBeSong_1 : decode cX0_mustBeSong 1 = .ok (.aload_n 0, 1) := dk_42 (dk_at dksX0_mustBeSong_0 1 rfl rfl)
theorem dX0_mustBeSong_2 : decode cX0_mustBeSong 2 = .ok (.getfield 69, 3) := dk_180 0 69 (dk_at dksX0_mustBeSong_0 2 rfl rfl)
theorem dX0_mustBeSong_5 : decode cX0_mustBeSong 5 = .ok (.getfield 151, 3) := dk_180 0 151 (dk_at dksX0_mustBeSong_0 5 rfl rfl)
theorem dX0_mustBeSong_8 : decode cX0_mustBeSong 8 = .ok (.invokestatic 231, 3) := dk_184 0 231 (dk_at dksX0_mustBeSong_0 8 rfl rfl)
theorem dX0_mustBeSong_11 : decode cX0_mustBeSong 11 = .ok (.return_, 1) := dk_177 (dk_at dksX0_mustBeSong_0 11 rfl rfl)
abbrev cX0_mustBe : ByteArray := prog_1_method_4_code
def yX0_mustBe : MethodName := ⟨RX0, "mustBe", "(II)V"⟩
def dkwX0_mustBe_0 : List UInt8 := [26, 133, 9, 27, 4, 100, 133, 184, 0, 13, 2, 184, 0, 9, 177]
abbrev dktX0_mustBe_0 : List UInt8 := dkwX0_mustBe_0 ++ []
theorem dksX0_mustBe_0 : cX0_mustBe.data.toList.drop 0 = dktX0_mustBe_0 := by decide +kernel
theorem dX0_mustBe_0 : decode cX0_mustBe 0 = .ok (.iload_n 0, 1) := dk_26 (dk_at dksX0_mustBe_0 0 rfl rfl)
theorem dX0_mustBe_1 : decode cX0_mustBe 1 = .ok (.i2l, 1) := dk_133 (dk_at dksX0_mustBe_0 1 rfl rfl)
theorem dX0_mustBe_2 : decode cX0_mustBe 2 = .ok (.lconst 0, 1) := dk_9 (dk_at dksX0_mustBe_0 2 rfl rfl)
theorem dX0_mustBe_3 : decode cX0_mustBe 3 = .ok (.iload_n 1, 1) := dk_27 (dk_at dksX0_mustBe_0 3 rfl rfl)
theorem dX0_mustBe_4 : decode cX0_mustBe 4 = .ok (.iconst 1, 1) := dk_4 (dk_at dksX0_mustBe_0 4 rfl rfl)
theorem dX0_mustBe_5 : decode cX0_mustBe 5 = .ok (.isub, 1) := dk_100 (dk_at dksX0_mustBe_0 5 rfl rfl)
theorem dX0_mustBe_6 : decode cX0_mustBe 6 = .ok (.i2l, 1) := dk_133 (dk_at dksX0_mustBe_0 6 rfl rfl)
theorem dX0_mustBe_7 : decode cX0_mustBe 7 = .ok (.invokestatic 13, 3) := dk_184 0 13 (dk_at dksX0_mustBe_0 7 rfl rfl)
theorem dX0_mustBe_10 : decode cX0_mustBe 10 = .ok (.iconst (-1), 1) := dk_2 (dk_at dksX0_mustBe_0 10 rfl rfl)
theorem dX0_mustBe_11 : decode cX0_mustBe 11 = .ok (.invokestatic 9, 3) := dk_184 0 9 (dk_at dksX0_mustBe_0 11 rfl rfl)
theorem dX0_mustBe_14 : decode cX0_mustBe 14 = .ok (.return_, 1) := dk_177 (dk_at dksX0_mustBe_0 14 rfl rfl)
abbrev cX0_headTold : ByteArray := prog_1_method_37_code
def yX0_headTold : MethodName := ⟨RX0, "headTold", "(II)I"⟩
def dkwX0_headTold_5 : List UInt8 := [172, 42, 180, 0, 69, 27, 182, 1, 27, 153, 0, 7, 4, 167, 0, 4, 3, 172]
abbrev dktX0_headTold_5 : List UInt8 := dkwX0_headTold_5 ++ []
def dkwX0_headTold_4 : List UInt8 := [180, 1, 18, 27, 46, 172, 42, 180, 0, 69, 180, 1, 21, 27, 46, 172, 42, 180, 0, 69, 27, 182, 1, 24]
abbrev dktX0_headTold_4 : List UInt8 := dkwX0_headTold_4 ++ dktX0_headTold_5
def dkwX0_headTold_3 : List UInt8 := [180, 0, 69, 180, 1, 15, 27, 46, 172, 42, 180, 0, 69, 180, 0, 130, 27, 46, 172, 42, 180, 0, 69]
abbrev dktX0_headTold_3 : List UInt8 := dkwX0_headTold_3 ++ dktX0_headTold_4
def dkwX0_headTold_2 : List UInt8 := [42, 180, 0, 69, 180, 1, 12, 27, 50, 182, 1, 14, 172, 42, 180, 0, 69, 180, 0, 192, 27, 46, 172, 42]
abbrev dktX0_headTold_2 : List UInt8 := dkwX0_headTold_2 ++ dktX0_headTold_3
def dkwX0_headTold_1 : List UInt8 := [170, 0, 0, 0, 0, 0, 0, 116, 0, 0, 0, 0, 0, 0, 0, 6, 0, 0, 0, 44, 0, 0, 0, 57, 0, 0, 0, 67, 0, 0, 0, 77, 0, 0, 0, 87, 0, 0, 0, 97, 0, 0, 0, 107]
abbrev dktX0_headTold_1 : List UInt8 := dkwX0_headTold_1 ++ dktX0_headTold_2
def dkwX0_headTold_0 : List UInt8 := [42, 27, 182, 1, 7, 28, 133, 9, 20, 1, 10, 184, 0, 13, 16, 254, 184, 0, 9, 28]
abbrev dktX0_headTold_0 : List UInt8 := dkwX0_headTold_0 ++ dktX0_headTold_1
theorem dksX0_headTold_0 : cX0_headTold.data.toList.drop 0 = dktX0_headTold_0 := by decide +kernel
theorem dksX0_headTold_1 : cX0_headTold.data.toList.drop 20 = dktX0_headTold_1 := dk_seg dksX0_headTold_0 20 rfl rfl
theorem dksX0_headTold_2 : cX0_headTold.data.toList.drop 64 = dktX0_headTold_2 := dk_seg dksX0_headTold_1 44 rfl rfl
theorem dksX0_headTold_3 : cX0_headTold.data.toList.drop 88 = dktX0_headTold_3 := dk_seg dksX0_headTold_2 24 rfl rfl
theorem dksX0_headTold_4 : cX0_headTold.data.toList.drop 111 = dktX0_headTold_4 := dk_seg dksX0_headTold_3 23 rfl rfl
theorem dksX0_headTold_5 : cX0_headTold.data.toList.drop 135 = dktX0_headTold_5 := dk_seg dksX0_headTold_4 24 rfl rfl
theorem dX0_headTold_0 : decode cX0_headTold 0 = .ok (.aload_n 0, 1) := dk_42 (dk_at dksX0_headTold_0 0 rfl rfl)
theorem dX0_headTold_1 : decode cX0_headTold 1 = .ok (.iload_n 1, 1) := dk_27 (dk_at dksX0_headTold_0 1 rfl rfl)
theorem dX0_headTold_2 : decode cX0_headTold 2 = .ok (.invokevirtual 263, 3) := dk_182 1 7 (dk_at dksX0_headTold_0 2 rfl rfl)
theorem dX0_headTold_5 : decode cX0_headTold 5 = .ok (.iload_n 2, 1) := dk_28 (dk_at dksX0_headTold_0 5 rfl rfl)
theorem dX0_headTold_6 : decode cX0_headTold 6 = .ok (.i2l, 1) := dk_133 (dk_at dksX0_headTold_0 6 rfl rfl)
theorem dX0_headTold_7 : decode cX0_headTold 7 = .ok (.lconst 0, 1) := dk_9 (dk_at dksX0_headTold_0 7 rfl rfl)
theorem dX0_headTold_8 : decode cX0_headTold 8 = .ok (.ldc2_w 266, 3) := dk_20 1 10 (dk_at dksX0_headTold_0 8 rfl rfl)
theorem dX0_headTold_11 : decode cX0_headTold 11 = .ok (.invokestatic 13, 3) := dk_184 0 13 (dk_at dksX0_headTold_0 11 rfl rfl)
theorem dX0_headTold_14 : decode cX0_headTold 14 = .ok (.bipush (-2), 2) := dk_16 254 (dk_at dksX0_headTold_0 14 rfl rfl)
theorem dX0_headTold_16 : decode cX0_headTold 16 = .ok (.invokestatic 9, 3) := dk_184 0 9 (dk_at dksX0_headTold_0 16 rfl rfl)
theorem dX0_headTold_19 : decode cX0_headTold 19 = .ok (.iload_n 2, 1) := dk_28 (dk_at dksX0_headTold_0 19 rfl rfl)
theorem dX0_headTold_20 : decode cX0_headTold 20 = .ok (.tableswitch 116 0 6 #[44, 57, 67, 77, 87, 97, 107], 44) := by decide +kernel
theorem dX0_headTold_64 : decode cX0_headTold 64 = .ok (.aload_n 0, 1) := dk_42 (dk_at dksX0_headTold_2 0 rfl rfl)
theorem dX0_headTold_65 : decode cX0_headTold 65 = .ok (.getfield 69, 3) := dk_180 0 69 (dk_at dksX0_headTold_2 1 rfl rfl)
theorem dX0_headTold_68 : decode cX0_headTold 68 = .ok (.getfield 268, 3) := dk_180 1 12 (dk_at dksX0_headTold_2 4 rfl rfl)
theorem dX0_headTold_71 : decode cX0_headTold 71 = .ok (.iload_n 1, 1) := dk_27 (dk_at dksX0_headTold_2 7 rfl rfl)
theorem dX0_headTold_72 : decode cX0_headTold 72 = .ok (.aaload, 1) := dk_50 (dk_at dksX0_headTold_2 8 rfl rfl)
theorem dX0_headTold_73 : decode cX0_headTold 73 = .ok (.invokevirtual 270, 3) := dk_182 1 14 (dk_at dksX0_headTold_2 9 rfl rfl)
theorem dX0_headTold_76 : decode cX0_headTold 76 = .ok (.ireturn, 1) := dk_172 (dk_at dksX0_headTold_2 12 rfl rfl)
theorem dX0_headTold_77 : decode cX0_headTold 77 = .ok (.aload_n 0, 1) := dk_42 (dk_at dksX0_headTold_2 13 rfl rfl)
theorem dX0_headTold_78 : decode cX0_headTold 78 = .ok (.getfield 69, 3) := dk_180 0 69 (dk_at dksX0_headTold_2 14 rfl rfl)
theorem dX0_headTold_81 : decode cX0_headTold 81 = .ok (.getfield 192, 3) := dk_180 0 192 (dk_at dksX0_headTold_2 17 rfl rfl)
theorem dX0_headTold_84 : decode cX0_headTold 84 = .ok (.iload_n 1, 1) := dk_27 (dk_at dksX0_headTold_2 20 rfl rfl)
theorem dX0_headTold_85 : decode cX0_headTold 85 = .ok (.iaload, 1) := dk_46 (dk_at dksX0_headTold_2 21 rfl rfl)
theorem dX0_headTold_86 : decode cX0_headTold 86 = .ok (.ireturn, 1) := dk_172 (dk_at dksX0_headTold_2 22 rfl rfl)
theorem dX0_headTold_87 : decode cX0_headTold 87 = .ok (.aload_n 0, 1) := dk_42 (dk_at dksX0_headTold_2 23 rfl rfl)
theorem dX0_headTold_88 : decode cX0_headTold 88 = .ok (.getfield 69, 3) := dk_180 0 69 (dk_at dksX0_headTold_3 0 rfl rfl)
theorem dX0_headTold_91 : decode cX0_headTold 91 = .ok (.getfield 271, 3) := dk_180 1 15 (dk_at dksX0_headTold_3 3 rfl rfl)
theorem dX0_headTold_94 : decode cX0_headTold 94 = .ok (.iload_n 1, 1) := dk_27 (dk_at dksX0_headTold_3 6 rfl rfl)
theorem dX0_headTold_95 : decode cX0_headTold 95 = .ok (.iaload, 1) := dk_46 (dk_at dksX0_headTold_3 7 rfl rfl)
theorem dX0_headTold_96 : decode cX0_headTold 96 = .ok (.ireturn, 1) := dk_172 (dk_at dksX0_headTold_3 8 rfl rfl)
theorem dX0_headTold_97 : decode cX0_headTold 97 = .ok (.aload_n 0, 1) := dk_42 (dk_at dksX0_headTold_3 9 rfl rfl)
theorem dX0_headTold_98 : decode cX0_headTold 98 = .ok (.getfield 69, 3) := dk_180 0 69 (dk_at dksX0_headTold_3 10 rfl rfl)
theorem dX0_headTold_101 : decode cX0_headTold 101 = .ok (.getfield 130, 3) := dk_180 0 130 (dk_at dksX0_headTold_3 13 rfl rfl)
theorem dX0_headTold_104 : decode cX0_headTold 104 = .ok (.iload_n 1, 1) := dk_27 (dk_at dksX0_headTold_3 16 rfl rfl)
theorem dX0_headTold_105 : decode cX0_headTold 105 = .ok (.iaload, 1) := dk_46 (dk_at dksX0_headTold_3 17 rfl rfl)
theorem dX0_headTold_106 : decode cX0_headTold 106 = .ok (.ireturn, 1) := dk_172 (dk_at dksX0_headTold_3 18 rfl rfl)
theorem dX0_headTold_107 : decode cX0_headTold 107 = .ok (.aload_n 0, 1) := dk_42 (dk_at dksX0_headTold_3 19 rfl rfl)
theorem dX0_headTold_108 : decode cX0_headTold 108 = .ok (.getfield 69, 3) := dk_180 0 69 (dk_at dksX0_headTold_3 20 rfl rfl)
theorem dX0_headTold_111 : decode cX0_headTold 111 = .ok (.getfield 274, 3) := dk_180 1 18 (dk_at dksX0_headTold_4 0 rfl rfl)
theorem dX0_headTold_114 : decode cX0_headTold 114 = .ok (.iload_n 1, 1) := dk_27 (dk_at dksX0_headTold_4 3 rfl rfl)
theorem dX0_headTold_115 : decode cX0_headTold 115 = .ok (.iaload, 1) := dk_46 (dk_at dksX0_headTold_4 4 rfl rfl)
theorem dX0_headTold_116 : decode cX0_headTold 116 = .ok (.ireturn, 1) := dk_172 (dk_at dksX0_headTold_4 5 rfl rfl)
theorem dX0_headTold_117 : decode cX0_headTold 117 = .ok (.aload_n 0, 1) := dk_42 (dk_at dksX0_headTold_4 6 rfl rfl)
theorem dX0_headTold_118 : decode cX0_headTold 118 = .ok (.getfield 69, 3) := dk_180 0 69 (dk_at dksX0_headTold_4 7 rfl rfl)
theorem dX0_headTold_121 : decode cX0_headTold 121 = .ok (.getfield 277, 3) := dk_180 1 21 (dk_at dksX0_headTold_4 10 rfl rfl)
theorem dX0_headTold_124 : decode cX0_headTold 124 = .ok (.iload_n 1, 1) := dk_27 (dk_at dksX0_headTold_4 13 rfl rfl)
theorem dX0_headTold_125 : decode cX0_headTold 125 = .ok (.iaload, 1) := dk_46 (dk_at dksX0_headTold_4 14 rfl rfl)
theorem dX0_headTold_126 : decode cX0_headTold 126 = .ok (.ireturn, 1) := dk_172 (dk_at dksX0_headTold_4 15 rfl rfl)
theorem dX0_headTold_127 : decode cX0_headTold 127 = .ok (.aload_n 0, 1) := dk_42 (dk_at dksX0_headTold_4 16 rfl rfl)
theorem dX0_headTold_128 : decode cX0_headTold 128 = .ok (.getfield 69, 3) := dk_180 0 69 (dk_at dksX0_headTold_4 17 rfl rfl)
theorem dX0_headTold_131 : decode cX0_headTold 131 = .ok (.iload_n 1, 1) := dk_27 (dk_at dksX0_headTold_4 20 rfl rfl)
theorem dX0_headTold_132 : decode cX0_headTold 132 = .ok (.invokevirtual 280, 3) := dk_182 1 24 (dk_at dksX0_headTold_4 21 rfl rfl)
theorem dX0_headTold_135 : decode cX0_headTold 135 = .ok (.ireturn, 1) := dk_172 (dk_at dksX0_headTold_5 0 rfl rfl)
theorem dX0_headTold_136 : decode cX0_headTold 136 = .ok (.aload_n 0, 1) := dk_42 (dk_at dksX0_headTold_5 1 rfl rfl)
theorem dX0_headTold_137 : decode cX0_headTold 137 = .ok (.getfield 69, 3) := dk_180 0 69 (dk_at dksX0_headTold_5 2 rfl rfl)
theorem dX0_headTold_140 : decode cX0_headTold 140 = .ok (.iload_n 1, 1) := dk_27 (dk_at dksX0_headTold_5 5 rfl rfl)
theorem dX0_headTold_141 : decode cX0_headTold 141 = .ok (.invokevirtual 283, 3) := dk_182 1 27 (dk_at dksX0_headTold_5 6 rfl rfl)
theorem dX0_headTold_144 : decode cX0_headTold 144 = .ok (.ifCond .eq 7, 3) := dk_153 0 7 (dk_at dksX0_headTold_5 9 rfl rfl)
theorem dX0_headTold_147 : decode cX0_headTold 147 = .ok (.iconst 1, 1) := dk_4 (dk_at dksX0_headTold_5 12 rfl rfl)
theorem dX0_headTold_148 : decode cX0_headTold 148 = .ok (.goto 4, 3) := dk_167 0 4 (dk_at dksX0_headTold_5 13 rfl rfl)
theorem dX0_headTold_151 : decode cX0_headTold 151 = .ok (.iconst 0, 1) := dk_3 (dk_at dksX0_headTold_5 16 rfl rfl)
theorem dX0_headTold_152 : decode cX0_headTold 152 = .ok (.ireturn, 1) := dk_172 (dk_at dksX0_headTold_5 17 rfl rfl)
abbrev cX0_mustBeHead : ByteArray := prog_1_method_29_code
def yX0_mustBeHead : MethodName := ⟨RX0, "mustBeHead", "(I)V"⟩
def dkwX0_mustBeHead_0 : List UInt8 := [27, 42, 180, 0, 69, 180, 0, 189, 184, 0, 231, 177]
abbrev dktX0_mustBeHead_0 : List UInt8 := dkwX0_mustBeHead_0 ++ []
theorem dksX0_mustBeHead_0 : cX0_mustBeHead.data.toList.drop 0 = dktX0_mustBeHead_0 := by decide +kernel
theorem dX0_mustBeHead_0 : decode cX0_mustBeHead 0 = .ok (.iload_n 1, 1) := dk_27 (dk_at dksX0_mustBeHead_0 0 rfl rfl)
theorem dX0_mustBeHead_1 : decode cX0_mustBeHead 1 = .ok (.aload_n 0, 1) := dk_42 (dk_at dksX0_mustBeHead_0 1 rfl rfl)
theorem dX0_mustBeHead_2 : decode cX0_mustBeHead 2 = .ok (.getfield 69, 3) := dk_180 0 69 (dk_at dksX0_mustBeHead_0 2 rfl rfl)
theorem dX0_mustBeHead_5 : decode cX0_mustBeHead 5 = .ok (.getfield 189, 3) := dk_180 0 189 (dk_at dksX0_mustBeHead_0 5 rfl rfl)
theorem dX0_mustBeHead_8 : decode cX0_mustBeHead 8 = .ok (.invokestatic 231, 3) := dk_184 0 231 (dk_at dksX0_mustBeHead_0 8 rfl rfl)
theorem dX0_mustBeHead_11 : decode cX0_mustBeHead 11 = .ok (.return_, 1) := dk_177 (dk_at dksX0_mustBeHead_0 11 rfl rfl)
abbrev cX0_nearTold : ByteArray := prog_1_method_38_code
def yX0_nearTold : MethodName := ⟨RX0, "nearTold", "(I)I"⟩
def dkwX0_nearTold_2 : List UInt8 := [167, 255, 220, 28, 172]
abbrev dktX0_nearTold_2 : List UInt8 := dkwX0_nearTold_2 ++ []
def dkwX0_nearTold_1 : List UInt8 := [180, 0, 69, 27, 29, 182, 1, 31, 153, 0, 9, 4, 29, 120, 167, 0, 4, 3, 128, 61, 132, 3, 1]
abbrev dktX0_nearTold_1 : List UInt8 := dkwX0_nearTold_1 ++ dktX0_nearTold_2
def dkwX0_nearTold_0 : List UInt8 := [42, 27, 182, 1, 7, 3, 61, 3, 62, 29, 42, 180, 0, 69, 180, 0, 189, 162, 0, 31, 28, 42]
abbrev dktX0_nearTold_0 : List UInt8 := dkwX0_nearTold_0 ++ dktX0_nearTold_1
theorem dksX0_nearTold_0 : cX0_nearTold.data.toList.drop 0 = dktX0_nearTold_0 := by decide +kernel
theorem dksX0_nearTold_1 : cX0_nearTold.data.toList.drop 22 = dktX0_nearTold_1 := dk_seg dksX0_nearTold_0 22 rfl rfl
theorem dksX0_nearTold_2 : cX0_nearTold.data.toList.drop 45 = dktX0_nearTold_2 := dk_seg dksX0_nearTold_1 23 rfl rfl
theorem dX0_nearTold_0 : decode cX0_nearTold 0 = .ok (.aload_n 0, 1) := dk_42 (dk_at dksX0_nearTold_0 0 rfl rfl)
theorem dX0_nearTold_1 : decode cX0_nearTold 1 = .ok (.iload_n 1, 1) := dk_27 (dk_at dksX0_nearTold_0 1 rfl rfl)
theorem dX0_nearTold_2 : decode cX0_nearTold 2 = .ok (.invokevirtual 263, 3) := dk_182 1 7 (dk_at dksX0_nearTold_0 2 rfl rfl)
theorem dX0_nearTold_5 : decode cX0_nearTold 5 = .ok (.iconst 0, 1) := dk_3 (dk_at dksX0_nearTold_0 5 rfl rfl)
theorem dX0_nearTold_6 : decode cX0_nearTold 6 = .ok (.istore_n 2, 1) := dk_61 (dk_at dksX0_nearTold_0 6 rfl rfl)
theorem dX0_nearTold_7 : decode cX0_nearTold 7 = .ok (.iconst 0, 1) := dk_3 (dk_at dksX0_nearTold_0 7 rfl rfl)
theorem dX0_nearTold_8 : decode cX0_nearTold 8 = .ok (.istore_n 3, 1) := dk_62 (dk_at dksX0_nearTold_0 8 rfl rfl)
theorem dX0_nearTold_9 : decode cX0_nearTold 9 = .ok (.iload_n 3, 1) := dk_29 (dk_at dksX0_nearTold_0 9 rfl rfl)
theorem dX0_nearTold_10 : decode cX0_nearTold 10 = .ok (.aload_n 0, 1) := dk_42 (dk_at dksX0_nearTold_0 10 rfl rfl)
theorem dX0_nearTold_11 : decode cX0_nearTold 11 = .ok (.getfield 69, 3) := dk_180 0 69 (dk_at dksX0_nearTold_0 11 rfl rfl)
theorem dX0_nearTold_14 : decode cX0_nearTold 14 = .ok (.getfield 189, 3) := dk_180 0 189 (dk_at dksX0_nearTold_0 14 rfl rfl)
theorem dX0_nearTold_17 : decode cX0_nearTold 17 = .ok (.if_icmp .ge 31, 3) := dk_162 0 31 (dk_at dksX0_nearTold_0 17 rfl rfl)
theorem dX0_nearTold_20 : decode cX0_nearTold 20 = .ok (.iload_n 2, 1) := dk_28 (dk_at dksX0_nearTold_0 20 rfl rfl)
theorem dX0_nearTold_21 : decode cX0_nearTold 21 = .ok (.aload_n 0, 1) := dk_42 (dk_at dksX0_nearTold_0 21 rfl rfl)
theorem dX0_nearTold_22 : decode cX0_nearTold 22 = .ok (.getfield 69, 3) := dk_180 0 69 (dk_at dksX0_nearTold_1 0 rfl rfl)
theorem dX0_nearTold_25 : decode cX0_nearTold 25 = .ok (.iload_n 1, 1) := dk_27 (dk_at dksX0_nearTold_1 3 rfl rfl)
theorem dX0_nearTold_26 : decode cX0_nearTold 26 = .ok (.iload_n 3, 1) := dk_29 (dk_at dksX0_nearTold_1 4 rfl rfl)
theorem dX0_nearTold_27 : decode cX0_nearTold 27 = .ok (.invokevirtual 287, 3) := dk_182 1 31 (dk_at dksX0_nearTold_1 5 rfl rfl)
theorem dX0_nearTold_30 : decode cX0_nearTold 30 = .ok (.ifCond .eq 9, 3) := dk_153 0 9 (dk_at dksX0_nearTold_1 8 rfl rfl)
theorem dX0_nearTold_33 : decode cX0_nearTold 33 = .ok (.iconst 1, 1) := dk_4 (dk_at dksX0_nearTold_1 11 rfl rfl)
theorem dX0_nearTold_34 : decode cX0_nearTold 34 = .ok (.iload_n 3, 1) := dk_29 (dk_at dksX0_nearTold_1 12 rfl rfl)
theorem dX0_nearTold_35 : decode cX0_nearTold 35 = .ok (.ishl, 1) := dk_120 (dk_at dksX0_nearTold_1 13 rfl rfl)
theorem dX0_nearTold_36 : decode cX0_nearTold 36 = .ok (.goto 4, 3) := dk_167 0 4 (dk_at dksX0_nearTold_1 14 rfl rfl)
theorem dX0_nearTold_39 : decode cX0_nearTold 39 = .ok (.iconst 0, 1) := dk_3 (dk_at dksX0_nearTold_1 17 rfl rfl)
theorem dX0_nearTold_40 : decode cX0_nearTold 40 = .ok (.ior, 1) := dk_128 (dk_at dksX0_nearTold_1 18 rfl rfl)
theorem dX0_nearTold_41 : decode cX0_nearTold 41 = .ok (.istore_n 2, 1) := dk_61 (dk_at dksX0_nearTold_1 19 rfl rfl)
theorem dX0_nearTold_42 : decode cX0_nearTold 42 = .ok (.iinc 3 1, 3) := dk_132 3 1 (dk_at dksX0_nearTold_1 20 rfl rfl)
theorem dX0_nearTold_45 : decode cX0_nearTold 45 = .ok (.goto (-36), 3) := dk_167 255 220 (dk_at dksX0_nearTold_2 0 rfl rfl)
theorem dX0_nearTold_48 : decode cX0_nearTold 48 = .ok (.iload_n 2, 1) := dk_28 (dk_at dksX0_nearTold_2 3 rfl rfl)
theorem dX0_nearTold_49 : decode cX0_nearTold 49 = .ok (.ireturn, 1) := dk_172 (dk_at dksX0_nearTold_2 4 rfl rfl)
abbrev cX0_has : ByteArray := prog_1_method_5_code
def yX0_has : MethodName := ⟨RX0, "has", "(II)Z"⟩
def dkwX0_has_0 : List UInt8 := [26, 27, 122, 4, 126, 4, 160, 0, 7, 4, 167, 0, 4, 3, 172]
abbrev dktX0_has_0 : List UInt8 := dkwX0_has_0 ++ []
theorem dksX0_has_0 : cX0_has.data.toList.drop 0 = dktX0_has_0 := by decide +kernel
theorem dX0_has_0 : decode cX0_has 0 = .ok (.iload_n 0, 1) := dk_26 (dk_at dksX0_has_0 0 rfl rfl)
theorem dX0_has_1 : decode cX0_has 1 = .ok (.iload_n 1, 1) := dk_27 (dk_at dksX0_has_0 1 rfl rfl)
theorem dX0_has_2 : decode cX0_has 2 = .ok (.ishr, 1) := dk_122 (dk_at dksX0_has_0 2 rfl rfl)
theorem dX0_has_3 : decode cX0_has 3 = .ok (.iconst 1, 1) := dk_4 (dk_at dksX0_has_0 3 rfl rfl)
theorem dX0_has_4 : decode cX0_has 4 = .ok (.iand, 1) := dk_126 (dk_at dksX0_has_0 4 rfl rfl)
theorem dX0_has_5 : decode cX0_has 5 = .ok (.iconst 1, 1) := dk_4 (dk_at dksX0_has_0 5 rfl rfl)
theorem dX0_has_6 : decode cX0_has 6 = .ok (.if_icmp .ne 7, 3) := dk_160 0 7 (dk_at dksX0_has_0 6 rfl rfl)
theorem dX0_has_9 : decode cX0_has 9 = .ok (.iconst 1, 1) := dk_4 (dk_at dksX0_has_0 9 rfl rfl)
theorem dX0_has_10 : decode cX0_has 10 = .ok (.goto 4, 3) := dk_167 0 4 (dk_at dksX0_has_0 10 rfl rfl)
theorem dX0_has_13 : decode cX0_has 13 = .ok (.iconst 0, 1) := dk_3 (dk_at dksX0_has_0 13 rfl rfl)
theorem dX0_has_14 : decode cX0_has 14 = .ok (.ireturn, 1) := dk_172 (dk_at dksX0_has_0 14 rfl rfl)
abbrev cX0_goIt : ByteArray := prog_1_method_39_code
def yX0_goIt : MethodName := ⟨RX0, "goIt", "(II)I"⟩
def dkwX0_goIt_1 : List UInt8 := [180, 0, 192, 27, 28, 79, 29, 172]
abbrev dktX0_goIt_1 : List UInt8 := dkwX0_goIt_1 ++ []
def dkwX0_goIt_0 : List UInt8 := [42, 27, 182, 1, 7, 28, 8, 184, 0, 231, 42, 180, 0, 69, 180, 0, 192, 27, 46, 62, 42, 180, 0, 69]
abbrev dktX0_goIt_0 : List UInt8 := dkwX0_goIt_0 ++ dktX0_goIt_1
theorem dksX0_goIt_0 : cX0_goIt.data.toList.drop 0 = dktX0_goIt_0 := by decide +kernel
theorem dksX0_goIt_1 : cX0_goIt.data.toList.drop 24 = dktX0_goIt_1 := dk_seg dksX0_goIt_0 24 rfl rfl
theorem dX0_goIt_0 : decode cX0_goIt 0 = .ok (.aload_n 0, 1) := dk_42 (dk_at dksX0_goIt_0 0 rfl rfl)
theorem dX0_goIt_1 : decode cX0_goIt 1 = .ok (.iload_n 1, 1) := dk_27 (dk_at dksX0_goIt_0 1 rfl rfl)
theorem dX0_goIt_2 : decode cX0_goIt 2 = .ok (.invokevirtual 263, 3) := dk_182 1 7 (dk_at dksX0_goIt_0 2 rfl rfl)
theorem dX0_goIt_5 : decode cX0_goIt 5 = .ok (.iload_n 2, 1) := dk_28 (dk_at dksX0_goIt_0 5 rfl rfl)
theorem dX0_goIt_6 : decode cX0_goIt 6 = .ok (.iconst 5, 1) := dk_8 (dk_at dksX0_goIt_0 6 rfl rfl)
theorem dX0_goIt_7 : decode cX0_goIt 7 = .ok (.invokestatic 231, 3) := dk_184 0 231 (dk_at dksX0_goIt_0 7 rfl rfl)
theorem dX0_goIt_10 : decode cX0_goIt 10 = .ok (.aload_n 0, 1) := dk_42 (dk_at dksX0_goIt_0 10 rfl rfl)
theorem dX0_goIt_11 : decode cX0_goIt 11 = .ok (.getfield 69, 3) := dk_180 0 69 (dk_at dksX0_goIt_0 11 rfl rfl)
theorem dX0_goIt_14 : decode cX0_goIt 14 = .ok (.getfield 192, 3) := dk_180 0 192 (dk_at dksX0_goIt_0 14 rfl rfl)
theorem dX0_goIt_17 : decode cX0_goIt 17 = .ok (.iload_n 1, 1) := dk_27 (dk_at dksX0_goIt_0 17 rfl rfl)
theorem dX0_goIt_18 : decode cX0_goIt 18 = .ok (.iaload, 1) := dk_46 (dk_at dksX0_goIt_0 18 rfl rfl)
theorem dX0_goIt_19 : decode cX0_goIt 19 = .ok (.istore_n 3, 1) := dk_62 (dk_at dksX0_goIt_0 19 rfl rfl)
theorem dX0_goIt_20 : decode cX0_goIt 20 = .ok (.aload_n 0, 1) := dk_42 (dk_at dksX0_goIt_0 20 rfl rfl)
theorem dX0_goIt_21 : decode cX0_goIt 21 = .ok (.getfield 69, 3) := dk_180 0 69 (dk_at dksX0_goIt_0 21 rfl rfl)
theorem dX0_goIt_24 : decode cX0_goIt 24 = .ok (.getfield 192, 3) := dk_180 0 192 (dk_at dksX0_goIt_1 0 rfl rfl)
theorem dX0_goIt_27 : decode cX0_goIt 27 = .ok (.iload_n 1, 1) := dk_27 (dk_at dksX0_goIt_1 3 rfl rfl)
theorem dX0_goIt_28 : decode cX0_goIt 28 = .ok (.iload_n 2, 1) := dk_28 (dk_at dksX0_goIt_1 4 rfl rfl)
theorem dX0_goIt_29 : decode cX0_goIt 29 = .ok (.iastore, 1) := dk_79 (dk_at dksX0_goIt_1 5 rfl rfl)
theorem dX0_goIt_30 : decode cX0_goIt 30 = .ok (.iload_n 3, 1) := dk_29 (dk_at dksX0_goIt_1 6 rfl rfl)
theorem dX0_goIt_31 : decode cX0_goIt 31 = .ok (.ireturn, 1) := dk_172 (dk_at dksX0_goIt_1 7 rfl rfl)
abbrev cX0_getIt : ByteArray := prog_1_method_40_code
def yX0_getIt : MethodName := ⟨RX0, "getIt", "(II)I"⟩
def dkwX0_getIt_1 : List UInt8 := [27, 28, 156, 0, 8, 16, 247, 167, 0, 4, 28, 182, 0, 176, 29, 172]
abbrev dktX0_getIt_1 : List UInt8 := dkwX0_getIt_1 ++ []
def dkwX0_getIt_0 : List UInt8 := [42, 27, 182, 1, 7, 42, 28, 182, 1, 34, 42, 180, 0, 69, 180, 0, 130, 27, 46, 62, 42, 180, 0, 69]
abbrev dktX0_getIt_0 : List UInt8 := dkwX0_getIt_0 ++ dktX0_getIt_1
theorem dksX0_getIt_0 : cX0_getIt.data.toList.drop 0 = dktX0_getIt_0 := by decide +kernel
theorem dksX0_getIt_1 : cX0_getIt.data.toList.drop 24 = dktX0_getIt_1 := dk_seg dksX0_getIt_0 24 rfl rfl
theorem dX0_getIt_0 : decode cX0_getIt 0 = .ok (.aload_n 0, 1) := dk_42 (dk_at dksX0_getIt_0 0 rfl rfl)
theorem dX0_getIt_1 : decode cX0_getIt 1 = .ok (.iload_n 1, 1) := dk_27 (dk_at dksX0_getIt_0 1 rfl rfl)
theorem dX0_getIt_2 : decode cX0_getIt 2 = .ok (.invokevirtual 263, 3) := dk_182 1 7 (dk_at dksX0_getIt_0 2 rfl rfl)
theorem dX0_getIt_5 : decode cX0_getIt 5 = .ok (.aload_n 0, 1) := dk_42 (dk_at dksX0_getIt_0 5 rfl rfl)
theorem dX0_getIt_6 : decode cX0_getIt 6 = .ok (.iload_n 2, 1) := dk_28 (dk_at dksX0_getIt_0 6 rfl rfl)
theorem dX0_getIt_7 : decode cX0_getIt 7 = .ok (.invokevirtual 290, 3) := dk_182 1 34 (dk_at dksX0_getIt_0 7 rfl rfl)
theorem dX0_getIt_10 : decode cX0_getIt 10 = .ok (.aload_n 0, 1) := dk_42 (dk_at dksX0_getIt_0 10 rfl rfl)
theorem dX0_getIt_11 : decode cX0_getIt 11 = .ok (.getfield 69, 3) := dk_180 0 69 (dk_at dksX0_getIt_0 11 rfl rfl)
theorem dX0_getIt_14 : decode cX0_getIt 14 = .ok (.getfield 130, 3) := dk_180 0 130 (dk_at dksX0_getIt_0 14 rfl rfl)
theorem dX0_getIt_17 : decode cX0_getIt 17 = .ok (.iload_n 1, 1) := dk_27 (dk_at dksX0_getIt_0 17 rfl rfl)
theorem dX0_getIt_18 : decode cX0_getIt 18 = .ok (.iaload, 1) := dk_46 (dk_at dksX0_getIt_0 18 rfl rfl)
theorem dX0_getIt_19 : decode cX0_getIt 19 = .ok (.istore_n 3, 1) := dk_62 (dk_at dksX0_getIt_0 19 rfl rfl)
theorem dX0_getIt_20 : decode cX0_getIt 20 = .ok (.aload_n 0, 1) := dk_42 (dk_at dksX0_getIt_0 20 rfl rfl)
theorem dX0_getIt_21 : decode cX0_getIt 21 = .ok (.getfield 69, 3) := dk_180 0 69 (dk_at dksX0_getIt_0 21 rfl rfl)
theorem dX0_getIt_24 : decode cX0_getIt 24 = .ok (.iload_n 1, 1) := dk_27 (dk_at dksX0_getIt_1 0 rfl rfl)
theorem dX0_getIt_25 : decode cX0_getIt 25 = .ok (.iload_n 2, 1) := dk_28 (dk_at dksX0_getIt_1 1 rfl rfl)
theorem dX0_getIt_26 : decode cX0_getIt 26 = .ok (.ifCond .ge 8, 3) := dk_156 0 8 (dk_at dksX0_getIt_1 2 rfl rfl)
theorem dX0_getIt_29 : decode cX0_getIt 29 = .ok (.bipush (-9), 2) := dk_16 247 (dk_at dksX0_getIt_1 5 rfl rfl)
theorem dX0_getIt_31 : decode cX0_getIt 31 = .ok (.goto 4, 3) := dk_167 0 4 (dk_at dksX0_getIt_1 7 rfl rfl)
theorem dX0_getIt_34 : decode cX0_getIt 34 = .ok (.iload_n 2, 1) := dk_28 (dk_at dksX0_getIt_1 10 rfl rfl)
theorem dX0_getIt_35 : decode cX0_getIt 35 = .ok (.invokevirtual 176, 3) := dk_182 0 176 (dk_at dksX0_getIt_1 11 rfl rfl)
theorem dX0_getIt_38 : decode cX0_getIt 38 = .ok (.iload_n 3, 1) := dk_29 (dk_at dksX0_getIt_1 14 rfl rfl)
theorem dX0_getIt_39 : decode cX0_getIt 39 = .ok (.ireturn, 1) := dk_172 (dk_at dksX0_getIt_1 15 rfl rfl)
abbrev cX0_mustBeSongOrNone : ByteArray := prog_1_method_31_code
def yX0_mustBeSongOrNone : MethodName := ⟨RX0, "mustBeSongOrNone", "(I)V"⟩
def dkwX0_mustBeSongOrNone_0 : List UInt8 := [27, 133, 20, 0, 234, 42, 180, 0, 69, 180, 0, 151, 4, 100, 133, 184, 0, 13, 2, 184, 0, 9, 177]
abbrev dktX0_mustBeSongOrNone_0 : List UInt8 := dkwX0_mustBeSongOrNone_0 ++ []
theorem dksX0_mustBeSongOrNone_0 : cX0_mustBeSongOrNone.data.toList.drop 0 = dktX0_mustBeSongOrNone_0 := by decide +kernel
theorem dX0_mustBeSongOrNone_0 : decode cX0_mustBeSongOrNone 0 = .ok (.iload_n 1, 1) := dk_27 (dk_at dksX0_mustBeSongOrNone_0 0 rfl rfl)
theorem dX0_mustBeSongOrNone_1 : decode cX0_mustBeSongOrNone 1 = .ok (.i2l, 1) := dk_133 (dk_at dksX0_mustBeSongOrNone_0 1 rfl rfl)
theorem dX0_mustBeSongOrNone_2 : decode cX0_mustBeSongOrNone 2 = .ok (.ldc2_w 234, 3) := dk_20 0 234 (dk_at dksX0_mustBeSongOrNone_0 2 rfl rfl)
theorem dX0_mustBeSongOrNone_5 : decode cX0_mustBeSongOrNone 5 = .ok (.aload_n 0, 1) := dk_42 (dk_at dksX0_mustBeSongOrNone_0 5 rfl rfl)
theorem dX0_mustBeSongOrNone_6 : decode cX0_mustBeSongOrNone 6 = .ok (.getfield 69, 3) := dk_180 0 69 (dk_at dksX0_mustBeSongOrNone_0 6 rfl rfl)
theorem dX0_mustBeSongOrNone_9 : decode cX0_mustBeSongOrNone 9 = .ok (.getfield 151, 3) := dk_180 0 151 (dk_at dksX0_mustBeSongOrNone_0 9 rfl rfl)
theorem dX0_mustBeSongOrNone_12 : decode cX0_mustBeSongOrNone 12 = .ok (.iconst 1, 1) := dk_4 (dk_at dksX0_mustBeSongOrNone_0 12 rfl rfl)
theorem dX0_mustBeSongOrNone_13 : decode cX0_mustBeSongOrNone 13 = .ok (.isub, 1) := dk_100 (dk_at dksX0_mustBeSongOrNone_0 13 rfl rfl)
theorem dX0_mustBeSongOrNone_14 : decode cX0_mustBeSongOrNone 14 = .ok (.i2l, 1) := dk_133 (dk_at dksX0_mustBeSongOrNone_0 14 rfl rfl)
theorem dX0_mustBeSongOrNone_15 : decode cX0_mustBeSongOrNone 15 = .ok (.invokestatic 13, 3) := dk_184 0 13 (dk_at dksX0_mustBeSongOrNone_0 15 rfl rfl)
theorem dX0_mustBeSongOrNone_18 : decode cX0_mustBeSongOrNone 18 = .ok (.iconst (-1), 1) := dk_2 (dk_at dksX0_mustBeSongOrNone_0 18 rfl rfl)
theorem dX0_mustBeSongOrNone_19 : decode cX0_mustBeSongOrNone 19 = .ok (.invokestatic 9, 3) := dk_184 0 9 (dk_at dksX0_mustBeSongOrNone_0 19 rfl rfl)
theorem dX0_mustBeSongOrNone_22 : decode cX0_mustBeSongOrNone 22 = .ok (.return_, 1) := dk_177 (dk_at dksX0_mustBeSongOrNone_0 22 rfl rfl)
abbrev cX0_ofOfficeToo : ByteArray := prog_1_method_44_code
def yX0_ofOfficeToo : MethodName := ⟨RX0, "ofOfficeToo", "(III)I"⟩
def dkwX0_ofOfficeToo_3 : List UInt8 := [162, 0, 7, 4, 167, 0, 4, 3, 16, 250, 184, 0, 9, 42, 180, 0, 69, 182, 0, 133, 172]
abbrev dktX0_ofOfficeToo_3 : List UInt8 := dkwX0_ofOfficeToo_3 ++ []
def dkwX0_ofOfficeToo_2 : List UInt8 := [42, 28, 29, 182, 1, 68, 172, 42, 28, 182, 1, 71, 172, 42, 180, 0, 69, 180, 1, 74, 17, 3, 231]
abbrev dktX0_ofOfficeToo_2 : List UInt8 := dkwX0_ofOfficeToo_2 ++ dktX0_ofOfficeToo_3
def dkwX0_ofOfficeToo_1 : List UInt8 := [171, 0, 0, 0, 0, 0, 40, 0, 0, 0, 2, 0, 0, 0, 8, 0, 0, 0, 27, 0, 0, 0, 9, 0, 0, 0, 34]
abbrev dktX0_ofOfficeToo_1 : List UInt8 := dkwX0_ofOfficeToo_1 ++ dktX0_ofOfficeToo_2
def dkwX0_ofOfficeToo_0 : List UInt8 := [27]
abbrev dktX0_ofOfficeToo_0 : List UInt8 := dkwX0_ofOfficeToo_0 ++ dktX0_ofOfficeToo_1
theorem dksX0_ofOfficeToo_0 : cX0_ofOfficeToo.data.toList.drop 0 = dktX0_ofOfficeToo_0 := by decide +kernel
theorem dksX0_ofOfficeToo_1 : cX0_ofOfficeToo.data.toList.drop 1 = dktX0_ofOfficeToo_1 := dk_seg dksX0_ofOfficeToo_0 1 rfl rfl
theorem dksX0_ofOfficeToo_2 : cX0_ofOfficeToo.data.toList.drop 28 = dktX0_ofOfficeToo_2 := dk_seg dksX0_ofOfficeToo_1 27 rfl rfl
theorem dksX0_ofOfficeToo_3 : cX0_ofOfficeToo.data.toList.drop 51 = dktX0_ofOfficeToo_3 := dk_seg dksX0_ofOfficeToo_2 23 rfl rfl
theorem dX0_ofOfficeToo_0 : decode cX0_ofOfficeToo 0 = .ok (.iload_n 1, 1) := dk_27 (dk_at dksX0_ofOfficeToo_0 0 rfl rfl)
theorem dX0_ofOfficeToo_1 : decode cX0_ofOfficeToo 1 = .ok (.lookupswitch 40 #[(8, 27), (9, 34)], 27) := by decide +kernel
theorem dX0_ofOfficeToo_28 : decode cX0_ofOfficeToo 28 = .ok (.aload_n 0, 1) := dk_42 (dk_at dksX0_ofOfficeToo_2 0 rfl rfl)
theorem dX0_ofOfficeToo_29 : decode cX0_ofOfficeToo 29 = .ok (.iload_n 2, 1) := dk_28 (dk_at dksX0_ofOfficeToo_2 1 rfl rfl)
theorem dX0_ofOfficeToo_30 : decode cX0_ofOfficeToo 30 = .ok (.iload_n 3, 1) := dk_29 (dk_at dksX0_ofOfficeToo_2 2 rfl rfl)
theorem dX0_ofOfficeToo_31 : decode cX0_ofOfficeToo 31 = .ok (.invokevirtual 324, 3) := dk_182 1 68 (dk_at dksX0_ofOfficeToo_2 3 rfl rfl)
theorem dX0_ofOfficeToo_34 : decode cX0_ofOfficeToo 34 = .ok (.ireturn, 1) := dk_172 (dk_at dksX0_ofOfficeToo_2 6 rfl rfl)
theorem dX0_ofOfficeToo_35 : decode cX0_ofOfficeToo 35 = .ok (.aload_n 0, 1) := dk_42 (dk_at dksX0_ofOfficeToo_2 7 rfl rfl)
theorem dX0_ofOfficeToo_36 : decode cX0_ofOfficeToo 36 = .ok (.iload_n 2, 1) := dk_28 (dk_at dksX0_ofOfficeToo_2 8 rfl rfl)
theorem dX0_ofOfficeToo_37 : decode cX0_ofOfficeToo 37 = .ok (.invokevirtual 327, 3) := dk_182 1 71 (dk_at dksX0_ofOfficeToo_2 9 rfl rfl)
theorem dX0_ofOfficeToo_40 : decode cX0_ofOfficeToo 40 = .ok (.ireturn, 1) := dk_172 (dk_at dksX0_ofOfficeToo_2 12 rfl rfl)
theorem dX0_ofOfficeToo_41 : decode cX0_ofOfficeToo 41 = .ok (.aload_n 0, 1) := dk_42 (dk_at dksX0_ofOfficeToo_2 13 rfl rfl)
theorem dX0_ofOfficeToo_42 : decode cX0_ofOfficeToo 42 = .ok (.getfield 69, 3) := dk_180 0 69 (dk_at dksX0_ofOfficeToo_2 14 rfl rfl)
theorem dX0_ofOfficeToo_45 : decode cX0_ofOfficeToo 45 = .ok (.getfield 330, 3) := dk_180 1 74 (dk_at dksX0_ofOfficeToo_2 17 rfl rfl)
theorem dX0_ofOfficeToo_48 : decode cX0_ofOfficeToo 48 = .ok (.sipush 999, 3) := dk_17 3 231 (dk_at dksX0_ofOfficeToo_2 20 rfl rfl)
theorem dX0_ofOfficeToo_51 : decode cX0_ofOfficeToo 51 = .ok (.if_icmp .ge 7, 3) := dk_162 0 7 (dk_at dksX0_ofOfficeToo_3 0 rfl rfl)
theorem dX0_ofOfficeToo_54 : decode cX0_ofOfficeToo 54 = .ok (.iconst 1, 1) := dk_4 (dk_at dksX0_ofOfficeToo_3 3 rfl rfl)
theorem dX0_ofOfficeToo_55 : decode cX0_ofOfficeToo 55 = .ok (.goto 4, 3) := dk_167 0 4 (dk_at dksX0_ofOfficeToo_3 4 rfl rfl)
theorem dX0_ofOfficeToo_58 : decode cX0_ofOfficeToo 58 = .ok (.iconst 0, 1) := dk_3 (dk_at dksX0_ofOfficeToo_3 7 rfl rfl)
theorem dX0_ofOfficeToo_59 : decode cX0_ofOfficeToo 59 = .ok (.bipush (-6), 2) := dk_16 250 (dk_at dksX0_ofOfficeToo_3 8 rfl rfl)
theorem dX0_ofOfficeToo_61 : decode cX0_ofOfficeToo 61 = .ok (.invokestatic 9, 3) := dk_184 0 9 (dk_at dksX0_ofOfficeToo_3 10 rfl rfl)
theorem dX0_ofOfficeToo_64 : decode cX0_ofOfficeToo 64 = .ok (.aload_n 0, 1) := dk_42 (dk_at dksX0_ofOfficeToo_3 13 rfl rfl)
theorem dX0_ofOfficeToo_65 : decode cX0_ofOfficeToo 65 = .ok (.getfield 69, 3) := dk_180 0 69 (dk_at dksX0_ofOfficeToo_3 14 rfl rfl)
theorem dX0_ofOfficeToo_68 : decode cX0_ofOfficeToo 68 = .ok (.invokevirtual 133, 3) := dk_182 0 133 (dk_at dksX0_ofOfficeToo_3 17 rfl rfl)
theorem dX0_ofOfficeToo_71 : decode cX0_ofOfficeToo 71 = .ok (.ireturn, 1) := dk_172 (dk_at dksX0_ofOfficeToo_3 20 rfl rfl)
abbrev cX0_remedyIt : ByteArray := prog_1_method_41_code
def yX0_remedyIt : MethodName := ⟨RX0, "remedyIt", "(II)I"⟩
def dkwX0_remedyIt_2 : List UInt8 := [42, 180, 0, 69, 27, 28, 182, 0, 163, 42, 180, 0, 69, 180, 1, 18, 27, 46, 172]
abbrev dktX0_remedyIt_2 : List UInt8 := dkwX0_remedyIt_2 ++ []
def dkwX0_remedyIt_1 : List UInt8 := [42, 180, 0, 69, 180, 0, 130, 27, 46, 16, 247, 159, 0, 7, 4, 167, 0, 4, 3, 16, 253, 184, 0, 9]
abbrev dktX0_remedyIt_1 : List UInt8 := dkwX0_remedyIt_1 ++ dktX0_remedyIt_2
def dkwX0_remedyIt_0 : List UInt8 := [42, 27, 182, 1, 7, 28, 133, 9, 20, 1, 37, 184, 0, 13, 16, 254, 184, 0, 9, 28, 5, 159, 0, 17]
abbrev dktX0_remedyIt_0 : List UInt8 := dkwX0_remedyIt_0 ++ dktX0_remedyIt_1
theorem dksX0_remedyIt_0 : cX0_remedyIt.data.toList.drop 0 = dktX0_remedyIt_0 := by decide +kernel
theorem dksX0_remedyIt_1 : cX0_remedyIt.data.toList.drop 24 = dktX0_remedyIt_1 := dk_seg dksX0_remedyIt_0 24 rfl rfl
theorem dksX0_remedyIt_2 : cX0_remedyIt.data.toList.drop 48 = dktX0_remedyIt_2 := dk_seg dksX0_remedyIt_1 24 rfl rfl
theorem dX0_remedyIt_0 : decode cX0_remedyIt 0 = .ok (.aload_n 0, 1) := dk_42 (dk_at dksX0_remedyIt_0 0 rfl rfl)
theorem dX0_remedyIt_1 : decode cX0_remedyIt 1 = .ok (.iload_n 1, 1) := dk_27 (dk_at dksX0_remedyIt_0 1 rfl rfl)
theorem dX0_remedyIt_2 : decode cX0_remedyIt 2 = .ok (.invokevirtual 263, 3) := dk_182 1 7 (dk_at dksX0_remedyIt_0 2 rfl rfl)
theorem dX0_remedyIt_5 : decode cX0_remedyIt 5 = .ok (.iload_n 2, 1) := dk_28 (dk_at dksX0_remedyIt_0 5 rfl rfl)
theorem dX0_remedyIt_6 : decode cX0_remedyIt 6 = .ok (.i2l, 1) := dk_133 (dk_at dksX0_remedyIt_0 6 rfl rfl)
theorem dX0_remedyIt_7 : decode cX0_remedyIt 7 = .ok (.lconst 0, 1) := dk_9 (dk_at dksX0_remedyIt_0 7 rfl rfl)
theorem dX0_remedyIt_8 : decode cX0_remedyIt 8 = .ok (.ldc2_w 293, 3) := dk_20 1 37 (dk_at dksX0_remedyIt_0 8 rfl rfl)
theorem dX0_remedyIt_11 : decode cX0_remedyIt 11 = .ok (.invokestatic 13, 3) := dk_184 0 13 (dk_at dksX0_remedyIt_0 11 rfl rfl)
theorem dX0_remedyIt_14 : decode cX0_remedyIt 14 = .ok (.bipush (-2), 2) := dk_16 254 (dk_at dksX0_remedyIt_0 14 rfl rfl)
theorem dX0_remedyIt_16 : decode cX0_remedyIt 16 = .ok (.invokestatic 9, 3) := dk_184 0 9 (dk_at dksX0_remedyIt_0 16 rfl rfl)
theorem dX0_remedyIt_19 : decode cX0_remedyIt 19 = .ok (.iload_n 2, 1) := dk_28 (dk_at dksX0_remedyIt_0 19 rfl rfl)
theorem dX0_remedyIt_20 : decode cX0_remedyIt 20 = .ok (.iconst 2, 1) := dk_5 (dk_at dksX0_remedyIt_0 20 rfl rfl)
theorem dX0_remedyIt_21 : decode cX0_remedyIt 21 = .ok (.if_icmp .eq 17, 3) := dk_159 0 17 (dk_at dksX0_remedyIt_0 21 rfl rfl)
theorem dX0_remedyIt_24 : decode cX0_remedyIt 24 = .ok (.aload_n 0, 1) := dk_42 (dk_at dksX0_remedyIt_1 0 rfl rfl)
theorem dX0_remedyIt_25 : decode cX0_remedyIt 25 = .ok (.getfield 69, 3) := dk_180 0 69 (dk_at dksX0_remedyIt_1 1 rfl rfl)
theorem dX0_remedyIt_28 : decode cX0_remedyIt 28 = .ok (.getfield 130, 3) := dk_180 0 130 (dk_at dksX0_remedyIt_1 4 rfl rfl)
theorem dX0_remedyIt_31 : decode cX0_remedyIt 31 = .ok (.iload_n 1, 1) := dk_27 (dk_at dksX0_remedyIt_1 7 rfl rfl)
theorem dX0_remedyIt_32 : decode cX0_remedyIt 32 = .ok (.iaload, 1) := dk_46 (dk_at dksX0_remedyIt_1 8 rfl rfl)
theorem dX0_remedyIt_33 : decode cX0_remedyIt 33 = .ok (.bipush (-9), 2) := dk_16 247 (dk_at dksX0_remedyIt_1 9 rfl rfl)
theorem dX0_remedyIt_35 : decode cX0_remedyIt 35 = .ok (.if_icmp .eq 7, 3) := dk_159 0 7 (dk_at dksX0_remedyIt_1 11 rfl rfl)
theorem dX0_remedyIt_38 : decode cX0_remedyIt 38 = .ok (.iconst 1, 1) := dk_4 (dk_at dksX0_remedyIt_1 14 rfl rfl)
theorem dX0_remedyIt_39 : decode cX0_remedyIt 39 = .ok (.goto 4, 3) := dk_167 0 4 (dk_at dksX0_remedyIt_1 15 rfl rfl)
theorem dX0_remedyIt_42 : decode cX0_remedyIt 42 = .ok (.iconst 0, 1) := dk_3 (dk_at dksX0_remedyIt_1 18 rfl rfl)
theorem dX0_remedyIt_43 : decode cX0_remedyIt 43 = .ok (.bipush (-3), 2) := dk_16 253 (dk_at dksX0_remedyIt_1 19 rfl rfl)
theorem dX0_remedyIt_45 : decode cX0_remedyIt 45 = .ok (.invokestatic 9, 3) := dk_184 0 9 (dk_at dksX0_remedyIt_1 21 rfl rfl)
theorem dX0_remedyIt_48 : decode cX0_remedyIt 48 = .ok (.aload_n 0, 1) := dk_42 (dk_at dksX0_remedyIt_2 0 rfl rfl)
theorem dX0_remedyIt_49 : decode cX0_remedyIt 49 = .ok (.getfield 69, 3) := dk_180 0 69 (dk_at dksX0_remedyIt_2 1 rfl rfl)
theorem dX0_remedyIt_52 : decode cX0_remedyIt 52 = .ok (.iload_n 1, 1) := dk_27 (dk_at dksX0_remedyIt_2 4 rfl rfl)
theorem dX0_remedyIt_53 : decode cX0_remedyIt 53 = .ok (.iload_n 2, 1) := dk_28 (dk_at dksX0_remedyIt_2 5 rfl rfl)
theorem dX0_remedyIt_54 : decode cX0_remedyIt 54 = .ok (.invokevirtual 163, 3) := dk_182 0 163 (dk_at dksX0_remedyIt_2 6 rfl rfl)
theorem dX0_remedyIt_57 : decode cX0_remedyIt 57 = .ok (.aload_n 0, 1) := dk_42 (dk_at dksX0_remedyIt_2 9 rfl rfl)
theorem dX0_remedyIt_58 : decode cX0_remedyIt 58 = .ok (.getfield 69, 3) := dk_180 0 69 (dk_at dksX0_remedyIt_2 10 rfl rfl)
theorem dX0_remedyIt_61 : decode cX0_remedyIt 61 = .ok (.getfield 274, 3) := dk_180 1 18 (dk_at dksX0_remedyIt_2 13 rfl rfl)
theorem dX0_remedyIt_64 : decode cX0_remedyIt 64 = .ok (.iload_n 1, 1) := dk_27 (dk_at dksX0_remedyIt_2 16 rfl rfl)
theorem dX0_remedyIt_65 : decode cX0_remedyIt 65 = .ok (.iaload, 1) := dk_46 (dk_at dksX0_remedyIt_2 17 rfl rfl)
theorem dX0_remedyIt_66 : decode cX0_remedyIt 66 = .ok (.ireturn, 1) := dk_172 (dk_at dksX0_remedyIt_2 18 rfl rfl)
abbrev cX0_loudTold : ByteArray := prog_1_method_42_code
def yX0_loudTold : MethodName := ⟨RX0, "loudTold", "(I)I"⟩
def dkwX0_loudTold_1 : List UInt8 := [181, 1, 41, 28, 172]
abbrev dktX0_loudTold_1 : List UInt8 := dkwX0_loudTold_1 ++ []
def dkwX0_loudTold_0 : List UInt8 := [27, 133, 10, 20, 1, 39, 184, 0, 238, 42, 180, 0, 69, 180, 1, 41, 61, 42, 180, 0, 69, 27]
abbrev dktX0_loudTold_0 : List UInt8 := dkwX0_loudTold_0 ++ dktX0_loudTold_1
theorem dksX0_loudTold_0 : cX0_loudTold.data.toList.drop 0 = dktX0_loudTold_0 := by decide +kernel
theorem dksX0_loudTold_1 : cX0_loudTold.data.toList.drop 22 = dktX0_loudTold_1 := dk_seg dksX0_loudTold_0 22 rfl rfl
theorem dX0_loudTold_0 : decode cX0_loudTold 0 = .ok (.iload_n 1, 1) := dk_27 (dk_at dksX0_loudTold_0 0 rfl rfl)
theorem dX0_loudTold_1 : decode cX0_loudTold 1 = .ok (.i2l, 1) := dk_133 (dk_at dksX0_loudTold_0 1 rfl rfl)
theorem dX0_loudTold_2 : decode cX0_loudTold 2 = .ok (.lconst 1, 1) := dk_10 (dk_at dksX0_loudTold_0 2 rfl rfl)
theorem dX0_loudTold_3 : decode cX0_loudTold 3 = .ok (.ldc2_w 295, 3) := dk_20 1 39 (dk_at dksX0_loudTold_0 3 rfl rfl)
theorem dX0_loudTold_6 : decode cX0_loudTold 6 = .ok (.invokestatic 238, 3) := dk_184 0 238 (dk_at dksX0_loudTold_0 6 rfl rfl)
theorem dX0_loudTold_9 : decode cX0_loudTold 9 = .ok (.aload_n 0, 1) := dk_42 (dk_at dksX0_loudTold_0 9 rfl rfl)
theorem dX0_loudTold_10 : decode cX0_loudTold 10 = .ok (.getfield 69, 3) := dk_180 0 69 (dk_at dksX0_loudTold_0 10 rfl rfl)
theorem dX0_loudTold_13 : decode cX0_loudTold 13 = .ok (.getfield 297, 3) := dk_180 1 41 (dk_at dksX0_loudTold_0 13 rfl rfl)
theorem dX0_loudTold_16 : decode cX0_loudTold 16 = .ok (.istore_n 2, 1) := dk_61 (dk_at dksX0_loudTold_0 16 rfl rfl)
theorem dX0_loudTold_17 : decode cX0_loudTold 17 = .ok (.aload_n 0, 1) := dk_42 (dk_at dksX0_loudTold_0 17 rfl rfl)
theorem dX0_loudTold_18 : decode cX0_loudTold 18 = .ok (.getfield 69, 3) := dk_180 0 69 (dk_at dksX0_loudTold_0 18 rfl rfl)
theorem dX0_loudTold_21 : decode cX0_loudTold 21 = .ok (.iload_n 1, 1) := dk_27 (dk_at dksX0_loudTold_0 21 rfl rfl)
theorem dX0_loudTold_22 : decode cX0_loudTold 22 = .ok (.putfield 297, 3) := dk_181 1 41 (dk_at dksX0_loudTold_1 0 rfl rfl)
theorem dX0_loudTold_25 : decode cX0_loudTold 25 = .ok (.iload_n 2, 1) := dk_28 (dk_at dksX0_loudTold_1 3 rfl rfl)
theorem dX0_loudTold_26 : decode cX0_loudTold 26 = .ok (.ireturn, 1) := dk_172 (dk_at dksX0_loudTold_1 4 rfl rfl)
abbrev cX0_ofHours : ByteArray := prog_1_method_52_code
def yX0_ofHours : MethodName := ⟨RX0, "ofHours", "(IIII)I"⟩
def dkwX0_ofHours_5 : List UInt8 := [42, 28, 182, 1, 126, 172]
abbrev dktX0_ofHours_5 : List UInt8 := dkwX0_ofHours_5 ++ []
def dkwX0_ofHours_4 : List UInt8 := [28, 29, 27, 16, 18, 160, 0, 7, 4, 167, 0, 4, 3, 182, 1, 120, 172, 42, 28, 29, 182, 1, 123, 172]
abbrev dktX0_ofHours_4 : List UInt8 := dkwX0_ofHours_4 ++ dktX0_ofHours_5
def dkwX0_ofHours_3 : List UInt8 := [182, 1, 111, 172, 42, 28, 29, 21, 4, 182, 1, 114, 172, 28, 184, 1, 77, 42, 28, 182, 1, 117, 172, 42]
abbrev dktX0_ofHours_3 : List UInt8 := dkwX0_ofHours_3 ++ dktX0_ofHours_4
def dkwX0_ofHours_2 : List UInt8 := [42, 28, 29, 21, 4, 182, 1, 102, 172, 42, 28, 29, 182, 1, 105, 172, 42, 28, 29, 182, 1, 108, 172, 42]
abbrev dktX0_ofHours_2 : List UInt8 := dkwX0_ofHours_2 ++ dktX0_ofHours_3
def dkwX0_ofHours_1 : List UInt8 := [170, 0, 0, 0, 0, 0, 123, 0, 0, 0, 11, 0, 0, 0, 19, 0, 0, 0, 51, 0, 0, 0, 60, 0, 0, 0, 67, 0, 0, 0, 74, 0, 0, 0, 79, 0, 0, 0, 88, 0, 0, 0, 98, 0, 0, 0, 98, 0, 0, 0, 116]
abbrev dktX0_ofHours_1 : List UInt8 := dkwX0_ofHours_1 ++ dktX0_ofHours_2
def dkwX0_ofHours_0 : List UInt8 := [27]
abbrev dktX0_ofHours_0 : List UInt8 := dkwX0_ofHours_0 ++ dktX0_ofHours_1
theorem dksX0_ofHours_0 : cX0_ofHours.data.toList.drop 0 = dktX0_ofHours_0 := by decide +kernel
theorem dksX0_ofHours_1 : cX0_ofHours.data.toList.drop 1 = dktX0_ofHours_1 := dk_seg dksX0_ofHours_0 1 rfl rfl
theorem dksX0_ofHours_2 : cX0_ofHours.data.toList.drop 52 = dktX0_ofHours_2 := dk_seg dksX0_ofHours_1 51 rfl rfl
theorem dksX0_ofHours_3 : cX0_ofHours.data.toList.drop 76 = dktX0_ofHours_3 := dk_seg dksX0_ofHours_2 24 rfl rfl
theorem dksX0_ofHours_4 : cX0_ofHours.data.toList.drop 100 = dktX0_ofHours_4 := dk_seg dksX0_ofHours_3 24 rfl rfl
theorem dksX0_ofHours_5 : cX0_ofHours.data.toList.drop 124 = dktX0_ofHours_5 := dk_seg dksX0_ofHours_4 24 rfl rfl
theorem dX0_ofHours_0 : decode cX0_ofHours 0 = .ok (.iload_n 1, 1) := dk_27 (dk_at dksX0_ofHours_0 0 rfl rfl)
theorem dX0_ofHours_1 : decode cX0_ofHours 1 = .ok (.tableswitch 123 11 19 #[51, 60, 67, 74, 79, 88, 98, 98, 116], 51) := by decide +kernel
theorem dX0_ofHours_52 : decode cX0_ofHours 52 = .ok (.aload_n 0, 1) := dk_42 (dk_at dksX0_ofHours_2 0 rfl rfl)
theorem dX0_ofHours_53 : decode cX0_ofHours 53 = .ok (.iload_n 2, 1) := dk_28 (dk_at dksX0_ofHours_2 1 rfl rfl)
theorem dX0_ofHours_54 : decode cX0_ofHours 54 = .ok (.iload_n 3, 1) := dk_29 (dk_at dksX0_ofHours_2 2 rfl rfl)
theorem dX0_ofHours_55 : decode cX0_ofHours 55 = .ok (.iload 4, 2) := dk_21 4 (dk_at dksX0_ofHours_2 3 rfl rfl)
theorem dX0_ofHours_57 : decode cX0_ofHours 57 = .ok (.invokevirtual 358, 3) := dk_182 1 102 (dk_at dksX0_ofHours_2 5 rfl rfl)
theorem dX0_ofHours_60 : decode cX0_ofHours 60 = .ok (.ireturn, 1) := dk_172 (dk_at dksX0_ofHours_2 8 rfl rfl)
theorem dX0_ofHours_61 : decode cX0_ofHours 61 = .ok (.aload_n 0, 1) := dk_42 (dk_at dksX0_ofHours_2 9 rfl rfl)
theorem dX0_ofHours_62 : decode cX0_ofHours 62 = .ok (.iload_n 2, 1) := dk_28 (dk_at dksX0_ofHours_2 10 rfl rfl)
theorem dX0_ofHours_63 : decode cX0_ofHours 63 = .ok (.iload_n 3, 1) := dk_29 (dk_at dksX0_ofHours_2 11 rfl rfl)
theorem dX0_ofHours_64 : decode cX0_ofHours 64 = .ok (.invokevirtual 361, 3) := dk_182 1 105 (dk_at dksX0_ofHours_2 12 rfl rfl)
theorem dX0_ofHours_67 : decode cX0_ofHours 67 = .ok (.ireturn, 1) := dk_172 (dk_at dksX0_ofHours_2 15 rfl rfl)
theorem dX0_ofHours_68 : decode cX0_ofHours 68 = .ok (.aload_n 0, 1) := dk_42 (dk_at dksX0_ofHours_2 16 rfl rfl)
theorem dX0_ofHours_69 : decode cX0_ofHours 69 = .ok (.iload_n 2, 1) := dk_28 (dk_at dksX0_ofHours_2 17 rfl rfl)
theorem dX0_ofHours_70 : decode cX0_ofHours 70 = .ok (.iload_n 3, 1) := dk_29 (dk_at dksX0_ofHours_2 18 rfl rfl)
theorem dX0_ofHours_71 : decode cX0_ofHours 71 = .ok (.invokevirtual 364, 3) := dk_182 1 108 (dk_at dksX0_ofHours_2 19 rfl rfl)
theorem dX0_ofHours_74 : decode cX0_ofHours 74 = .ok (.ireturn, 1) := dk_172 (dk_at dksX0_ofHours_2 22 rfl rfl)
theorem dX0_ofHours_75 : decode cX0_ofHours 75 = .ok (.aload_n 0, 1) := dk_42 (dk_at dksX0_ofHours_2 23 rfl rfl)
theorem dX0_ofHours_76 : decode cX0_ofHours 76 = .ok (.invokevirtual 367, 3) := dk_182 1 111 (dk_at dksX0_ofHours_3 0 rfl rfl)
theorem dX0_ofHours_79 : decode cX0_ofHours 79 = .ok (.ireturn, 1) := dk_172 (dk_at dksX0_ofHours_3 3 rfl rfl)
theorem dX0_ofHours_80 : decode cX0_ofHours 80 = .ok (.aload_n 0, 1) := dk_42 (dk_at dksX0_ofHours_3 4 rfl rfl)
theorem dX0_ofHours_81 : decode cX0_ofHours 81 = .ok (.iload_n 2, 1) := dk_28 (dk_at dksX0_ofHours_3 5 rfl rfl)
theorem dX0_ofHours_82 : decode cX0_ofHours 82 = .ok (.iload_n 3, 1) := dk_29 (dk_at dksX0_ofHours_3 6 rfl rfl)
theorem dX0_ofHours_83 : decode cX0_ofHours 83 = .ok (.iload 4, 2) := dk_21 4 (dk_at dksX0_ofHours_3 7 rfl rfl)
theorem dX0_ofHours_85 : decode cX0_ofHours 85 = .ok (.invokevirtual 370, 3) := dk_182 1 114 (dk_at dksX0_ofHours_3 9 rfl rfl)
theorem dX0_ofHours_88 : decode cX0_ofHours 88 = .ok (.ireturn, 1) := dk_172 (dk_at dksX0_ofHours_3 12 rfl rfl)
theorem dX0_ofHours_89 : decode cX0_ofHours 89 = .ok (.iload_n 2, 1) := dk_28 (dk_at dksX0_ofHours_3 13 rfl rfl)
theorem dX0_ofHours_90 : decode cX0_ofHours 90 = .ok (.invokestatic 333, 3) := dk_184 1 77 (dk_at dksX0_ofHours_3 14 rfl rfl)
theorem dX0_ofHours_93 : decode cX0_ofHours 93 = .ok (.aload_n 0, 1) := dk_42 (dk_at dksX0_ofHours_3 17 rfl rfl)
theorem dX0_ofHours_94 : decode cX0_ofHours 94 = .ok (.iload_n 2, 1) := dk_28 (dk_at dksX0_ofHours_3 18 rfl rfl)
theorem dX0_ofHours_95 : decode cX0_ofHours 95 = .ok (.invokevirtual 373, 3) := dk_182 1 117 (dk_at dksX0_ofHours_3 19 rfl rfl)
theorem dX0_ofHours_98 : decode cX0_ofHours 98 = .ok (.ireturn, 1) := dk_172 (dk_at dksX0_ofHours_3 22 rfl rfl)
theorem dX0_ofHours_99 : decode cX0_ofHours 99 = .ok (.aload_n 0, 1) := dk_42 (dk_at dksX0_ofHours_3 23 rfl rfl)
theorem dX0_ofHours_100 : decode cX0_ofHours 100 = .ok (.iload_n 2, 1) := dk_28 (dk_at dksX0_ofHours_4 0 rfl rfl)
theorem dX0_ofHours_101 : decode cX0_ofHours 101 = .ok (.iload_n 3, 1) := dk_29 (dk_at dksX0_ofHours_4 1 rfl rfl)
theorem dX0_ofHours_102 : decode cX0_ofHours 102 = .ok (.iload_n 1, 1) := dk_27 (dk_at dksX0_ofHours_4 2 rfl rfl)
theorem dX0_ofHours_103 : decode cX0_ofHours 103 = .ok (.bipush 18, 2) := dk_16 18 (dk_at dksX0_ofHours_4 3 rfl rfl)
theorem dX0_ofHours_105 : decode cX0_ofHours 105 = .ok (.if_icmp .ne 7, 3) := dk_160 0 7 (dk_at dksX0_ofHours_4 5 rfl rfl)
theorem dX0_ofHours_108 : decode cX0_ofHours 108 = .ok (.iconst 1, 1) := dk_4 (dk_at dksX0_ofHours_4 8 rfl rfl)
theorem dX0_ofHours_109 : decode cX0_ofHours 109 = .ok (.goto 4, 3) := dk_167 0 4 (dk_at dksX0_ofHours_4 9 rfl rfl)
theorem dX0_ofHours_112 : decode cX0_ofHours 112 = .ok (.iconst 0, 1) := dk_3 (dk_at dksX0_ofHours_4 12 rfl rfl)
theorem dX0_ofHours_113 : decode cX0_ofHours 113 = .ok (.invokevirtual 376, 3) := dk_182 1 120 (dk_at dksX0_ofHours_4 13 rfl rfl)
theorem dX0_ofHours_116 : decode cX0_ofHours 116 = .ok (.ireturn, 1) := dk_172 (dk_at dksX0_ofHours_4 16 rfl rfl)
theorem dX0_ofHours_117 : decode cX0_ofHours 117 = .ok (.aload_n 0, 1) := dk_42 (dk_at dksX0_ofHours_4 17 rfl rfl)
theorem dX0_ofHours_118 : decode cX0_ofHours 118 = .ok (.iload_n 2, 1) := dk_28 (dk_at dksX0_ofHours_4 18 rfl rfl)
theorem dX0_ofHours_119 : decode cX0_ofHours 119 = .ok (.iload_n 3, 1) := dk_29 (dk_at dksX0_ofHours_4 19 rfl rfl)
theorem dX0_ofHours_120 : decode cX0_ofHours 120 = .ok (.invokevirtual 379, 3) := dk_182 1 123 (dk_at dksX0_ofHours_4 20 rfl rfl)
theorem dX0_ofHours_123 : decode cX0_ofHours 123 = .ok (.ireturn, 1) := dk_172 (dk_at dksX0_ofHours_4 23 rfl rfl)
theorem dX0_ofHours_124 : decode cX0_ofHours 124 = .ok (.aload_n 0, 1) := dk_42 (dk_at dksX0_ofHours_5 0 rfl rfl)
theorem dX0_ofHours_125 : decode cX0_ofHours 125 = .ok (.iload_n 2, 1) := dk_28 (dk_at dksX0_ofHours_5 1 rfl rfl)
theorem dX0_ofHours_126 : decode cX0_ofHours 126 = .ok (.invokevirtual 382, 3) := dk_182 1 126 (dk_at dksX0_ofHours_5 2 rfl rfl)
theorem dX0_ofHours_129 : decode cX0_ofHours 129 = .ok (.ireturn, 1) := dk_172 (dk_at dksX0_ofHours_5 5 rfl rfl)
abbrev cX0_holdTold : ByteArray := prog_1_method_45_code
def yX0_holdTold : MethodName := ⟨RX0, "holdTold", "(III)I"⟩
def dkwX0_holdTold_1 : List UInt8 := [154, 0, 13, 25, 4, 180, 0, 130, 27, 46, 167, 0, 10, 25, 4, 180, 1, 18, 27, 46, 172]
abbrev dktX0_holdTold_1 : List UInt8 := dkwX0_holdTold_1 ++ []
def dkwX0_holdTold_0 : List UInt8 := [42, 27, 182, 1, 7, 28, 184, 1, 77, 29, 184, 1, 80, 42, 182, 0, 126, 28, 182, 0, 147, 58, 4, 29]
abbrev dktX0_holdTold_0 : List UInt8 := dkwX0_holdTold_0 ++ dktX0_holdTold_1
theorem dksX0_holdTold_0 : cX0_holdTold.data.toList.drop 0 = dktX0_holdTold_0 := by decide +kernel
theorem dksX0_holdTold_1 : cX0_holdTold.data.toList.drop 24 = dktX0_holdTold_1 := dk_seg dksX0_holdTold_0 24 rfl rfl
theorem dX0_holdTold_0 : decode cX0_holdTold 0 = .ok (.aload_n 0, 1) := dk_42 (dk_at dksX0_holdTold_0 0 rfl rfl)
theorem dX0_holdTold_1 : decode cX0_holdTold 1 = .ok (.iload_n 1, 1) := dk_27 (dk_at dksX0_holdTold_0 1 rfl rfl)
theorem dX0_holdTold_2 : decode cX0_holdTold 2 = .ok (.invokevirtual 263, 3) := dk_182 1 7 (dk_at dksX0_holdTold_0 2 rfl rfl)
theorem dX0_holdTold_5 : decode cX0_holdTold 5 = .ok (.iload_n 2, 1) := dk_28 (dk_at dksX0_holdTold_0 5 rfl rfl)
theorem dX0_holdTold_6 : decode cX0_holdTold 6 = .ok (.invokestatic 333, 3) := dk_184 1 77 (dk_at dksX0_holdTold_0 6 rfl rfl)
theorem dX0_holdTold_9 : decode cX0_holdTold 9 = .ok (.iload_n 3, 1) := dk_29 (dk_at dksX0_holdTold_0 9 rfl rfl)
theorem dX0_holdTold_10 : decode cX0_holdTold 10 = .ok (.invokestatic 336, 3) := dk_184 1 80 (dk_at dksX0_holdTold_0 10 rfl rfl)
theorem dX0_holdTold_13 : decode cX0_holdTold 13 = .ok (.aload_n 0, 1) := dk_42 (dk_at dksX0_holdTold_0 13 rfl rfl)
theorem dX0_holdTold_14 : decode cX0_holdTold 14 = .ok (.invokevirtual 126, 3) := dk_182 0 126 (dk_at dksX0_holdTold_0 14 rfl rfl)
theorem dX0_holdTold_17 : decode cX0_holdTold 17 = .ok (.iload_n 2, 1) := dk_28 (dk_at dksX0_holdTold_0 17 rfl rfl)
theorem dX0_holdTold_18 : decode cX0_holdTold 18 = .ok (.invokevirtual 147, 3) := dk_182 0 147 (dk_at dksX0_holdTold_0 18 rfl rfl)
theorem dX0_holdTold_21 : decode cX0_holdTold 21 = .ok (.astore 4, 2) := dk_58 4 (dk_at dksX0_holdTold_0 21 rfl rfl)
theorem dX0_holdTold_23 : decode cX0_holdTold 23 = .ok (.iload_n 3, 1) := dk_29 (dk_at dksX0_holdTold_0 23 rfl rfl)
theorem dX0_holdTold_24 : decode cX0_holdTold 24 = .ok (.ifCond .ne 13, 3) := dk_154 0 13 (dk_at dksX0_holdTold_1 0 rfl rfl)
theorem dX0_holdTold_27 : decode cX0_holdTold 27 = .ok (.aload 4, 2) := dk_25 4 (dk_at dksX0_holdTold_1 3 rfl rfl)
theorem dX0_holdTold_29 : decode cX0_holdTold 29 = .ok (.getfield 130, 3) := dk_180 0 130 (dk_at dksX0_holdTold_1 5 rfl rfl)
theorem dX0_holdTold_32 : decode cX0_holdTold 32 = .ok (.iload_n 1, 1) := dk_27 (dk_at dksX0_holdTold_1 8 rfl rfl)
theorem dX0_holdTold_33 : decode cX0_holdTold 33 = .ok (.iaload, 1) := dk_46 (dk_at dksX0_holdTold_1 9 rfl rfl)
theorem dX0_holdTold_34 : decode cX0_holdTold 34 = .ok (.goto 10, 3) := dk_167 0 10 (dk_at dksX0_holdTold_1 10 rfl rfl)
theorem dX0_holdTold_37 : decode cX0_holdTold 37 = .ok (.aload 4, 2) := dk_25 4 (dk_at dksX0_holdTold_1 13 rfl rfl)
theorem dX0_holdTold_39 : decode cX0_holdTold 39 = .ok (.getfield 274, 3) := dk_180 1 18 (dk_at dksX0_holdTold_1 15 rfl rfl)
theorem dX0_holdTold_42 : decode cX0_holdTold 42 = .ok (.iload_n 1, 1) := dk_27 (dk_at dksX0_holdTold_1 18 rfl rfl)
theorem dX0_holdTold_43 : decode cX0_holdTold 43 = .ok (.iaload, 1) := dk_46 (dk_at dksX0_holdTold_1 19 rfl rfl)
theorem dX0_holdTold_44 : decode cX0_holdTold 44 = .ok (.ireturn, 1) := dk_172 (dk_at dksX0_holdTold_1 20 rfl rfl)
abbrev cX0_mustBeHours : ByteArray := prog_1_method_32_code
def yX0_mustBeHours : MethodName := ⟨RX0, "mustBeHours", "(I)V"⟩
def dkwX0_mustBeHours_0 : List UInt8 := [26, 133, 9, 20, 0, 236, 184, 0, 238, 177]
abbrev dktX0_mustBeHours_0 : List UInt8 := dkwX0_mustBeHours_0 ++ []
theorem dksX0_mustBeHours_0 : cX0_mustBeHours.data.toList.drop 0 = dktX0_mustBeHours_0 := by decide +kernel
theorem dX0_mustBeHours_0 : decode cX0_mustBeHours 0 = .ok (.iload_n 0, 1) := dk_26 (dk_at dksX0_mustBeHours_0 0 rfl rfl)
theorem dX0_mustBeHours_1 : decode cX0_mustBeHours 1 = .ok (.i2l, 1) := dk_133 (dk_at dksX0_mustBeHours_0 1 rfl rfl)
theorem dX0_mustBeHours_2 : decode cX0_mustBeHours 2 = .ok (.lconst 0, 1) := dk_9 (dk_at dksX0_mustBeHours_0 2 rfl rfl)
theorem dX0_mustBeHours_3 : decode cX0_mustBeHours 3 = .ok (.ldc2_w 236, 3) := dk_20 0 236 (dk_at dksX0_mustBeHours_0 3 rfl rfl)
theorem dX0_mustBeHours_6 : decode cX0_mustBeHours 6 = .ok (.invokestatic 238, 3) := dk_184 0 238 (dk_at dksX0_mustBeHours_0 6 rfl rfl)
theorem dX0_mustBeHours_9 : decode cX0_mustBeHours 9 = .ok (.return_, 1) := dk_177 (dk_at dksX0_mustBeHours_0 9 rfl rfl)
abbrev cX0_mustBeBit : ByteArray := prog_1_method_33_code
def yX0_mustBeBit : MethodName := ⟨RX0, "mustBeBit", "(I)V"⟩
def dkwX0_mustBeBit_0 : List UInt8 := [26, 133, 9, 10, 184, 0, 13, 16, 254, 184, 0, 9, 177]
abbrev dktX0_mustBeBit_0 : List UInt8 := dkwX0_mustBeBit_0 ++ []
theorem dksX0_mustBeBit_0 : cX0_mustBeBit.data.toList.drop 0 = dktX0_mustBeBit_0 := by decide +kernel
theorem dX0_mustBeBit_0 : decode cX0_mustBeBit 0 = .ok (.iload_n 0, 1) := dk_26 (dk_at dksX0_mustBeBit_0 0 rfl rfl)
theorem dX0_mustBeBit_1 : decode cX0_mustBeBit 1 = .ok (.i2l, 1) := dk_133 (dk_at dksX0_mustBeBit_0 1 rfl rfl)
theorem dX0_mustBeBit_2 : decode cX0_mustBeBit 2 = .ok (.lconst 0, 1) := dk_9 (dk_at dksX0_mustBeBit_0 2 rfl rfl)
theorem dX0_mustBeBit_3 : decode cX0_mustBeBit 3 = .ok (.lconst 1, 1) := dk_10 (dk_at dksX0_mustBeBit_0 3 rfl rfl)
theorem dX0_mustBeBit_4 : decode cX0_mustBeBit 4 = .ok (.invokestatic 13, 3) := dk_184 0 13 (dk_at dksX0_mustBeBit_0 4 rfl rfl)
theorem dX0_mustBeBit_7 : decode cX0_mustBeBit 7 = .ok (.bipush (-2), 2) := dk_16 254 (dk_at dksX0_mustBeBit_0 7 rfl rfl)
theorem dX0_mustBeBit_9 : decode cX0_mustBeBit 9 = .ok (.invokestatic 9, 3) := dk_184 0 9 (dk_at dksX0_mustBeBit_0 9 rfl rfl)
theorem dX0_mustBeBit_12 : decode cX0_mustBeBit 12 = .ok (.return_, 1) := dk_177 (dk_at dksX0_mustBeBit_0 12 rfl rfl)
abbrev cX0_openMind : ByteArray := prog_1_method_10_code
def yX0_openMind : MethodName := ⟨RX0, "openMind", "()LSongThatStays$Office;"⟩
def dkwX0_openMind_0 : List UInt8 := [42, 180, 0, 73, 42, 180, 0, 69, 182, 0, 112, 42, 180, 0, 73, 176]
abbrev dktX0_openMind_0 : List UInt8 := dkwX0_openMind_0 ++ []
theorem dksX0_openMind_0 : cX0_openMind.data.toList.drop 0 = dktX0_openMind_0 := by decide +kernel
theorem dX0_openMind_0 : decode cX0_openMind 0 = .ok (.aload_n 0, 1) := dk_42 (dk_at dksX0_openMind_0 0 rfl rfl)
theorem dX0_openMind_1 : decode cX0_openMind 1 = .ok (.getfield 73, 3) := dk_180 0 73 (dk_at dksX0_openMind_0 1 rfl rfl)
theorem dX0_openMind_4 : decode cX0_openMind 4 = .ok (.aload_n 0, 1) := dk_42 (dk_at dksX0_openMind_0 4 rfl rfl)
theorem dX0_openMind_5 : decode cX0_openMind 5 = .ok (.getfield 69, 3) := dk_180 0 69 (dk_at dksX0_openMind_0 5 rfl rfl)
theorem dX0_openMind_8 : decode cX0_openMind 8 = .ok (.invokevirtual 112, 3) := dk_182 0 112 (dk_at dksX0_openMind_0 8 rfl rfl)
theorem dX0_openMind_11 : decode cX0_openMind 11 = .ok (.aload_n 0, 1) := dk_42 (dk_at dksX0_openMind_0 11 rfl rfl)
theorem dX0_openMind_12 : decode cX0_openMind 12 = .ok (.getfield 73, 3) := dk_180 0 73 (dk_at dksX0_openMind_0 12 rfl rfl)
theorem dX0_openMind_15 : decode cX0_openMind 15 = .ok (.areturn, 1) := dk_176 (dk_at dksX0_openMind_0 15 rfl rfl)
abbrev cX0_haveTold : ByteArray := prog_1_method_46_code
def yX0_haveTold : MethodName := ⟨RX0, "haveTold", "(II)I"⟩
def dkwX0_haveTold_0 : List UInt8 := [42, 27, 182, 1, 34, 28, 184, 1, 77, 42, 182, 0, 126, 28, 182, 0, 147, 27, 182, 0, 137, 172]
abbrev dktX0_haveTold_0 : List UInt8 := dkwX0_haveTold_0 ++ []
theorem dksX0_haveTold_0 : cX0_haveTold.data.toList.drop 0 = dktX0_haveTold_0 := by decide +kernel
theorem dX0_haveTold_0 : decode cX0_haveTold 0 = .ok (.aload_n 0, 1) := dk_42 (dk_at dksX0_haveTold_0 0 rfl rfl)
theorem dX0_haveTold_1 : decode cX0_haveTold 1 = .ok (.iload_n 1, 1) := dk_27 (dk_at dksX0_haveTold_0 1 rfl rfl)
theorem dX0_haveTold_2 : decode cX0_haveTold 2 = .ok (.invokevirtual 290, 3) := dk_182 1 34 (dk_at dksX0_haveTold_0 2 rfl rfl)
theorem dX0_haveTold_5 : decode cX0_haveTold 5 = .ok (.iload_n 2, 1) := dk_28 (dk_at dksX0_haveTold_0 5 rfl rfl)
theorem dX0_haveTold_6 : decode cX0_haveTold 6 = .ok (.invokestatic 333, 3) := dk_184 1 77 (dk_at dksX0_haveTold_0 6 rfl rfl)
theorem dX0_haveTold_9 : decode cX0_haveTold 9 = .ok (.aload_n 0, 1) := dk_42 (dk_at dksX0_haveTold_0 9 rfl rfl)
theorem dX0_haveTold_10 : decode cX0_haveTold 10 = .ok (.invokevirtual 126, 3) := dk_182 0 126 (dk_at dksX0_haveTold_0 10 rfl rfl)
theorem dX0_haveTold_13 : decode cX0_haveTold 13 = .ok (.iload_n 2, 1) := dk_28 (dk_at dksX0_haveTold_0 13 rfl rfl)
theorem dX0_haveTold_14 : decode cX0_haveTold 14 = .ok (.invokevirtual 147, 3) := dk_182 0 147 (dk_at dksX0_haveTold_0 14 rfl rfl)
theorem dX0_haveTold_17 : decode cX0_haveTold 17 = .ok (.iload_n 1, 1) := dk_27 (dk_at dksX0_haveTold_0 17 rfl rfl)
theorem dX0_haveTold_18 : decode cX0_haveTold 18 = .ok (.invokevirtual 137, 3) := dk_182 0 137 (dk_at dksX0_haveTold_0 18 rfl rfl)
theorem dX0_haveTold_21 : decode cX0_haveTold 21 = .ok (.ireturn, 1) := dk_172 (dk_at dksX0_haveTold_0 21 rfl rfl)
abbrev cX0_takesTold : ByteArray := prog_1_method_47_code
def yX0_takesTold : MethodName := ⟨RX0, "takesTold", "(II)I"⟩
def dkwX0_takesTold_0 : List UInt8 := [42, 27, 182, 1, 7, 42, 28, 182, 0, 244, 42, 27, 28, 182, 1, 83, 172]
abbrev dktX0_takesTold_0 : List UInt8 := dkwX0_takesTold_0 ++ []
theorem dksX0_takesTold_0 : cX0_takesTold.data.toList.drop 0 = dktX0_takesTold_0 := by decide +kernel
theorem dX0_takesTold_0 : decode cX0_takesTold 0 = .ok (.aload_n 0, 1) := dk_42 (dk_at dksX0_takesTold_0 0 rfl rfl)
theorem dX0_takesTold_1 : decode cX0_takesTold 1 = .ok (.iload_n 1, 1) := dk_27 (dk_at dksX0_takesTold_0 1 rfl rfl)
theorem dX0_takesTold_2 : decode cX0_takesTold 2 = .ok (.invokevirtual 263, 3) := dk_182 1 7 (dk_at dksX0_takesTold_0 2 rfl rfl)
theorem dX0_takesTold_5 : decode cX0_takesTold 5 = .ok (.aload_n 0, 1) := dk_42 (dk_at dksX0_takesTold_0 5 rfl rfl)
theorem dX0_takesTold_6 : decode cX0_takesTold 6 = .ok (.iload_n 2, 1) := dk_28 (dk_at dksX0_takesTold_0 6 rfl rfl)
theorem dX0_takesTold_7 : decode cX0_takesTold 7 = .ok (.invokevirtual 244, 3) := dk_182 0 244 (dk_at dksX0_takesTold_0 7 rfl rfl)
theorem dX0_takesTold_10 : decode cX0_takesTold 10 = .ok (.aload_n 0, 1) := dk_42 (dk_at dksX0_takesTold_0 10 rfl rfl)
theorem dX0_takesTold_11 : decode cX0_takesTold 11 = .ok (.iload_n 1, 1) := dk_27 (dk_at dksX0_takesTold_0 11 rfl rfl)
theorem dX0_takesTold_12 : decode cX0_takesTold 12 = .ok (.iload_n 2, 1) := dk_28 (dk_at dksX0_takesTold_0 12 rfl rfl)
theorem dX0_takesTold_13 : decode cX0_takesTold 13 = .ok (.invokevirtual 339, 3) := dk_182 1 83 (dk_at dksX0_takesTold_0 13 rfl rfl)
theorem dX0_takesTold_16 : decode cX0_takesTold 16 = .ok (.ireturn, 1) := dk_172 (dk_at dksX0_takesTold_0 16 rfl rfl)
abbrev cX0_firstTaken : ByteArray := prog_1_method_11_code
def yX0_firstTaken : MethodName := ⟨RX0, "firstTaken", "(II)I"⟩
def dkwX0_firstTaken_1 : List UInt8 := [160, 0, 6, 21, 4, 172, 45, 182, 0, 133, 87, 132, 4, 1, 167, 255, 228, 16, 247, 172]
abbrev dktX0_firstTaken_1 : List UInt8 := dkwX0_firstTaken_1 ++ []
def dkwX0_firstTaken_0 : List UInt8 := [42, 182, 0, 126, 78, 3, 54, 4, 21, 4, 16, 60, 163, 0, 27, 45, 180, 0, 130, 27, 46, 28]
abbrev dktX0_firstTaken_0 : List UInt8 := dkwX0_firstTaken_0 ++ dktX0_firstTaken_1
theorem dksX0_firstTaken_0 : cX0_firstTaken.data.toList.drop 0 = dktX0_firstTaken_0 := by decide +kernel
theorem dksX0_firstTaken_1 : cX0_firstTaken.data.toList.drop 22 = dktX0_firstTaken_1 := dk_seg dksX0_firstTaken_0 22 rfl rfl
theorem dX0_firstTaken_0 : decode cX0_firstTaken 0 = .ok (.aload_n 0, 1) := dk_42 (dk_at dksX0_firstTaken_0 0 rfl rfl)
theorem dX0_firstTaken_1 : decode cX0_firstTaken 1 = .ok (.invokevirtual 126, 3) := dk_182 0 126 (dk_at dksX0_firstTaken_0 1 rfl rfl)
theorem dX0_firstTaken_4 : decode cX0_firstTaken 4 = .ok (.astore_n 3, 1) := dk_78 (dk_at dksX0_firstTaken_0 4 rfl rfl)
theorem dX0_firstTaken_5 : decode cX0_firstTaken 5 = .ok (.iconst 0, 1) := dk_3 (dk_at dksX0_firstTaken_0 5 rfl rfl)
theorem dX0_firstTaken_6 : decode cX0_firstTaken 6 = .ok (.istore 4, 2) := dk_54 4 (dk_at dksX0_firstTaken_0 6 rfl rfl)
theorem dX0_firstTaken_8 : decode cX0_firstTaken 8 = .ok (.iload 4, 2) := dk_21 4 (dk_at dksX0_firstTaken_0 8 rfl rfl)
theorem dX0_firstTaken_10 : decode cX0_firstTaken 10 = .ok (.bipush 60, 2) := dk_16 60 (dk_at dksX0_firstTaken_0 10 rfl rfl)
theorem dX0_firstTaken_12 : decode cX0_firstTaken 12 = .ok (.if_icmp .gt 27, 3) := dk_163 0 27 (dk_at dksX0_firstTaken_0 12 rfl rfl)
theorem dX0_firstTaken_15 : decode cX0_firstTaken 15 = .ok (.aload_n 3, 1) := dk_45 (dk_at dksX0_firstTaken_0 15 rfl rfl)
theorem dX0_firstTaken_16 : decode cX0_firstTaken 16 = .ok (.getfield 130, 3) := dk_180 0 130 (dk_at dksX0_firstTaken_0 16 rfl rfl)
theorem dX0_firstTaken_19 : decode cX0_firstTaken 19 = .ok (.iload_n 1, 1) := dk_27 (dk_at dksX0_firstTaken_0 19 rfl rfl)
theorem dX0_firstTaken_20 : decode cX0_firstTaken 20 = .ok (.iaload, 1) := dk_46 (dk_at dksX0_firstTaken_0 20 rfl rfl)
theorem dX0_firstTaken_21 : decode cX0_firstTaken 21 = .ok (.iload_n 2, 1) := dk_28 (dk_at dksX0_firstTaken_0 21 rfl rfl)
theorem dX0_firstTaken_22 : decode cX0_firstTaken 22 = .ok (.if_icmp .ne 6, 3) := dk_160 0 6 (dk_at dksX0_firstTaken_1 0 rfl rfl)
theorem dX0_firstTaken_25 : decode cX0_firstTaken 25 = .ok (.iload 4, 2) := dk_21 4 (dk_at dksX0_firstTaken_1 3 rfl rfl)
theorem dX0_firstTaken_27 : decode cX0_firstTaken 27 = .ok (.ireturn, 1) := dk_172 (dk_at dksX0_firstTaken_1 5 rfl rfl)
theorem dX0_firstTaken_28 : decode cX0_firstTaken 28 = .ok (.aload_n 3, 1) := dk_45 (dk_at dksX0_firstTaken_1 6 rfl rfl)
theorem dX0_firstTaken_29 : decode cX0_firstTaken 29 = .ok (.invokevirtual 133, 3) := dk_182 0 133 (dk_at dksX0_firstTaken_1 7 rfl rfl)
theorem dX0_firstTaken_32 : decode cX0_firstTaken 32 = .ok (.pop, 1) := dk_87 (dk_at dksX0_firstTaken_1 10 rfl rfl)
theorem dX0_firstTaken_33 : decode cX0_firstTaken 33 = .ok (.iinc 4 1, 3) := dk_132 4 1 (dk_at dksX0_firstTaken_1 11 rfl rfl)
theorem dX0_firstTaken_36 : decode cX0_firstTaken 36 = .ok (.goto (-28), 3) := dk_167 255 228 (dk_at dksX0_firstTaken_1 14 rfl rfl)
theorem dX0_firstTaken_39 : decode cX0_firstTaken 39 = .ok (.bipush (-9), 2) := dk_16 247 (dk_at dksX0_firstTaken_1 17 rfl rfl)
theorem dX0_firstTaken_41 : decode cX0_firstTaken 41 = .ok (.ireturn, 1) := dk_172 (dk_at dksX0_firstTaken_1 19 rfl rfl)
abbrev cX0_stillBehind : ByteArray := prog_1_method_12_code
def yX0_stillBehind : MethodName := ⟨RX0, "stillBehind", "()I"⟩
def dkwX0_stillBehind_1 : List UInt8 := [182, 0, 133, 87, 132, 2, 1, 167, 255, 232, 16, 247, 172]
abbrev dktX0_stillBehind_1 : List UInt8 := dkwX0_stillBehind_1 ++ []
def dkwX0_stillBehind_0 : List UInt8 := [42, 182, 0, 126, 76, 3, 61, 28, 16, 60, 163, 0, 24, 43, 2, 182, 0, 137, 154, 0, 5, 28, 172, 43]
abbrev dktX0_stillBehind_0 : List UInt8 := dkwX0_stillBehind_0 ++ dktX0_stillBehind_1
theorem dksX0_stillBehind_0 : cX0_stillBehind.data.toList.drop 0 = dktX0_stillBehind_0 := by decide +kernel
theorem dksX0_stillBehind_1 : cX0_stillBehind.data.toList.drop 24 = dktX0_stillBehind_1 := dk_seg dksX0_stillBehind_0 24 rfl rfl
theorem dX0_stillBehind_0 : decode cX0_stillBehind 0 = .ok (.aload_n 0, 1) := dk_42 (dk_at dksX0_stillBehind_0 0 rfl rfl)
theorem dX0_stillBehind_1 : decode cX0_stillBehind 1 = .ok (.invokevirtual 126, 3) := dk_182 0 126 (dk_at dksX0_stillBehind_0 1 rfl rfl)
theorem dX0_stillBehind_4 : decode cX0_stillBehind 4 = .ok (.astore_n 1, 1) := dk_76 (dk_at dksX0_stillBehind_0 4 rfl rfl)
theorem dX0_stillBehind_5 : decode cX0_stillBehind 5 = .ok (.iconst 0, 1) := dk_3 (dk_at dksX0_stillBehind_0 5 rfl rfl)
theorem dX0_stillBehind_6 : decode cX0_stillBehind 6 = .ok (.istore_n 2, 1) := dk_61 (dk_at dksX0_stillBehind_0 6 rfl rfl)
theorem dX0_stillBehind_7 : decode cX0_stillBehind 7 = .ok (.iload_n 2, 1) := dk_28 (dk_at dksX0_stillBehind_0 7 rfl rfl)
theorem dX0_stillBehind_8 : decode cX0_stillBehind 8 = .ok (.bipush 60, 2) := dk_16 60 (dk_at dksX0_stillBehind_0 8 rfl rfl)
theorem dX0_stillBehind_10 : decode cX0_stillBehind 10 = .ok (.if_icmp .gt 24, 3) := dk_163 0 24 (dk_at dksX0_stillBehind_0 10 rfl rfl)
theorem dX0_stillBehind_13 : decode cX0_stillBehind 13 = .ok (.aload_n 1, 1) := dk_43 (dk_at dksX0_stillBehind_0 13 rfl rfl)
theorem dX0_stillBehind_14 : decode cX0_stillBehind 14 = .ok (.iconst (-1), 1) := dk_2 (dk_at dksX0_stillBehind_0 14 rfl rfl)
theorem dX0_stillBehind_15 : decode cX0_stillBehind 15 = .ok (.invokevirtual 137, 3) := dk_182 0 137 (dk_at dksX0_stillBehind_0 15 rfl rfl)
theorem dX0_stillBehind_18 : decode cX0_stillBehind 18 = .ok (.ifCond .ne 5, 3) := dk_154 0 5 (dk_at dksX0_stillBehind_0 18 rfl rfl)
theorem dX0_stillBehind_21 : decode cX0_stillBehind 21 = .ok (.iload_n 2, 1) := dk_28 (dk_at dksX0_stillBehind_0 21 rfl rfl)
theorem dX0_stillBehind_22 : decode cX0_stillBehind 22 = .ok (.ireturn, 1) := dk_172 (dk_at dksX0_stillBehind_0 22 rfl rfl)
theorem dX0_stillBehind_23 : decode cX0_stillBehind 23 = .ok (.aload_n 1, 1) := dk_43 (dk_at dksX0_stillBehind_0 23 rfl rfl)
theorem dX0_stillBehind_24 : decode cX0_stillBehind 24 = .ok (.invokevirtual 133, 3) := dk_182 0 133 (dk_at dksX0_stillBehind_1 0 rfl rfl)
theorem dX0_stillBehind_27 : decode cX0_stillBehind 27 = .ok (.pop, 1) := dk_87 (dk_at dksX0_stillBehind_1 3 rfl rfl)
theorem dX0_stillBehind_28 : decode cX0_stillBehind 28 = .ok (.iinc 2 1, 3) := dk_132 2 1 (dk_at dksX0_stillBehind_1 4 rfl rfl)
theorem dX0_stillBehind_31 : decode cX0_stillBehind 31 = .ok (.goto (-24), 3) := dk_167 255 232 (dk_at dksX0_stillBehind_1 7 rfl rfl)
theorem dX0_stillBehind_34 : decode cX0_stillBehind 34 = .ok (.bipush (-9), 2) := dk_16 247 (dk_at dksX0_stillBehind_1 10 rfl rfl)
theorem dX0_stillBehind_36 : decode cX0_stillBehind 36 = .ok (.ireturn, 1) := dk_172 (dk_at dksX0_stillBehind_1 12 rfl rfl)
abbrev cX0_mostAsked : ByteArray := prog_1_method_48_code
def yX0_mostAsked : MethodName := ⟨RX0, "mostAsked", "(III)I"⟩
def dkwX0_mostAsked_0 : List UInt8 := [42, 27, 182, 1, 34, 28, 184, 1, 77, 29, 184, 1, 80, 42, 27, 28, 29, 182, 1, 86, 172]
abbrev dktX0_mostAsked_0 : List UInt8 := dkwX0_mostAsked_0 ++ []
theorem dksX0_mostAsked_0 : cX0_mostAsked.data.toList.drop 0 = dktX0_mostAsked_0 := by decide +kernel
theorem dX0_mostAsked_0 : decode cX0_mostAsked 0 = .ok (.aload_n 0, 1) := dk_42 (dk_at dksX0_mostAsked_0 0 rfl rfl)
theorem dX0_mostAsked_1 : decode cX0_mostAsked 1 = .ok (.iload_n 1, 1) := dk_27 (dk_at dksX0_mostAsked_0 1 rfl rfl)
theorem dX0_mostAsked_2 : decode cX0_mostAsked 2 = .ok (.invokevirtual 290, 3) := dk_182 1 34 (dk_at dksX0_mostAsked_0 2 rfl rfl)
theorem dX0_mostAsked_5 : decode cX0_mostAsked 5 = .ok (.iload_n 2, 1) := dk_28 (dk_at dksX0_mostAsked_0 5 rfl rfl)
theorem dX0_mostAsked_6 : decode cX0_mostAsked 6 = .ok (.invokestatic 333, 3) := dk_184 1 77 (dk_at dksX0_mostAsked_0 6 rfl rfl)
theorem dX0_mostAsked_9 : decode cX0_mostAsked 9 = .ok (.iload_n 3, 1) := dk_29 (dk_at dksX0_mostAsked_0 9 rfl rfl)
theorem dX0_mostAsked_10 : decode cX0_mostAsked 10 = .ok (.invokestatic 336, 3) := dk_184 1 80 (dk_at dksX0_mostAsked_0 10 rfl rfl)
theorem dX0_mostAsked_13 : decode cX0_mostAsked 13 = .ok (.aload_n 0, 1) := dk_42 (dk_at dksX0_mostAsked_0 13 rfl rfl)
theorem dX0_mostAsked_14 : decode cX0_mostAsked 14 = .ok (.iload_n 1, 1) := dk_27 (dk_at dksX0_mostAsked_0 14 rfl rfl)
theorem dX0_mostAsked_15 : decode cX0_mostAsked 15 = .ok (.iload_n 2, 1) := dk_28 (dk_at dksX0_mostAsked_0 15 rfl rfl)
theorem dX0_mostAsked_16 : decode cX0_mostAsked 16 = .ok (.iload_n 3, 1) := dk_29 (dk_at dksX0_mostAsked_0 16 rfl rfl)
theorem dX0_mostAsked_17 : decode cX0_mostAsked 17 = .ok (.invokevirtual 342, 3) := dk_182 1 86 (dk_at dksX0_mostAsked_0 17 rfl rfl)
theorem dX0_mostAsked_20 : decode cX0_mostAsked 20 = .ok (.ireturn, 1) := dk_172 (dk_at dksX0_mostAsked_0 20 rfl rfl)
abbrev cX0_mostTold : ByteArray := prog_1_method_13_code
def yX0_mostTold : MethodName := ⟨RX0, "mostTold", "(III)I"⟩
def dkwX0_mostTold_3 : List UInt8 := [167, 255, 208, 29, 154, 0, 8, 21, 5, 167, 0, 5, 21, 6, 172]
abbrev dktX0_mostTold_3 : List UInt8 := dkwX0_mostTold_3 ++ []
def dkwX0_mostTold_2 : List UInt8 := [167, 0, 5, 21, 5, 54, 5, 21, 6, 25, 4, 27, 182, 0, 137, 184, 0, 141, 54, 6, 132, 7, 1]
abbrev dktX0_mostTold_2 : List UInt8 := dkwX0_mostTold_2 ++ dktX0_mostTold_3
def dkwX0_mostTold_1 : List UInt8 := [163, 0, 48, 25, 4, 182, 0, 133, 87, 25, 4, 27, 182, 0, 137, 21, 6, 164, 0, 8, 21, 7]
abbrev dktX0_mostTold_1 : List UInt8 := dkwX0_mostTold_1 ++ dktX0_mostTold_2
def dkwX0_mostTold_0 : List UInt8 := [42, 182, 0, 126, 58, 4, 3, 54, 5, 25, 4, 27, 182, 0, 137, 54, 6, 4, 54, 7, 21, 7, 28]
abbrev dktX0_mostTold_0 : List UInt8 := dkwX0_mostTold_0 ++ dktX0_mostTold_1
theorem dksX0_mostTold_0 : cX0_mostTold.data.toList.drop 0 = dktX0_mostTold_0 := by decide +kernel
theorem dksX0_mostTold_1 : cX0_mostTold.data.toList.drop 23 = dktX0_mostTold_1 := dk_seg dksX0_mostTold_0 23 rfl rfl
theorem dksX0_mostTold_2 : cX0_mostTold.data.toList.drop 45 = dktX0_mostTold_2 := dk_seg dksX0_mostTold_1 22 rfl rfl
theorem dksX0_mostTold_3 : cX0_mostTold.data.toList.drop 68 = dktX0_mostTold_3 := dk_seg dksX0_mostTold_2 23 rfl rfl
theorem dX0_mostTold_0 : decode cX0_mostTold 0 = .ok (.aload_n 0, 1) := dk_42 (dk_at dksX0_mostTold_0 0 rfl rfl)
theorem dX0_mostTold_1 : decode cX0_mostTold 1 = .ok (.invokevirtual 126, 3) := dk_182 0 126 (dk_at dksX0_mostTold_0 1 rfl rfl)
theorem dX0_mostTold_4 : decode cX0_mostTold 4 = .ok (.astore 4, 2) := dk_58 4 (dk_at dksX0_mostTold_0 4 rfl rfl)
theorem dX0_mostTold_6 : decode cX0_mostTold 6 = .ok (.iconst 0, 1) := dk_3 (dk_at dksX0_mostTold_0 6 rfl rfl)
theorem dX0_mostTold_7 : decode cX0_mostTold 7 = .ok (.istore 5, 2) := dk_54 5 (dk_at dksX0_mostTold_0 7 rfl rfl)
theorem dX0_mostTold_9 : decode cX0_mostTold 9 = .ok (.aload 4, 2) := dk_25 4 (dk_at dksX0_mostTold_0 9 rfl rfl)
theorem dX0_mostTold_11 : decode cX0_mostTold 11 = .ok (.iload_n 1, 1) := dk_27 (dk_at dksX0_mostTold_0 11 rfl rfl)
theorem dX0_mostTold_12 : decode cX0_mostTold 12 = .ok (.invokevirtual 137, 3) := dk_182 0 137 (dk_at dksX0_mostTold_0 12 rfl rfl)
theorem dX0_mostTold_15 : decode cX0_mostTold 15 = .ok (.istore 6, 2) := dk_54 6 (dk_at dksX0_mostTold_0 15 rfl rfl)
theorem dX0_mostTold_17 : decode cX0_mostTold 17 = .ok (.iconst 1, 1) := dk_4 (dk_at dksX0_mostTold_0 17 rfl rfl)
theorem dX0_mostTold_18 : decode cX0_mostTold 18 = .ok (.istore 7, 2) := dk_54 7 (dk_at dksX0_mostTold_0 18 rfl rfl)
theorem dX0_mostTold_20 : decode cX0_mostTold 20 = .ok (.iload 7, 2) := dk_21 7 (dk_at dksX0_mostTold_0 20 rfl rfl)
theorem dX0_mostTold_22 : decode cX0_mostTold 22 = .ok (.iload_n 2, 1) := dk_28 (dk_at dksX0_mostTold_0 22 rfl rfl)
theorem dX0_mostTold_23 : decode cX0_mostTold 23 = .ok (.if_icmp .gt 48, 3) := dk_163 0 48 (dk_at dksX0_mostTold_1 0 rfl rfl)
theorem dX0_mostTold_26 : decode cX0_mostTold 26 = .ok (.aload 4, 2) := dk_25 4 (dk_at dksX0_mostTold_1 3 rfl rfl)
theorem dX0_mostTold_28 : decode cX0_mostTold 28 = .ok (.invokevirtual 133, 3) := dk_182 0 133 (dk_at dksX0_mostTold_1 5 rfl rfl)
theorem dX0_mostTold_31 : decode cX0_mostTold 31 = .ok (.pop, 1) := dk_87 (dk_at dksX0_mostTold_1 8 rfl rfl)
theorem dX0_mostTold_32 : decode cX0_mostTold 32 = .ok (.aload 4, 2) := dk_25 4 (dk_at dksX0_mostTold_1 9 rfl rfl)
theorem dX0_mostTold_34 : decode cX0_mostTold 34 = .ok (.iload_n 1, 1) := dk_27 (dk_at dksX0_mostTold_1 11 rfl rfl)
theorem dX0_mostTold_35 : decode cX0_mostTold 35 = .ok (.invokevirtual 137, 3) := dk_182 0 137 (dk_at dksX0_mostTold_1 12 rfl rfl)
theorem dX0_mostTold_38 : decode cX0_mostTold 38 = .ok (.iload 6, 2) := dk_21 6 (dk_at dksX0_mostTold_1 15 rfl rfl)
theorem dX0_mostTold_40 : decode cX0_mostTold 40 = .ok (.if_icmp .le 8, 3) := dk_164 0 8 (dk_at dksX0_mostTold_1 17 rfl rfl)
theorem dX0_mostTold_43 : decode cX0_mostTold 43 = .ok (.iload 7, 2) := dk_21 7 (dk_at dksX0_mostTold_1 20 rfl rfl)
theorem dX0_mostTold_45 : decode cX0_mostTold 45 = .ok (.goto 5, 3) := dk_167 0 5 (dk_at dksX0_mostTold_2 0 rfl rfl)
theorem dX0_mostTold_48 : decode cX0_mostTold 48 = .ok (.iload 5, 2) := dk_21 5 (dk_at dksX0_mostTold_2 3 rfl rfl)
theorem dX0_mostTold_50 : decode cX0_mostTold 50 = .ok (.istore 5, 2) := dk_54 5 (dk_at dksX0_mostTold_2 5 rfl rfl)
theorem dX0_mostTold_52 : decode cX0_mostTold 52 = .ok (.iload 6, 2) := dk_21 6 (dk_at dksX0_mostTold_2 7 rfl rfl)
theorem dX0_mostTold_54 : decode cX0_mostTold 54 = .ok (.aload 4, 2) := dk_25 4 (dk_at dksX0_mostTold_2 9 rfl rfl)
theorem dX0_mostTold_56 : decode cX0_mostTold 56 = .ok (.iload_n 1, 1) := dk_27 (dk_at dksX0_mostTold_2 11 rfl rfl)
theorem dX0_mostTold_57 : decode cX0_mostTold 57 = .ok (.invokevirtual 137, 3) := dk_182 0 137 (dk_at dksX0_mostTold_2 12 rfl rfl)
theorem dX0_mostTold_60 : decode cX0_mostTold 60 = .ok (.invokestatic 141, 3) := dk_184 0 141 (dk_at dksX0_mostTold_2 15 rfl rfl)
theorem dX0_mostTold_63 : decode cX0_mostTold 63 = .ok (.istore 6, 2) := dk_54 6 (dk_at dksX0_mostTold_2 18 rfl rfl)
theorem dX0_mostTold_65 : decode cX0_mostTold 65 = .ok (.iinc 7 1, 3) := dk_132 7 1 (dk_at dksX0_mostTold_2 20 rfl rfl)
theorem dX0_mostTold_68 : decode cX0_mostTold 68 = .ok (.goto (-48), 3) := dk_167 255 208 (dk_at dksX0_mostTold_3 0 rfl rfl)
theorem dX0_mostTold_71 : decode cX0_mostTold 71 = .ok (.iload_n 3, 1) := dk_29 (dk_at dksX0_mostTold_3 3 rfl rfl)
theorem dX0_mostTold_72 : decode cX0_mostTold 72 = .ok (.ifCond .ne 8, 3) := dk_154 0 8 (dk_at dksX0_mostTold_3 4 rfl rfl)
theorem dX0_mostTold_75 : decode cX0_mostTold 75 = .ok (.iload 5, 2) := dk_21 5 (dk_at dksX0_mostTold_3 7 rfl rfl)
theorem dX0_mostTold_77 : decode cX0_mostTold 77 = .ok (.goto 5, 3) := dk_167 0 5 (dk_at dksX0_mostTold_3 9 rfl rfl)
theorem dX0_mostTold_80 : decode cX0_mostTold 80 = .ok (.iload 6, 2) := dk_21 6 (dk_at dksX0_mostTold_3 12 rfl rfl)
theorem dX0_mostTold_82 : decode cX0_mostTold 82 = .ok (.ireturn, 1) := dk_172 (dk_at dksX0_mostTold_3 14 rfl rfl)
abbrev cX0_lastsBehind : ByteArray := prog_1_method_14_code
def yX0_lastsBehind : MethodName := ⟨RX0, "lastsBehind", "(I)I"⟩
def dkwX0_lastsBehind_2 : List UInt8 := [21, 4, 167, 0, 4, 29, 62, 132, 4, 1, 167, 255, 213, 29, 172]
abbrev dktX0_lastsBehind_2 : List UInt8 := dkwX0_lastsBehind_2 ++ []
def dkwX0_lastsBehind_1 : List UInt8 := [44, 21, 4, 182, 0, 137, 29, 16, 247, 160, 0, 7, 3, 167, 0, 8, 44, 29, 182, 0, 137, 164, 0, 8]
abbrev dktX0_lastsBehind_1 : List UInt8 := dkwX0_lastsBehind_1 ++ dktX0_lastsBehind_2
def dkwX0_lastsBehind_0 : List UInt8 := [42, 182, 0, 126, 27, 182, 0, 147, 77, 16, 247, 62, 3, 54, 4, 21, 4, 44, 180, 0, 151, 162, 0, 40]
abbrev dktX0_lastsBehind_0 : List UInt8 := dkwX0_lastsBehind_0 ++ dktX0_lastsBehind_1
theorem dksX0_lastsBehind_0 : cX0_lastsBehind.data.toList.drop 0 = dktX0_lastsBehind_0 := by decide +kernel
theorem dksX0_lastsBehind_1 : cX0_lastsBehind.data.toList.drop 24 = dktX0_lastsBehind_1 := dk_seg dksX0_lastsBehind_0 24 rfl rfl
theorem dksX0_lastsBehind_2 : cX0_lastsBehind.data.toList.drop 48 = dktX0_lastsBehind_2 := dk_seg dksX0_lastsBehind_1 24 rfl rfl
theorem dX0_lastsBehind_0 : decode cX0_lastsBehind 0 = .ok (.aload_n 0, 1) := dk_42 (dk_at dksX0_lastsBehind_0 0 rfl rfl)
theorem dX0_lastsBehind_1 : decode cX0_lastsBehind 1 = .ok (.invokevirtual 126, 3) := dk_182 0 126 (dk_at dksX0_lastsBehind_0 1 rfl rfl)
theorem dX0_lastsBehind_4 : decode cX0_lastsBehind 4 = .ok (.iload_n 1, 1) := dk_27 (dk_at dksX0_lastsBehind_0 4 rfl rfl)
theorem dX0_lastsBehind_5 : decode cX0_lastsBehind 5 = .ok (.invokevirtual 147, 3) := dk_182 0 147 (dk_at dksX0_lastsBehind_0 5 rfl rfl)
theorem dX0_lastsBehind_8 : decode cX0_lastsBehind 8 = .ok (.astore_n 2, 1) := dk_77 (dk_at dksX0_lastsBehind_0 8 rfl rfl)
theorem dX0_lastsBehind_9 : decode cX0_lastsBehind 9 = .ok (.bipush (-9), 2) := dk_16 247 (dk_at dksX0_lastsBehind_0 9 rfl rfl)
theorem dX0_lastsBehind_11 : decode cX0_lastsBehind 11 = .ok (.istore_n 3, 1) := dk_62 (dk_at dksX0_lastsBehind_0 11 rfl rfl)
theorem dX0_lastsBehind_12 : decode cX0_lastsBehind 12 = .ok (.iconst 0, 1) := dk_3 (dk_at dksX0_lastsBehind_0 12 rfl rfl)
theorem dX0_lastsBehind_13 : decode cX0_lastsBehind 13 = .ok (.istore 4, 2) := dk_54 4 (dk_at dksX0_lastsBehind_0 13 rfl rfl)
theorem dX0_lastsBehind_15 : decode cX0_lastsBehind 15 = .ok (.iload 4, 2) := dk_21 4 (dk_at dksX0_lastsBehind_0 15 rfl rfl)
theorem dX0_lastsBehind_17 : decode cX0_lastsBehind 17 = .ok (.aload_n 2, 1) := dk_44 (dk_at dksX0_lastsBehind_0 17 rfl rfl)
theorem dX0_lastsBehind_18 : decode cX0_lastsBehind 18 = .ok (.getfield 151, 3) := dk_180 0 151 (dk_at dksX0_lastsBehind_0 18 rfl rfl)
theorem dX0_lastsBehind_21 : decode cX0_lastsBehind 21 = .ok (.if_icmp .ge 40, 3) := dk_162 0 40 (dk_at dksX0_lastsBehind_0 21 rfl rfl)
theorem dX0_lastsBehind_24 : decode cX0_lastsBehind 24 = .ok (.aload_n 2, 1) := dk_44 (dk_at dksX0_lastsBehind_1 0 rfl rfl)
theorem dX0_lastsBehind_25 : decode cX0_lastsBehind 25 = .ok (.iload 4, 2) := dk_21 4 (dk_at dksX0_lastsBehind_1 1 rfl rfl)
theorem dX0_lastsBehind_27 : decode cX0_lastsBehind 27 = .ok (.invokevirtual 137, 3) := dk_182 0 137 (dk_at dksX0_lastsBehind_1 3 rfl rfl)
theorem dX0_lastsBehind_30 : decode cX0_lastsBehind 30 = .ok (.iload_n 3, 1) := dk_29 (dk_at dksX0_lastsBehind_1 6 rfl rfl)
theorem dX0_lastsBehind_31 : decode cX0_lastsBehind 31 = .ok (.bipush (-9), 2) := dk_16 247 (dk_at dksX0_lastsBehind_1 7 rfl rfl)
theorem dX0_lastsBehind_33 : decode cX0_lastsBehind 33 = .ok (.if_icmp .ne 7, 3) := dk_160 0 7 (dk_at dksX0_lastsBehind_1 9 rfl rfl)
theorem dX0_lastsBehind_36 : decode cX0_lastsBehind 36 = .ok (.iconst 0, 1) := dk_3 (dk_at dksX0_lastsBehind_1 12 rfl rfl)
theorem dX0_lastsBehind_37 : decode cX0_lastsBehind 37 = .ok (.goto 8, 3) := dk_167 0 8 (dk_at dksX0_lastsBehind_1 13 rfl rfl)
theorem dX0_lastsBehind_40 : decode cX0_lastsBehind 40 = .ok (.aload_n 2, 1) := dk_44 (dk_at dksX0_lastsBehind_1 16 rfl rfl)
theorem dX0_lastsBehind_41 : decode cX0_lastsBehind 41 = .ok (.iload_n 3, 1) := dk_29 (dk_at dksX0_lastsBehind_1 17 rfl rfl)
theorem dX0_lastsBehind_42 : decode cX0_lastsBehind 42 = .ok (.invokevirtual 137, 3) := dk_182 0 137 (dk_at dksX0_lastsBehind_1 18 rfl rfl)
theorem dX0_lastsBehind_45 : decode cX0_lastsBehind 45 = .ok (.if_icmp .le 8, 3) := dk_164 0 8 (dk_at dksX0_lastsBehind_1 21 rfl rfl)
theorem dX0_lastsBehind_48 : decode cX0_lastsBehind 48 = .ok (.iload 4, 2) := dk_21 4 (dk_at dksX0_lastsBehind_2 0 rfl rfl)
theorem dX0_lastsBehind_50 : decode cX0_lastsBehind 50 = .ok (.goto 4, 3) := dk_167 0 4 (dk_at dksX0_lastsBehind_2 2 rfl rfl)
theorem dX0_lastsBehind_53 : decode cX0_lastsBehind 53 = .ok (.iload_n 3, 1) := dk_29 (dk_at dksX0_lastsBehind_2 5 rfl rfl)
theorem dX0_lastsBehind_54 : decode cX0_lastsBehind 54 = .ok (.istore_n 3, 1) := dk_62 (dk_at dksX0_lastsBehind_2 6 rfl rfl)
theorem dX0_lastsBehind_55 : decode cX0_lastsBehind 55 = .ok (.iinc 4 1, 3) := dk_132 4 1 (dk_at dksX0_lastsBehind_2 7 rfl rfl)
theorem dX0_lastsBehind_58 : decode cX0_lastsBehind 58 = .ok (.goto (-43), 3) := dk_167 255 213 (dk_at dksX0_lastsBehind_2 10 rfl rfl)
theorem dX0_lastsBehind_61 : decode cX0_lastsBehind 61 = .ok (.iload_n 3, 1) := dk_29 (dk_at dksX0_lastsBehind_2 13 rfl rfl)
theorem dX0_lastsBehind_62 : decode cX0_lastsBehind 62 = .ok (.ireturn, 1) := dk_172 (dk_at dksX0_lastsBehind_2 14 rfl rfl)
abbrev cX0_fromAsked : ByteArray := prog_1_method_49_code
def yX0_fromAsked : MethodName := ⟨RX0, "fromAsked", "(IIZ)I"⟩
def dkwX0_fromAsked_0 : List UInt8 := [42, 27, 182, 1, 7, 28, 184, 1, 77, 42, 27, 28, 29, 182, 1, 89, 172]
abbrev dktX0_fromAsked_0 : List UInt8 := dkwX0_fromAsked_0 ++ []
theorem dksX0_fromAsked_0 : cX0_fromAsked.data.toList.drop 0 = dktX0_fromAsked_0 := by decide +kernel
theorem dX0_fromAsked_0 : decode cX0_fromAsked 0 = .ok (.aload_n 0, 1) := dk_42 (dk_at dksX0_fromAsked_0 0 rfl rfl)
theorem dX0_fromAsked_1 : decode cX0_fromAsked 1 = .ok (.iload_n 1, 1) := dk_27 (dk_at dksX0_fromAsked_0 1 rfl rfl)
theorem dX0_fromAsked_2 : decode cX0_fromAsked 2 = .ok (.invokevirtual 263, 3) := dk_182 1 7 (dk_at dksX0_fromAsked_0 2 rfl rfl)
theorem dX0_fromAsked_5 : decode cX0_fromAsked 5 = .ok (.iload_n 2, 1) := dk_28 (dk_at dksX0_fromAsked_0 5 rfl rfl)
theorem dX0_fromAsked_6 : decode cX0_fromAsked 6 = .ok (.invokestatic 333, 3) := dk_184 1 77 (dk_at dksX0_fromAsked_0 6 rfl rfl)
theorem dX0_fromAsked_9 : decode cX0_fromAsked 9 = .ok (.aload_n 0, 1) := dk_42 (dk_at dksX0_fromAsked_0 9 rfl rfl)
theorem dX0_fromAsked_10 : decode cX0_fromAsked 10 = .ok (.iload_n 1, 1) := dk_27 (dk_at dksX0_fromAsked_0 10 rfl rfl)
theorem dX0_fromAsked_11 : decode cX0_fromAsked 11 = .ok (.iload_n 2, 1) := dk_28 (dk_at dksX0_fromAsked_0 11 rfl rfl)
theorem dX0_fromAsked_12 : decode cX0_fromAsked 12 = .ok (.iload_n 3, 1) := dk_29 (dk_at dksX0_fromAsked_0 12 rfl rfl)
theorem dX0_fromAsked_13 : decode cX0_fromAsked 13 = .ok (.invokevirtual 345, 3) := dk_182 1 89 (dk_at dksX0_fromAsked_0 13 rfl rfl)
theorem dX0_fromAsked_16 : decode cX0_fromAsked 16 = .ok (.ireturn, 1) := dk_172 (dk_at dksX0_fromAsked_0 16 rfl rfl)
abbrev cX0_fromTold : ByteArray := prog_1_method_15_code
def yX0_fromTold : MethodName := ⟨RX0, "fromTold", "(IIZ)I"⟩
def dkwX0_fromTold_2 : List UInt8 := [180, 0, 160, 27, 46, 172]
abbrev dktX0_fromTold_2 : List UInt8 := dkwX0_fromTold_2 ++ []
def dkwX0_fromTold_1 : List UInt8 := [160, 0, 8, 16, 247, 167, 0, 24, 29, 153, 0, 13, 25, 4, 180, 0, 157, 27, 46, 167, 0, 10, 25, 4]
abbrev dktX0_fromTold_1 : List UInt8 := dkwX0_fromTold_1 ++ dktX0_fromTold_2
def dkwX0_fromTold_0 : List UInt8 := [42, 182, 0, 126, 182, 0, 154, 28, 182, 0, 147, 58, 4, 25, 4, 180, 0, 130, 27, 46, 16, 247]
abbrev dktX0_fromTold_0 : List UInt8 := dkwX0_fromTold_0 ++ dktX0_fromTold_1
theorem dksX0_fromTold_0 : cX0_fromTold.data.toList.drop 0 = dktX0_fromTold_0 := by decide +kernel
theorem dksX0_fromTold_1 : cX0_fromTold.data.toList.drop 22 = dktX0_fromTold_1 := dk_seg dksX0_fromTold_0 22 rfl rfl
theorem dksX0_fromTold_2 : cX0_fromTold.data.toList.drop 46 = dktX0_fromTold_2 := dk_seg dksX0_fromTold_1 24 rfl rfl
theorem dX0_fromTold_0 : decode cX0_fromTold 0 = .ok (.aload_n 0, 1) := dk_42 (dk_at dksX0_fromTold_0 0 rfl rfl)
theorem dX0_fromTold_1 : decode cX0_fromTold 1 = .ok (.invokevirtual 126, 3) := dk_182 0 126 (dk_at dksX0_fromTold_0 1 rfl rfl)
theorem dX0_fromTold_4 : decode cX0_fromTold 4 = .ok (.invokevirtual 154, 3) := dk_182 0 154 (dk_at dksX0_fromTold_0 4 rfl rfl)
theorem dX0_fromTold_7 : decode cX0_fromTold 7 = .ok (.iload_n 2, 1) := dk_28 (dk_at dksX0_fromTold_0 7 rfl rfl)
theorem dX0_fromTold_8 : decode cX0_fromTold 8 = .ok (.invokevirtual 147, 3) := dk_182 0 147 (dk_at dksX0_fromTold_0 8 rfl rfl)
theorem dX0_fromTold_11 : decode cX0_fromTold 11 = .ok (.astore 4, 2) := dk_58 4 (dk_at dksX0_fromTold_0 11 rfl rfl)
theorem dX0_fromTold_13 : decode cX0_fromTold 13 = .ok (.aload 4, 2) := dk_25 4 (dk_at dksX0_fromTold_0 13 rfl rfl)
theorem dX0_fromTold_15 : decode cX0_fromTold 15 = .ok (.getfield 130, 3) := dk_180 0 130 (dk_at dksX0_fromTold_0 15 rfl rfl)
theorem dX0_fromTold_18 : decode cX0_fromTold 18 = .ok (.iload_n 1, 1) := dk_27 (dk_at dksX0_fromTold_0 18 rfl rfl)
theorem dX0_fromTold_19 : decode cX0_fromTold 19 = .ok (.iaload, 1) := dk_46 (dk_at dksX0_fromTold_0 19 rfl rfl)
theorem dX0_fromTold_20 : decode cX0_fromTold 20 = .ok (.bipush (-9), 2) := dk_16 247 (dk_at dksX0_fromTold_0 20 rfl rfl)
theorem dX0_fromTold_22 : decode cX0_fromTold 22 = .ok (.if_icmp .ne 8, 3) := dk_160 0 8 (dk_at dksX0_fromTold_1 0 rfl rfl)
theorem dX0_fromTold_25 : decode cX0_fromTold 25 = .ok (.bipush (-9), 2) := dk_16 247 (dk_at dksX0_fromTold_1 3 rfl rfl)
theorem dX0_fromTold_27 : decode cX0_fromTold 27 = .ok (.goto 24, 3) := dk_167 0 24 (dk_at dksX0_fromTold_1 5 rfl rfl)
theorem dX0_fromTold_30 : decode cX0_fromTold 30 = .ok (.iload_n 3, 1) := dk_29 (dk_at dksX0_fromTold_1 8 rfl rfl)
theorem dX0_fromTold_31 : decode cX0_fromTold 31 = .ok (.ifCond .eq 13, 3) := dk_153 0 13 (dk_at dksX0_fromTold_1 9 rfl rfl)
theorem dX0_fromTold_34 : decode cX0_fromTold 34 = .ok (.aload 4, 2) := dk_25 4 (dk_at dksX0_fromTold_1 12 rfl rfl)
theorem dX0_fromTold_36 : decode cX0_fromTold 36 = .ok (.getfield 157, 3) := dk_180 0 157 (dk_at dksX0_fromTold_1 14 rfl rfl)
theorem dX0_fromTold_39 : decode cX0_fromTold 39 = .ok (.iload_n 1, 1) := dk_27 (dk_at dksX0_fromTold_1 17 rfl rfl)
theorem dX0_fromTold_40 : decode cX0_fromTold 40 = .ok (.iaload, 1) := dk_46 (dk_at dksX0_fromTold_1 18 rfl rfl)
theorem dX0_fromTold_41 : decode cX0_fromTold 41 = .ok (.goto 10, 3) := dk_167 0 10 (dk_at dksX0_fromTold_1 19 rfl rfl)
theorem dX0_fromTold_44 : decode cX0_fromTold 44 = .ok (.aload 4, 2) := dk_25 4 (dk_at dksX0_fromTold_1 22 rfl rfl)
theorem dX0_fromTold_46 : decode cX0_fromTold 46 = .ok (.getfield 160, 3) := dk_180 0 160 (dk_at dksX0_fromTold_2 0 rfl rfl)
theorem dX0_fromTold_49 : decode cX0_fromTold 49 = .ok (.iload_n 1, 1) := dk_27 (dk_at dksX0_fromTold_2 3 rfl rfl)
theorem dX0_fromTold_50 : decode cX0_fromTold 50 = .ok (.iaload, 1) := dk_46 (dk_at dksX0_fromTold_2 4 rfl rfl)
theorem dX0_fromTold_51 : decode cX0_fromTold 51 = .ok (.ireturn, 1) := dk_172 (dk_at dksX0_fromTold_2 5 rfl rfl)
abbrev cX0_ridAsked : ByteArray := prog_1_method_50_code
def yX0_ridAsked : MethodName := ⟨RX0, "ridAsked", "(II)I"⟩
def dkwX0_ridAsked_0 : List UInt8 := [42, 27, 182, 1, 7, 28, 184, 1, 80, 42, 27, 182, 1, 93, 42, 27, 28, 182, 1, 96, 172]
abbrev dktX0_ridAsked_0 : List UInt8 := dkwX0_ridAsked_0 ++ []
theorem dksX0_ridAsked_0 : cX0_ridAsked.data.toList.drop 0 = dktX0_ridAsked_0 := by decide +kernel
theorem dX0_ridAsked_0 : decode cX0_ridAsked 0 = .ok (.aload_n 0, 1) := dk_42 (dk_at dksX0_ridAsked_0 0 rfl rfl)
theorem dX0_ridAsked_1 : decode cX0_ridAsked 1 = .ok (.iload_n 1, 1) := dk_27 (dk_at dksX0_ridAsked_0 1 rfl rfl)
theorem dX0_ridAsked_2 : decode cX0_ridAsked 2 = .ok (.invokevirtual 263, 3) := dk_182 1 7 (dk_at dksX0_ridAsked_0 2 rfl rfl)
theorem dX0_ridAsked_5 : decode cX0_ridAsked 5 = .ok (.iload_n 2, 1) := dk_28 (dk_at dksX0_ridAsked_0 5 rfl rfl)
theorem dX0_ridAsked_6 : decode cX0_ridAsked 6 = .ok (.invokestatic 336, 3) := dk_184 1 80 (dk_at dksX0_ridAsked_0 6 rfl rfl)
theorem dX0_ridAsked_9 : decode cX0_ridAsked 9 = .ok (.aload_n 0, 1) := dk_42 (dk_at dksX0_ridAsked_0 9 rfl rfl)
theorem dX0_ridAsked_10 : decode cX0_ridAsked 10 = .ok (.iload_n 1, 1) := dk_27 (dk_at dksX0_ridAsked_0 10 rfl rfl)
theorem dX0_ridAsked_11 : decode cX0_ridAsked 11 = .ok (.invokevirtual 349, 3) := dk_182 1 93 (dk_at dksX0_ridAsked_0 11 rfl rfl)
theorem dX0_ridAsked_14 : decode cX0_ridAsked 14 = .ok (.aload_n 0, 1) := dk_42 (dk_at dksX0_ridAsked_0 14 rfl rfl)
theorem dX0_ridAsked_15 : decode cX0_ridAsked 15 = .ok (.iload_n 1, 1) := dk_27 (dk_at dksX0_ridAsked_0 15 rfl rfl)
theorem dX0_ridAsked_16 : decode cX0_ridAsked 16 = .ok (.iload_n 2, 1) := dk_28 (dk_at dksX0_ridAsked_0 16 rfl rfl)
theorem dX0_ridAsked_17 : decode cX0_ridAsked 17 = .ok (.invokevirtual 352, 3) := dk_182 1 96 (dk_at dksX0_ridAsked_0 17 rfl rfl)
theorem dX0_ridAsked_20 : decode cX0_ridAsked 20 = .ok (.ireturn, 1) := dk_172 (dk_at dksX0_ridAsked_0 20 rfl rfl)
abbrev cX0_mustHaveSong : ByteArray := prog_1_method_34_code
def yX0_mustHaveSong : MethodName := ⟨RX0, "mustHaveSong", "(I)V"⟩
def dkwX0_mustHaveSong_1 : List UInt8 := [177]
abbrev dktX0_mustHaveSong_1 : List UInt8 := dkwX0_mustHaveSong_1 ++ []
def dkwX0_mustHaveSong_0 : List UInt8 := [42, 180, 0, 69, 180, 0, 130, 27, 46, 16, 247, 159, 0, 7, 4, 167, 0, 4, 3, 16, 253, 184, 0, 9]
abbrev dktX0_mustHaveSong_0 : List UInt8 := dkwX0_mustHaveSong_0 ++ dktX0_mustHaveSong_1
theorem dksX0_mustHaveSong_0 : cX0_mustHaveSong.data.toList.drop 0 = dktX0_mustHaveSong_0 := by decide +kernel
theorem dksX0_mustHaveSong_1 : cX0_mustHaveSong.data.toList.drop 24 = dktX0_mustHaveSong_1 := dk_seg dksX0_mustHaveSong_0 24 rfl rfl
theorem dX0_mustHaveSong_0 : decode cX0_mustHaveSong 0 = .ok (.aload_n 0, 1) := dk_42 (dk_at dksX0_mustHaveSong_0 0 rfl rfl)
theorem dX0_mustHaveSong_1 : decode cX0_mustHaveSong 1 = .ok (.getfield 69, 3) := dk_180 0 69 (dk_at dksX0_mustHaveSong_0 1 rfl rfl)
theorem dX0_mustHaveSong_4 : decode cX0_mustHaveSong 4 = .ok (.getfield 130, 3) := dk_180 0 130 (dk_at dksX0_mustHaveSong_0 4 rfl rfl)
theorem dX0_mustHaveSong_7 : decode cX0_mustHaveSong 7 = .ok (.iload_n 1, 1) := dk_27 (dk_at dksX0_mustHaveSong_0 7 rfl rfl)
theorem dX0_mustHaveSong_8 : decode cX0_mustHaveSong 8 = .ok (.iaload, 1) := dk_46 (dk_at dksX0_mustHaveSong_0 8 rfl rfl)
theorem dX0_mustHaveSong_9 : decode cX0_mustHaveSong 9 = .ok (.bipush (-9), 2) := dk_16 247 (dk_at dksX0_mustHaveSong_0 9 rfl rfl)
theorem dX0_mustHaveSong_11 : decode cX0_mustHaveSong 11 = .ok (.if_icmp .eq 7, 3) := dk_159 0 7 (dk_at dksX0_mustHaveSong_0 11 rfl rfl)
theorem dX0_mustHaveSong_14 : decode cX0_mustHaveSong 14 = .ok (.iconst 1, 1) := dk_4 (dk_at dksX0_mustHaveSong_0 14 rfl rfl)
theorem dX0_mustHaveSong_15 : decode cX0_mustHaveSong 15 = .ok (.goto 4, 3) := dk_167 0 4 (dk_at dksX0_mustHaveSong_0 15 rfl rfl)
theorem dX0_mustHaveSong_18 : decode cX0_mustHaveSong 18 = .ok (.iconst 0, 1) := dk_3 (dk_at dksX0_mustHaveSong_0 18 rfl rfl)
theorem dX0_mustHaveSong_19 : decode cX0_mustHaveSong 19 = .ok (.bipush (-3), 2) := dk_16 253 (dk_at dksX0_mustHaveSong_0 19 rfl rfl)
theorem dX0_mustHaveSong_21 : decode cX0_mustHaveSong 21 = .ok (.invokestatic 9, 3) := dk_184 0 9 (dk_at dksX0_mustHaveSong_0 21 rfl rfl)
theorem dX0_mustHaveSong_24 : decode cX0_mustHaveSong 24 = .ok (.return_, 1) := dk_177 (dk_at dksX0_mustHaveSong_1 0 rfl rfl)
abbrev cX0_ridTold : ByteArray := prog_1_method_18_code
def yX0_ridTold : MethodName := ⟨RX0, "ridTold", "(II)I"⟩
def dkwX0_ridTold_3 : List UInt8 := [172]
abbrev dktX0_ridTold_3 : List UInt8 := dkwX0_ridTold_3 ++ []
def dkwX0_ridTold_2 : List UInt8 := [54, 4, 132, 5, 1, 167, 255, 215, 28, 153, 0, 9, 29, 16, 247, 160, 0, 7, 29, 167, 0, 5, 21, 4]
abbrev dktX0_ridTold_2 : List UInt8 := dkwX0_ridTold_2 ++ dktX0_ridTold_3
def dkwX0_ridTold_1 : List UInt8 := [54, 6, 21, 6, 21, 4, 162, 0, 8, 21, 5, 167, 0, 4, 29, 62, 21, 4, 21, 6, 184, 0, 173]
abbrev dktX0_ridTold_1 : List UInt8 := dkwX0_ridTold_1 ++ dktX0_ridTold_2
def dkwX0_ridTold_0 : List UInt8 := [16, 247, 62, 16, 61, 54, 4, 3, 54, 5, 21, 5, 6, 163, 0, 41, 42, 27, 21, 5, 182, 0, 170]
abbrev dktX0_ridTold_0 : List UInt8 := dkwX0_ridTold_0 ++ dktX0_ridTold_1
theorem dksX0_ridTold_0 : cX0_ridTold.data.toList.drop 0 = dktX0_ridTold_0 := by decide +kernel
theorem dksX0_ridTold_1 : cX0_ridTold.data.toList.drop 23 = dktX0_ridTold_1 := dk_seg dksX0_ridTold_0 23 rfl rfl
theorem dksX0_ridTold_2 : cX0_ridTold.data.toList.drop 46 = dktX0_ridTold_2 := dk_seg dksX0_ridTold_1 23 rfl rfl
theorem dksX0_ridTold_3 : cX0_ridTold.data.toList.drop 70 = dktX0_ridTold_3 := dk_seg dksX0_ridTold_2 24 rfl rfl
theorem dX0_ridTold_0 : decode cX0_ridTold 0 = .ok (.bipush (-9), 2) := dk_16 247 (dk_at dksX0_ridTold_0 0 rfl rfl)
theorem dX0_ridTold_2 : decode cX0_ridTold 2 = .ok (.istore_n 3, 1) := dk_62 (dk_at dksX0_ridTold_0 2 rfl rfl)
theorem dX0_ridTold_3 : decode cX0_ridTold 3 = .ok (.bipush 61, 2) := dk_16 61 (dk_at dksX0_ridTold_0 3 rfl rfl)
theorem dX0_ridTold_5 : decode cX0_ridTold 5 = .ok (.istore 4, 2) := dk_54 4 (dk_at dksX0_ridTold_0 5 rfl rfl)
theorem dX0_ridTold_7 : decode cX0_ridTold 7 = .ok (.iconst 0, 1) := dk_3 (dk_at dksX0_ridTold_0 7 rfl rfl)
theorem dX0_ridTold_8 : decode cX0_ridTold 8 = .ok (.istore 5, 2) := dk_54 5 (dk_at dksX0_ridTold_0 8 rfl rfl)
theorem dX0_ridTold_10 : decode cX0_ridTold 10 = .ok (.iload 5, 2) := dk_21 5 (dk_at dksX0_ridTold_0 10 rfl rfl)
theorem dX0_ridTold_12 : decode cX0_ridTold 12 = .ok (.iconst 3, 1) := dk_6 (dk_at dksX0_ridTold_0 12 rfl rfl)
theorem dX0_ridTold_13 : decode cX0_ridTold 13 = .ok (.if_icmp .gt 41, 3) := dk_163 0 41 (dk_at dksX0_ridTold_0 13 rfl rfl)
theorem dX0_ridTold_16 : decode cX0_ridTold 16 = .ok (.aload_n 0, 1) := dk_42 (dk_at dksX0_ridTold_0 16 rfl rfl)
theorem dX0_ridTold_17 : decode cX0_ridTold 17 = .ok (.iload_n 1, 1) := dk_27 (dk_at dksX0_ridTold_0 17 rfl rfl)
theorem dX0_ridTold_18 : decode cX0_ridTold 18 = .ok (.iload 5, 2) := dk_21 5 (dk_at dksX0_ridTold_0 18 rfl rfl)
theorem dX0_ridTold_20 : decode cX0_ridTold 20 = .ok (.invokevirtual 170, 3) := dk_182 0 170 (dk_at dksX0_ridTold_0 20 rfl rfl)
theorem dX0_ridTold_23 : decode cX0_ridTold 23 = .ok (.istore 6, 2) := dk_54 6 (dk_at dksX0_ridTold_1 0 rfl rfl)
theorem dX0_ridTold_25 : decode cX0_ridTold 25 = .ok (.iload 6, 2) := dk_21 6 (dk_at dksX0_ridTold_1 2 rfl rfl)
theorem dX0_ridTold_27 : decode cX0_ridTold 27 = .ok (.iload 4, 2) := dk_21 4 (dk_at dksX0_ridTold_1 4 rfl rfl)
theorem dX0_ridTold_29 : decode cX0_ridTold 29 = .ok (.if_icmp .ge 8, 3) := dk_162 0 8 (dk_at dksX0_ridTold_1 6 rfl rfl)
theorem dX0_ridTold_32 : decode cX0_ridTold 32 = .ok (.iload 5, 2) := dk_21 5 (dk_at dksX0_ridTold_1 9 rfl rfl)
theorem dX0_ridTold_34 : decode cX0_ridTold 34 = .ok (.goto 4, 3) := dk_167 0 4 (dk_at dksX0_ridTold_1 11 rfl rfl)
theorem dX0_ridTold_37 : decode cX0_ridTold 37 = .ok (.iload_n 3, 1) := dk_29 (dk_at dksX0_ridTold_1 14 rfl rfl)
theorem dX0_ridTold_38 : decode cX0_ridTold 38 = .ok (.istore_n 3, 1) := dk_62 (dk_at dksX0_ridTold_1 15 rfl rfl)
theorem dX0_ridTold_39 : decode cX0_ridTold 39 = .ok (.iload 4, 2) := dk_21 4 (dk_at dksX0_ridTold_1 16 rfl rfl)
theorem dX0_ridTold_41 : decode cX0_ridTold 41 = .ok (.iload 6, 2) := dk_21 6 (dk_at dksX0_ridTold_1 18 rfl rfl)
theorem dX0_ridTold_43 : decode cX0_ridTold 43 = .ok (.invokestatic 173, 3) := dk_184 0 173 (dk_at dksX0_ridTold_1 20 rfl rfl)
theorem dX0_ridTold_46 : decode cX0_ridTold 46 = .ok (.istore 4, 2) := dk_54 4 (dk_at dksX0_ridTold_2 0 rfl rfl)
theorem dX0_ridTold_48 : decode cX0_ridTold 48 = .ok (.iinc 5 1, 3) := dk_132 5 1 (dk_at dksX0_ridTold_2 2 rfl rfl)
theorem dX0_ridTold_51 : decode cX0_ridTold 51 = .ok (.goto (-41), 3) := dk_167 255 215 (dk_at dksX0_ridTold_2 5 rfl rfl)
theorem dX0_ridTold_54 : decode cX0_ridTold 54 = .ok (.iload_n 2, 1) := dk_28 (dk_at dksX0_ridTold_2 8 rfl rfl)
theorem dX0_ridTold_55 : decode cX0_ridTold 55 = .ok (.ifCond .eq 9, 3) := dk_153 0 9 (dk_at dksX0_ridTold_2 9 rfl rfl)
theorem dX0_ridTold_58 : decode cX0_ridTold 58 = .ok (.iload_n 3, 1) := dk_29 (dk_at dksX0_ridTold_2 12 rfl rfl)
theorem dX0_ridTold_59 : decode cX0_ridTold 59 = .ok (.bipush (-9), 2) := dk_16 247 (dk_at dksX0_ridTold_2 13 rfl rfl)
theorem dX0_ridTold_61 : decode cX0_ridTold 61 = .ok (.if_icmp .ne 7, 3) := dk_160 0 7 (dk_at dksX0_ridTold_2 15 rfl rfl)
theorem dX0_ridTold_64 : decode cX0_ridTold 64 = .ok (.iload_n 3, 1) := dk_29 (dk_at dksX0_ridTold_2 18 rfl rfl)
theorem dX0_ridTold_65 : decode cX0_ridTold 65 = .ok (.goto 5, 3) := dk_167 0 5 (dk_at dksX0_ridTold_2 19 rfl rfl)
theorem dX0_ridTold_68 : decode cX0_ridTold 68 = .ok (.iload 4, 2) := dk_21 4 (dk_at dksX0_ridTold_2 22 rfl rfl)
theorem dX0_ridTold_70 : decode cX0_ridTold 70 = .ok (.ireturn, 1) := dk_172 (dk_at dksX0_ridTold_3 0 rfl rfl)
abbrev cX0_freeBy : ByteArray := prog_1_method_17_code
def yX0_freeBy : MethodName := ⟨RX0, "freeBy", "(II)I"⟩
def dkwX0_freeBy_0 : List UInt8 := [42, 182, 0, 126, 78, 45, 27, 28, 182, 0, 163, 45, 27, 184, 0, 166, 172]
abbrev dktX0_freeBy_0 : List UInt8 := dkwX0_freeBy_0 ++ []
theorem dksX0_freeBy_0 : cX0_freeBy.data.toList.drop 0 = dktX0_freeBy_0 := by decide +kernel
theorem dX0_freeBy_0 : decode cX0_freeBy 0 = .ok (.aload_n 0, 1) := dk_42 (dk_at dksX0_freeBy_0 0 rfl rfl)
theorem dX0_freeBy_1 : decode cX0_freeBy 1 = .ok (.invokevirtual 126, 3) := dk_182 0 126 (dk_at dksX0_freeBy_0 1 rfl rfl)
theorem dX0_freeBy_4 : decode cX0_freeBy 4 = .ok (.astore_n 3, 1) := dk_78 (dk_at dksX0_freeBy_0 4 rfl rfl)
theorem dX0_freeBy_5 : decode cX0_freeBy 5 = .ok (.aload_n 3, 1) := dk_45 (dk_at dksX0_freeBy_0 5 rfl rfl)
theorem dX0_freeBy_6 : decode cX0_freeBy 6 = .ok (.iload_n 1, 1) := dk_27 (dk_at dksX0_freeBy_0 6 rfl rfl)
theorem dX0_freeBy_7 : decode cX0_freeBy 7 = .ok (.iload_n 2, 1) := dk_28 (dk_at dksX0_freeBy_0 7 rfl rfl)
theorem dX0_freeBy_8 : decode cX0_freeBy 8 = .ok (.invokevirtual 163, 3) := dk_182 0 163 (dk_at dksX0_freeBy_0 8 rfl rfl)
theorem dX0_freeBy_11 : decode cX0_freeBy 11 = .ok (.aload_n 3, 1) := dk_45 (dk_at dksX0_freeBy_0 11 rfl rfl)
theorem dX0_freeBy_12 : decode cX0_freeBy 12 = .ok (.iload_n 1, 1) := dk_27 (dk_at dksX0_freeBy_0 12 rfl rfl)
theorem dX0_freeBy_13 : decode cX0_freeBy 13 = .ok (.invokestatic 166, 3) := dk_184 0 166 (dk_at dksX0_freeBy_0 13 rfl rfl)
theorem dX0_freeBy_16 : decode cX0_freeBy 16 = .ok (.ireturn, 1) := dk_172 (dk_at dksX0_freeBy_0 16 rfl rfl)
abbrev cX0_freeIn : ByteArray := prog_1_method_16_code
def yX0_freeIn : MethodName := ⟨RX0, "freeIn", "(LSongThatStays$Office;I)I"⟩
def dkwX0_freeIn_1 : List UInt8 := [182, 0, 133, 87, 132, 2, 1, 167, 255, 229, 16, 61, 172]
abbrev dktX0_freeIn_1 : List UInt8 := dkwX0_freeIn_1 ++ []
def dkwX0_freeIn_0 : List UInt8 := [3, 61, 28, 16, 60, 163, 0, 27, 42, 180, 0, 130, 27, 46, 16, 247, 160, 0, 5, 28, 172, 42]
abbrev dktX0_freeIn_0 : List UInt8 := dkwX0_freeIn_0 ++ dktX0_freeIn_1
theorem dksX0_freeIn_0 : cX0_freeIn.data.toList.drop 0 = dktX0_freeIn_0 := by decide +kernel
theorem dksX0_freeIn_1 : cX0_freeIn.data.toList.drop 22 = dktX0_freeIn_1 := dk_seg dksX0_freeIn_0 22 rfl rfl
theorem dX0_freeIn_0 : decode cX0_freeIn 0 = .ok (.iconst 0, 1) := dk_3 (dk_at dksX0_freeIn_0 0 rfl rfl)
theorem dX0_freeIn_1 : decode cX0_freeIn 1 = .ok (.istore_n 2, 1) := dk_61 (dk_at dksX0_freeIn_0 1 rfl rfl)
theorem dX0_freeIn_2 : decode cX0_freeIn 2 = .ok (.iload_n 2, 1) := dk_28 (dk_at dksX0_freeIn_0 2 rfl rfl)
theorem dX0_freeIn_3 : decode cX0_freeIn 3 = .ok (.bipush 60, 2) := dk_16 60 (dk_at dksX0_freeIn_0 3 rfl rfl)
theorem dX0_freeIn_5 : decode cX0_freeIn 5 = .ok (.if_icmp .gt 27, 3) := dk_163 0 27 (dk_at dksX0_freeIn_0 5 rfl rfl)
theorem dX0_freeIn_8 : decode cX0_freeIn 8 = .ok (.aload_n 0, 1) := dk_42 (dk_at dksX0_freeIn_0 8 rfl rfl)
theorem dX0_freeIn_9 : decode cX0_freeIn 9 = .ok (.getfield 130, 3) := dk_180 0 130 (dk_at dksX0_freeIn_0 9 rfl rfl)
theorem dX0_freeIn_12 : decode cX0_freeIn 12 = .ok (.iload_n 1, 1) := dk_27 (dk_at dksX0_freeIn_0 12 rfl rfl)
theorem dX0_freeIn_13 : decode cX0_freeIn 13 = .ok (.iaload, 1) := dk_46 (dk_at dksX0_freeIn_0 13 rfl rfl)
theorem dX0_freeIn_14 : decode cX0_freeIn 14 = .ok (.bipush (-9), 2) := dk_16 247 (dk_at dksX0_freeIn_0 14 rfl rfl)
theorem dX0_freeIn_16 : decode cX0_freeIn 16 = .ok (.if_icmp .ne 5, 3) := dk_160 0 5 (dk_at dksX0_freeIn_0 16 rfl rfl)
theorem dX0_freeIn_19 : decode cX0_freeIn 19 = .ok (.iload_n 2, 1) := dk_28 (dk_at dksX0_freeIn_0 19 rfl rfl)
theorem dX0_freeIn_20 : decode cX0_freeIn 20 = .ok (.ireturn, 1) := dk_172 (dk_at dksX0_freeIn_0 20 rfl rfl)
theorem dX0_freeIn_21 : decode cX0_freeIn 21 = .ok (.aload_n 0, 1) := dk_42 (dk_at dksX0_freeIn_0 21 rfl rfl)
theorem dX0_freeIn_22 : decode cX0_freeIn 22 = .ok (.invokevirtual 133, 3) := dk_182 0 133 (dk_at dksX0_freeIn_1 0 rfl rfl)
theorem dX0_freeIn_25 : decode cX0_freeIn 25 = .ok (.pop, 1) := dk_87 (dk_at dksX0_freeIn_1 3 rfl rfl)
theorem dX0_freeIn_26 : decode cX0_freeIn 26 = .ok (.iinc 2 1, 3) := dk_132 2 1 (dk_at dksX0_freeIn_1 4 rfl rfl)
theorem dX0_freeIn_29 : decode cX0_freeIn 29 = .ok (.goto (-27), 3) := dk_167 255 229 (dk_at dksX0_freeIn_1 7 rfl rfl)
theorem dX0_freeIn_32 : decode cX0_freeIn 32 = .ok (.bipush 61, 2) := dk_16 61 (dk_at dksX0_freeIn_1 10 rfl rfl)
theorem dX0_freeIn_34 : decode cX0_freeIn 34 = .ok (.ireturn, 1) := dk_172 (dk_at dksX0_freeIn_1 12 rfl rfl)
abbrev cX0_insteadTold : ByteArray := prog_1_method_51_code
def yX0_insteadTold : MethodName := ⟨RX0, "insteadTold", "(I)I"⟩
def dkwX0_insteadTold_0 : List UInt8 := [42, 27, 182, 1, 7, 42, 27, 182, 1, 93, 42, 27, 182, 1, 99, 172]
abbrev dktX0_insteadTold_0 : List UInt8 := dkwX0_insteadTold_0 ++ []
theorem dksX0_insteadTold_0 : cX0_insteadTold.data.toList.drop 0 = dktX0_insteadTold_0 := by decide +kernel
theorem dX0_insteadTold_0 : decode cX0_insteadTold 0 = .ok (.aload_n 0, 1) := dk_42 (dk_at dksX0_insteadTold_0 0 rfl rfl)
theorem dX0_insteadTold_1 : decode cX0_insteadTold 1 = .ok (.iload_n 1, 1) := dk_27 (dk_at dksX0_insteadTold_0 1 rfl rfl)
theorem dX0_insteadTold_2 : decode cX0_insteadTold 2 = .ok (.invokevirtual 263, 3) := dk_182 1 7 (dk_at dksX0_insteadTold_0 2 rfl rfl)
theorem dX0_insteadTold_5 : decode cX0_insteadTold 5 = .ok (.aload_n 0, 1) := dk_42 (dk_at dksX0_insteadTold_0 5 rfl rfl)
theorem dX0_insteadTold_6 : decode cX0_insteadTold 6 = .ok (.iload_n 1, 1) := dk_27 (dk_at dksX0_insteadTold_0 6 rfl rfl)
theorem dX0_insteadTold_7 : decode cX0_insteadTold 7 = .ok (.invokevirtual 349, 3) := dk_182 1 93 (dk_at dksX0_insteadTold_0 7 rfl rfl)
theorem dX0_insteadTold_10 : decode cX0_insteadTold 10 = .ok (.aload_n 0, 1) := dk_42 (dk_at dksX0_insteadTold_0 10 rfl rfl)
theorem dX0_insteadTold_11 : decode cX0_insteadTold 11 = .ok (.iload_n 1, 1) := dk_27 (dk_at dksX0_insteadTold_0 11 rfl rfl)
theorem dX0_insteadTold_12 : decode cX0_insteadTold 12 = .ok (.invokevirtual 355, 3) := dk_182 1 99 (dk_at dksX0_insteadTold_0 12 rfl rfl)
theorem dX0_insteadTold_15 : decode cX0_insteadTold 15 = .ok (.ireturn, 1) := dk_172 (dk_at dksX0_insteadTold_0 15 rfl rfl)
abbrev cX0_songInstead : ByteArray := prog_1_method_19_code
def yX0_songInstead : MethodName := ⟨RX0, "songInstead", "(I)I"⟩
def dkwX0_songInstead_4 : List UInt8 := [21, 7, 184, 0, 173, 62, 132, 4, 1, 167, 255, 170, 28, 172]
abbrev dktX0_songInstead_4 : List UInt8 := dkwX0_songInstead_4 ++ []
def dkwX0_songInstead_3 : List UInt8 := [184, 0, 166, 167, 0, 5, 16, 61, 54, 7, 21, 7, 29, 162, 0, 8, 21, 4, 167, 0, 4, 28, 61, 29]
abbrev dktX0_songInstead_3 : List UInt8 := dkwX0_songInstead_3 ++ dktX0_songInstead_4
def dkwX0_songInstead_2 : List UInt8 := [167, 0, 4, 3, 54, 6, 25, 5, 27, 21, 4, 182, 0, 176, 21, 6, 153, 0, 12, 25, 5, 27]
abbrev dktX0_songInstead_2 : List UInt8 := dkwX0_songInstead_2 ++ dktX0_songInstead_3
def dkwX0_songInstead_1 : List UInt8 := [162, 0, 80, 42, 182, 0, 126, 58, 5, 21, 4, 25, 5, 180, 0, 130, 27, 46, 159, 0, 7, 4]
abbrev dktX0_songInstead_1 : List UInt8 := dkwX0_songInstead_1 ++ dktX0_songInstead_2
def dkwX0_songInstead_0 : List UInt8 := [16, 247, 61, 42, 27, 6, 182, 0, 170, 62, 3, 54, 4, 21, 4, 42, 180, 0, 69, 180, 0, 151]
abbrev dktX0_songInstead_0 : List UInt8 := dkwX0_songInstead_0 ++ dktX0_songInstead_1
theorem dksX0_songInstead_0 : cX0_songInstead.data.toList.drop 0 = dktX0_songInstead_0 := by decide +kernel
theorem dksX0_songInstead_1 : cX0_songInstead.data.toList.drop 22 = dktX0_songInstead_1 := dk_seg dksX0_songInstead_0 22 rfl rfl
theorem dksX0_songInstead_2 : cX0_songInstead.data.toList.drop 44 = dktX0_songInstead_2 := dk_seg dksX0_songInstead_1 22 rfl rfl
theorem dksX0_songInstead_3 : cX0_songInstead.data.toList.drop 66 = dktX0_songInstead_3 := dk_seg dksX0_songInstead_2 22 rfl rfl
theorem dksX0_songInstead_4 : cX0_songInstead.data.toList.drop 90 = dktX0_songInstead_4 := dk_seg dksX0_songInstead_3 24 rfl rfl
theorem dX0_songInstead_0 : decode cX0_songInstead 0 = .ok (.bipush (-9), 2) := dk_16 247 (dk_at dksX0_songInstead_0 0 rfl rfl)
theorem dX0_songInstead_2 : decode cX0_songInstead 2 = .ok (.istore_n 2, 1) := dk_61 (dk_at dksX0_songInstead_0 2 rfl rfl)
theorem dX0_songInstead_3 : decode cX0_songInstead 3 = .ok (.aload_n 0, 1) := dk_42 (dk_at dksX0_songInstead_0 3 rfl rfl)
theorem dX0_songInstead_4 : decode cX0_songInstead 4 = .ok (.iload_n 1, 1) := dk_27 (dk_at dksX0_songInstead_0 4 rfl rfl)
theorem dX0_songInstead_5 : decode cX0_songInstead 5 = .ok (.iconst 3, 1) := dk_6 (dk_at dksX0_songInstead_0 5 rfl rfl)
theorem dX0_songInstead_6 : decode cX0_songInstead 6 = .ok (.invokevirtual 170, 3) := dk_182 0 170 (dk_at dksX0_songInstead_0 6 rfl rfl)
theorem dX0_songInstead_9 : decode cX0_songInstead 9 = .ok (.istore_n 3, 1) := dk_62 (dk_at dksX0_songInstead_0 9 rfl rfl)
theorem dX0_songInstead_10 : decode cX0_songInstead 10 = .ok (.iconst 0, 1) := dk_3 (dk_at dksX0_songInstead_0 10 rfl rfl)
theorem dX0_songInstead_11 : decode cX0_songInstead 11 = .ok (.istore 4, 2) := dk_54 4 (dk_at dksX0_songInstead_0 11 rfl rfl)
theorem dX0_songInstead_13 : decode cX0_songInstead 13 = .ok (.iload 4, 2) := dk_21 4 (dk_at dksX0_songInstead_0 13 rfl rfl)
theorem dX0_songInstead_15 : decode cX0_songInstead 15 = .ok (.aload_n 0, 1) := dk_42 (dk_at dksX0_songInstead_0 15 rfl rfl)
theorem dX0_songInstead_16 : decode cX0_songInstead 16 = .ok (.getfield 69, 3) := dk_180 0 69 (dk_at dksX0_songInstead_0 16 rfl rfl)
theorem dX0_songInstead_19 : decode cX0_songInstead 19 = .ok (.getfield 151, 3) := dk_180 0 151 (dk_at dksX0_songInstead_0 19 rfl rfl)
theorem dX0_songInstead_22 : decode cX0_songInstead 22 = .ok (.if_icmp .ge 80, 3) := dk_162 0 80 (dk_at dksX0_songInstead_1 0 rfl rfl)
theorem dX0_songInstead_25 : decode cX0_songInstead 25 = .ok (.aload_n 0, 1) := dk_42 (dk_at dksX0_songInstead_1 3 rfl rfl)
theorem dX0_songInstead_26 : decode cX0_songInstead 26 = .ok (.invokevirtual 126, 3) := dk_182 0 126 (dk_at dksX0_songInstead_1 4 rfl rfl)
theorem dX0_songInstead_29 : decode cX0_songInstead 29 = .ok (.astore 5, 2) := dk_58 5 (dk_at dksX0_songInstead_1 7 rfl rfl)
theorem dX0_songInstead_31 : decode cX0_songInstead 31 = .ok (.iload 4, 2) := dk_21 4 (dk_at dksX0_songInstead_1 9 rfl rfl)
theorem dX0_songInstead_33 : decode cX0_songInstead 33 = .ok (.aload 5, 2) := dk_25 5 (dk_at dksX0_songInstead_1 11 rfl rfl)
theorem dX0_songInstead_35 : decode cX0_songInstead 35 = .ok (.getfield 130, 3) := dk_180 0 130 (dk_at dksX0_songInstead_1 13 rfl rfl)
theorem dX0_songInstead_38 : decode cX0_songInstead 38 = .ok (.iload_n 1, 1) := dk_27 (dk_at dksX0_songInstead_1 16 rfl rfl)
theorem dX0_songInstead_39 : decode cX0_songInstead 39 = .ok (.iaload, 1) := dk_46 (dk_at dksX0_songInstead_1 17 rfl rfl)
theorem dX0_songInstead_40 : decode cX0_songInstead 40 = .ok (.if_icmp .eq 7, 3) := dk_159 0 7 (dk_at dksX0_songInstead_1 18 rfl rfl)
theorem dX0_songInstead_43 : decode cX0_songInstead 43 = .ok (.iconst 1, 1) := dk_4 (dk_at dksX0_songInstead_1 21 rfl rfl)
theorem dX0_songInstead_44 : decode cX0_songInstead 44 = .ok (.goto 4, 3) := dk_167 0 4 (dk_at dksX0_songInstead_2 0 rfl rfl)
theorem dX0_songInstead_47 : decode cX0_songInstead 47 = .ok (.iconst 0, 1) := dk_3 (dk_at dksX0_songInstead_2 3 rfl rfl)
theorem dX0_songInstead_48 : decode cX0_songInstead 48 = .ok (.istore 6, 2) := dk_54 6 (dk_at dksX0_songInstead_2 4 rfl rfl)
theorem dX0_songInstead_50 : decode cX0_songInstead 50 = .ok (.aload 5, 2) := dk_25 5 (dk_at dksX0_songInstead_2 6 rfl rfl)
theorem dX0_songInstead_52 : decode cX0_songInstead 52 = .ok (.iload_n 1, 1) := dk_27 (dk_at dksX0_songInstead_2 8 rfl rfl)
theorem dX0_songInstead_53 : decode cX0_songInstead 53 = .ok (.iload 4, 2) := dk_21 4 (dk_at dksX0_songInstead_2 9 rfl rfl)
theorem dX0_songInstead_55 : decode cX0_songInstead 55 = .ok (.invokevirtual 176, 3) := dk_182 0 176 (dk_at dksX0_songInstead_2 11 rfl rfl)
theorem dX0_songInstead_58 : decode cX0_songInstead 58 = .ok (.iload 6, 2) := dk_21 6 (dk_at dksX0_songInstead_2 14 rfl rfl)
theorem dX0_songInstead_60 : decode cX0_songInstead 60 = .ok (.ifCond .eq 12, 3) := dk_153 0 12 (dk_at dksX0_songInstead_2 16 rfl rfl)
theorem dX0_songInstead_63 : decode cX0_songInstead 63 = .ok (.aload 5, 2) := dk_25 5 (dk_at dksX0_songInstead_2 19 rfl rfl)
theorem dX0_songInstead_65 : decode cX0_songInstead 65 = .ok (.iload_n 1, 1) := dk_27 (dk_at dksX0_songInstead_2 21 rfl rfl)
theorem dX0_songInstead_66 : decode cX0_songInstead 66 = .ok (.invokestatic 166, 3) := dk_184 0 166 (dk_at dksX0_songInstead_3 0 rfl rfl)
theorem dX0_songInstead_69 : decode cX0_songInstead 69 = .ok (.goto 5, 3) := dk_167 0 5 (dk_at dksX0_songInstead_3 3 rfl rfl)
theorem dX0_songInstead_72 : decode cX0_songInstead 72 = .ok (.bipush 61, 2) := dk_16 61 (dk_at dksX0_songInstead_3 6 rfl rfl)
theorem dX0_songInstead_74 : decode cX0_songInstead 74 = .ok (.istore 7, 2) := dk_54 7 (dk_at dksX0_songInstead_3 8 rfl rfl)
theorem dX0_songInstead_76 : decode cX0_songInstead 76 = .ok (.iload 7, 2) := dk_21 7 (dk_at dksX0_songInstead_3 10 rfl rfl)
theorem dX0_songInstead_78 : decode cX0_songInstead 78 = .ok (.iload_n 3, 1) := dk_29 (dk_at dksX0_songInstead_3 12 rfl rfl)
theorem dX0_songInstead_79 : decode cX0_songInstead 79 = .ok (.if_icmp .ge 8, 3) := dk_162 0 8 (dk_at dksX0_songInstead_3 13 rfl rfl)
theorem dX0_songInstead_82 : decode cX0_songInstead 82 = .ok (.iload 4, 2) := dk_21 4 (dk_at dksX0_songInstead_3 16 rfl rfl)
theorem dX0_songInstead_84 : decode cX0_songInstead 84 = .ok (.goto 4, 3) := dk_167 0 4 (dk_at dksX0_songInstead_3 18 rfl rfl)
theorem dX0_songInstead_87 : decode cX0_songInstead 87 = .ok (.iload_n 2, 1) := dk_28 (dk_at dksX0_songInstead_3 21 rfl rfl)
theorem dX0_songInstead_88 : decode cX0_songInstead 88 = .ok (.istore_n 2, 1) := dk_61 (dk_at dksX0_songInstead_3 22 rfl rfl)
theorem dX0_songInstead_89 : decode cX0_songInstead 89 = .ok (.iload_n 3, 1) := dk_29 (dk_at dksX0_songInstead_3 23 rfl rfl)
theorem dX0_songInstead_90 : decode cX0_songInstead 90 = .ok (.iload 7, 2) := dk_21 7 (dk_at dksX0_songInstead_4 0 rfl rfl)
theorem dX0_songInstead_92 : decode cX0_songInstead 92 = .ok (.invokestatic 173, 3) := dk_184 0 173 (dk_at dksX0_songInstead_4 2 rfl rfl)
theorem dX0_songInstead_95 : decode cX0_songInstead 95 = .ok (.istore_n 3, 1) := dk_62 (dk_at dksX0_songInstead_4 5 rfl rfl)
theorem dX0_songInstead_96 : decode cX0_songInstead 96 = .ok (.iinc 4 1, 3) := dk_132 4 1 (dk_at dksX0_songInstead_4 6 rfl rfl)
theorem dX0_songInstead_99 : decode cX0_songInstead 99 = .ok (.goto (-86), 3) := dk_167 255 170 (dk_at dksX0_songInstead_4 9 rfl rfl)
theorem dX0_songInstead_102 : decode cX0_songInstead 102 = .ok (.iload_n 2, 1) := dk_28 (dk_at dksX0_songInstead_4 12 rfl rfl)
theorem dX0_songInstead_103 : decode cX0_songInstead 103 = .ok (.ireturn, 1) := dk_172 (dk_at dksX0_songInstead_4 13 rfl rfl)
abbrev cX0_ofRest : ByteArray := prog_1_method_55_code
def yX0_ofRest : MethodName := ⟨RX0, "ofRest", "(IIII)I"⟩
def dkwX0_ofRest_6 : List UInt8 := [172, 42, 27, 28, 29, 182, 1, 152, 172]
abbrev dktX0_ofRest_6 : List UInt8 := dkwX0_ofRest_6 ++ []
def dkwX0_ofRest_5 : List UInt8 := [180, 0, 206, 4, 96, 181, 0, 206, 42, 180, 0, 206, 172, 42, 28, 29, 182, 1, 146, 172, 42, 182, 1, 149]
abbrev dktX0_ofRest_5 : List UInt8 := dkwX0_ofRest_5 ++ dktX0_ofRest_6
def dkwX0_ofRest_4 : List UInt8 := [4, 167, 0, 4, 3, 16, 250, 184, 0, 9, 42, 180, 0, 79, 42, 180, 0, 206, 28, 145, 84, 42, 89]
abbrev dktX0_ofRest_4 : List UInt8 := dkwX0_ofRest_4 ++ dktX0_ofRest_5
def dkwX0_ofRest_3 : List UInt8 := [21, 4, 182, 1, 141, 172, 28, 133, 9, 20, 1, 144, 184, 0, 238, 42, 180, 0, 206, 16, 6, 162, 0, 7]
abbrev dktX0_ofRest_3 : List UInt8 := dkwX0_ofRest_3 ++ dktX0_ofRest_4
def dkwX0_ofRest_2 : List UInt8 := [28, 184, 1, 77, 42, 28, 182, 1, 135, 172, 28, 184, 1, 77, 42, 28, 182, 1, 138, 172, 42, 28, 29]
abbrev dktX0_ofRest_2 : List UInt8 := dkwX0_ofRest_2 ++ dktX0_ofRest_3
def dkwX0_ofRest_1 : List UInt8 := [170, 0, 0, 0, 0, 0, 134, 0, 0, 0, 21, 0, 0, 0, 26, 0, 0, 0, 39, 0, 0, 0, 49, 0, 0, 0, 59, 0, 0, 0, 68, 0, 0, 0, 122, 0, 0, 0, 129]
abbrev dktX0_ofRest_1 : List UInt8 := dkwX0_ofRest_1 ++ dktX0_ofRest_2
def dkwX0_ofRest_0 : List UInt8 := [27]
abbrev dktX0_ofRest_0 : List UInt8 := dkwX0_ofRest_0 ++ dktX0_ofRest_1
theorem dksX0_ofRest_0 : cX0_ofRest.data.toList.drop 0 = dktX0_ofRest_0 := by decide +kernel
theorem dksX0_ofRest_1 : cX0_ofRest.data.toList.drop 1 = dktX0_ofRest_1 := dk_seg dksX0_ofRest_0 1 rfl rfl
theorem dksX0_ofRest_2 : cX0_ofRest.data.toList.drop 40 = dktX0_ofRest_2 := dk_seg dksX0_ofRest_1 39 rfl rfl
theorem dksX0_ofRest_3 : cX0_ofRest.data.toList.drop 63 = dktX0_ofRest_3 := dk_seg dksX0_ofRest_2 23 rfl rfl
theorem dksX0_ofRest_4 : cX0_ofRest.data.toList.drop 87 = dktX0_ofRest_4 := dk_seg dksX0_ofRest_3 24 rfl rfl
theorem dksX0_ofRest_5 : cX0_ofRest.data.toList.drop 110 = dktX0_ofRest_5 := dk_seg dksX0_ofRest_4 23 rfl rfl
theorem dksX0_ofRest_6 : cX0_ofRest.data.toList.drop 134 = dktX0_ofRest_6 := dk_seg dksX0_ofRest_5 24 rfl rfl
theorem dX0_ofRest_0 : decode cX0_ofRest 0 = .ok (.iload_n 1, 1) := dk_27 (dk_at dksX0_ofRest_0 0 rfl rfl)
theorem dX0_ofRest_1 : decode cX0_ofRest 1 = .ok (.tableswitch 134 21 26 #[39, 49, 59, 68, 122, 129], 39) := by decide +kernel
theorem dX0_ofRest_40 : decode cX0_ofRest 40 = .ok (.iload_n 2, 1) := dk_28 (dk_at dksX0_ofRest_2 0 rfl rfl)
theorem dX0_ofRest_41 : decode cX0_ofRest 41 = .ok (.invokestatic 333, 3) := dk_184 1 77 (dk_at dksX0_ofRest_2 1 rfl rfl)
theorem dX0_ofRest_44 : decode cX0_ofRest 44 = .ok (.aload_n 0, 1) := dk_42 (dk_at dksX0_ofRest_2 4 rfl rfl)
theorem dX0_ofRest_45 : decode cX0_ofRest 45 = .ok (.iload_n 2, 1) := dk_28 (dk_at dksX0_ofRest_2 5 rfl rfl)
theorem dX0_ofRest_46 : decode cX0_ofRest 46 = .ok (.invokevirtual 391, 3) := dk_182 1 135 (dk_at dksX0_ofRest_2 6 rfl rfl)
theorem dX0_ofRest_49 : decode cX0_ofRest 49 = .ok (.ireturn, 1) := dk_172 (dk_at dksX0_ofRest_2 9 rfl rfl)
theorem dX0_ofRest_50 : decode cX0_ofRest 50 = .ok (.iload_n 2, 1) := dk_28 (dk_at dksX0_ofRest_2 10 rfl rfl)
theorem dX0_ofRest_51 : decode cX0_ofRest 51 = .ok (.invokestatic 333, 3) := dk_184 1 77 (dk_at dksX0_ofRest_2 11 rfl rfl)
theorem dX0_ofRest_54 : decode cX0_ofRest 54 = .ok (.aload_n 0, 1) := dk_42 (dk_at dksX0_ofRest_2 14 rfl rfl)
theorem dX0_ofRest_55 : decode cX0_ofRest 55 = .ok (.iload_n 2, 1) := dk_28 (dk_at dksX0_ofRest_2 15 rfl rfl)
theorem dX0_ofRest_56 : decode cX0_ofRest 56 = .ok (.invokevirtual 394, 3) := dk_182 1 138 (dk_at dksX0_ofRest_2 16 rfl rfl)
theorem dX0_ofRest_59 : decode cX0_ofRest 59 = .ok (.ireturn, 1) := dk_172 (dk_at dksX0_ofRest_2 19 rfl rfl)
theorem dX0_ofRest_60 : decode cX0_ofRest 60 = .ok (.aload_n 0, 1) := dk_42 (dk_at dksX0_ofRest_2 20 rfl rfl)
theorem dX0_ofRest_61 : decode cX0_ofRest 61 = .ok (.iload_n 2, 1) := dk_28 (dk_at dksX0_ofRest_2 21 rfl rfl)
theorem dX0_ofRest_62 : decode cX0_ofRest 62 = .ok (.iload_n 3, 1) := dk_29 (dk_at dksX0_ofRest_2 22 rfl rfl)
theorem dX0_ofRest_63 : decode cX0_ofRest 63 = .ok (.iload 4, 2) := dk_21 4 (dk_at dksX0_ofRest_3 0 rfl rfl)
theorem dX0_ofRest_65 : decode cX0_ofRest 65 = .ok (.invokevirtual 397, 3) := dk_182 1 141 (dk_at dksX0_ofRest_3 2 rfl rfl)
theorem dX0_ofRest_68 : decode cX0_ofRest 68 = .ok (.ireturn, 1) := dk_172 (dk_at dksX0_ofRest_3 5 rfl rfl)
theorem dX0_ofRest_69 : decode cX0_ofRest 69 = .ok (.iload_n 2, 1) := dk_28 (dk_at dksX0_ofRest_3 6 rfl rfl)
theorem dX0_ofRest_70 : decode cX0_ofRest 70 = .ok (.i2l, 1) := dk_133 (dk_at dksX0_ofRest_3 7 rfl rfl)
theorem dX0_ofRest_71 : decode cX0_ofRest 71 = .ok (.lconst 0, 1) := dk_9 (dk_at dksX0_ofRest_3 8 rfl rfl)
theorem dX0_ofRest_72 : decode cX0_ofRest 72 = .ok (.ldc2_w 400, 3) := dk_20 1 144 (dk_at dksX0_ofRest_3 9 rfl rfl)
theorem dX0_ofRest_75 : decode cX0_ofRest 75 = .ok (.invokestatic 238, 3) := dk_184 0 238 (dk_at dksX0_ofRest_3 12 rfl rfl)
theorem dX0_ofRest_78 : decode cX0_ofRest 78 = .ok (.aload_n 0, 1) := dk_42 (dk_at dksX0_ofRest_3 15 rfl rfl)
theorem dX0_ofRest_79 : decode cX0_ofRest 79 = .ok (.getfield 206, 3) := dk_180 0 206 (dk_at dksX0_ofRest_3 16 rfl rfl)
theorem dX0_ofRest_82 : decode cX0_ofRest 82 = .ok (.bipush 6, 2) := dk_16 6 (dk_at dksX0_ofRest_3 19 rfl rfl)
theorem dX0_ofRest_84 : decode cX0_ofRest 84 = .ok (.if_icmp .ge 7, 3) := dk_162 0 7 (dk_at dksX0_ofRest_3 21 rfl rfl)
theorem dX0_ofRest_87 : decode cX0_ofRest 87 = .ok (.iconst 1, 1) := dk_4 (dk_at dksX0_ofRest_4 0 rfl rfl)
theorem dX0_ofRest_88 : decode cX0_ofRest 88 = .ok (.goto 4, 3) := dk_167 0 4 (dk_at dksX0_ofRest_4 1 rfl rfl)
theorem dX0_ofRest_91 : decode cX0_ofRest 91 = .ok (.iconst 0, 1) := dk_3 (dk_at dksX0_ofRest_4 4 rfl rfl)
theorem dX0_ofRest_92 : decode cX0_ofRest 92 = .ok (.bipush (-6), 2) := dk_16 250 (dk_at dksX0_ofRest_4 5 rfl rfl)
theorem dX0_ofRest_94 : decode cX0_ofRest 94 = .ok (.invokestatic 9, 3) := dk_184 0 9 (dk_at dksX0_ofRest_4 7 rfl rfl)
theorem dX0_ofRest_97 : decode cX0_ofRest 97 = .ok (.aload_n 0, 1) := dk_42 (dk_at dksX0_ofRest_4 10 rfl rfl)
theorem dX0_ofRest_98 : decode cX0_ofRest 98 = .ok (.getfield 79, 3) := dk_180 0 79 (dk_at dksX0_ofRest_4 11 rfl rfl)
theorem dX0_ofRest_101 : decode cX0_ofRest 101 = .ok (.aload_n 0, 1) := dk_42 (dk_at dksX0_ofRest_4 14 rfl rfl)
theorem dX0_ofRest_102 : decode cX0_ofRest 102 = .ok (.getfield 206, 3) := dk_180 0 206 (dk_at dksX0_ofRest_4 15 rfl rfl)
theorem dX0_ofRest_105 : decode cX0_ofRest 105 = .ok (.iload_n 2, 1) := dk_28 (dk_at dksX0_ofRest_4 18 rfl rfl)
theorem dX0_ofRest_106 : decode cX0_ofRest 106 = .ok (.i2b, 1) := dk_145 (dk_at dksX0_ofRest_4 19 rfl rfl)
theorem dX0_ofRest_107 : decode cX0_ofRest 107 = .ok (.bastore, 1) := dk_84 (dk_at dksX0_ofRest_4 20 rfl rfl)
theorem dX0_ofRest_108 : decode cX0_ofRest 108 = .ok (.aload_n 0, 1) := dk_42 (dk_at dksX0_ofRest_4 21 rfl rfl)
theorem dX0_ofRest_109 : decode cX0_ofRest 109 = .ok (.dup, 1) := dk_89 (dk_at dksX0_ofRest_4 22 rfl rfl)
theorem dX0_ofRest_110 : decode cX0_ofRest 110 = .ok (.getfield 206, 3) := dk_180 0 206 (dk_at dksX0_ofRest_5 0 rfl rfl)
theorem dX0_ofRest_113 : decode cX0_ofRest 113 = .ok (.iconst 1, 1) := dk_4 (dk_at dksX0_ofRest_5 3 rfl rfl)
theorem dX0_ofRest_114 : decode cX0_ofRest 114 = .ok (.iadd, 1) := dk_96 (dk_at dksX0_ofRest_5 4 rfl rfl)
theorem dX0_ofRest_115 : decode cX0_ofRest 115 = .ok (.putfield 206, 3) := dk_181 0 206 (dk_at dksX0_ofRest_5 5 rfl rfl)
theorem dX0_ofRest_118 : decode cX0_ofRest 118 = .ok (.aload_n 0, 1) := dk_42 (dk_at dksX0_ofRest_5 8 rfl rfl)
theorem dX0_ofRest_119 : decode cX0_ofRest 119 = .ok (.getfield 206, 3) := dk_180 0 206 (dk_at dksX0_ofRest_5 9 rfl rfl)
theorem dX0_ofRest_122 : decode cX0_ofRest 122 = .ok (.ireturn, 1) := dk_172 (dk_at dksX0_ofRest_5 12 rfl rfl)
theorem dX0_ofRest_123 : decode cX0_ofRest 123 = .ok (.aload_n 0, 1) := dk_42 (dk_at dksX0_ofRest_5 13 rfl rfl)
theorem dX0_ofRest_124 : decode cX0_ofRest 124 = .ok (.iload_n 2, 1) := dk_28 (dk_at dksX0_ofRest_5 14 rfl rfl)
theorem dX0_ofRest_125 : decode cX0_ofRest 125 = .ok (.iload_n 3, 1) := dk_29 (dk_at dksX0_ofRest_5 15 rfl rfl)
theorem dX0_ofRest_126 : decode cX0_ofRest 126 = .ok (.invokevirtual 402, 3) := dk_182 1 146 (dk_at dksX0_ofRest_5 16 rfl rfl)
theorem dX0_ofRest_129 : decode cX0_ofRest 129 = .ok (.ireturn, 1) := dk_172 (dk_at dksX0_ofRest_5 19 rfl rfl)
theorem dX0_ofRest_130 : decode cX0_ofRest 130 = .ok (.aload_n 0, 1) := dk_42 (dk_at dksX0_ofRest_5 20 rfl rfl)
theorem dX0_ofRest_131 : decode cX0_ofRest 131 = .ok (.invokevirtual 405, 3) := dk_182 1 149 (dk_at dksX0_ofRest_5 21 rfl rfl)
theorem dX0_ofRest_134 : decode cX0_ofRest 134 = .ok (.ireturn, 1) := dk_172 (dk_at dksX0_ofRest_6 0 rfl rfl)
theorem dX0_ofRest_135 : decode cX0_ofRest 135 = .ok (.aload_n 0, 1) := dk_42 (dk_at dksX0_ofRest_6 1 rfl rfl)
theorem dX0_ofRest_136 : decode cX0_ofRest 136 = .ok (.iload_n 1, 1) := dk_27 (dk_at dksX0_ofRest_6 2 rfl rfl)
theorem dX0_ofRest_137 : decode cX0_ofRest 137 = .ok (.iload_n 2, 1) := dk_28 (dk_at dksX0_ofRest_6 3 rfl rfl)
theorem dX0_ofRest_138 : decode cX0_ofRest 138 = .ok (.iload_n 3, 1) := dk_29 (dk_at dksX0_ofRest_6 4 rfl rfl)
theorem dX0_ofRest_139 : decode cX0_ofRest 139 = .ok (.invokevirtual 408, 3) := dk_182 1 152 (dk_at dksX0_ofRest_6 5 rfl rfl)
theorem dX0_ofRest_142 : decode cX0_ofRest 142 = .ok (.ireturn, 1) := dk_172 (dk_at dksX0_ofRest_6 8 rfl rfl)
abbrev cX0_bestShut : ByteArray := prog_1_method_20_code
def yX0_bestShut : MethodName := ⟨RX0, "bestShut", "(I)I"⟩
def dkwX0_bestShut_4 : List UInt8 := [21, 6, 184, 0, 173, 62, 132, 4, 1, 167, 255, 174, 28, 172]
abbrev dktX0_bestShut_4 : List UInt8 := dkwX0_bestShut_4 ++ []
def dkwX0_bestShut_3 : List UInt8 := [182, 0, 147, 2, 182, 0, 137, 54, 6, 21, 6, 29, 162, 0, 8, 21, 4, 167, 0, 4, 28, 61, 29]
abbrev dktX0_bestShut_3 : List UInt8 := dkwX0_bestShut_3 ++ dktX0_bestShut_4
def dkwX0_bestShut_2 : List UInt8 := [42, 182, 0, 126, 58, 5, 25, 5, 89, 180, 0, 182, 4, 21, 4, 120, 128, 181, 0, 182, 25, 5, 27]
abbrev dktX0_bestShut_2 : List UInt8 := dkwX0_bestShut_2 ++ dktX0_bestShut_3
def dkwX0_bestShut_1 : List UInt8 := [180, 0, 69, 180, 0, 179, 162, 0, 76, 42, 180, 0, 69, 180, 0, 182, 21, 4, 184, 0, 185, 154, 0, 55]
abbrev dktX0_bestShut_1 : List UInt8 := dkwX0_bestShut_1 ++ dktX0_bestShut_2
def dkwX0_bestShut_0 : List UInt8 := [16, 247, 61, 42, 182, 0, 126, 27, 182, 0, 147, 2, 182, 0, 137, 62, 3, 54, 4, 21, 4, 42]
abbrev dktX0_bestShut_0 : List UInt8 := dkwX0_bestShut_0 ++ dktX0_bestShut_1
theorem dksX0_bestShut_0 : cX0_bestShut.data.toList.drop 0 = dktX0_bestShut_0 := by decide +kernel
theorem dksX0_bestShut_1 : cX0_bestShut.data.toList.drop 22 = dktX0_bestShut_1 := dk_seg dksX0_bestShut_0 22 rfl rfl
theorem dksX0_bestShut_2 : cX0_bestShut.data.toList.drop 46 = dktX0_bestShut_2 := dk_seg dksX0_bestShut_1 24 rfl rfl
theorem dksX0_bestShut_3 : cX0_bestShut.data.toList.drop 69 = dktX0_bestShut_3 := dk_seg dksX0_bestShut_2 23 rfl rfl
theorem dksX0_bestShut_4 : cX0_bestShut.data.toList.drop 92 = dktX0_bestShut_4 := dk_seg dksX0_bestShut_3 23 rfl rfl
theorem dX0_bestShut_0 : decode cX0_bestShut 0 = .ok (.bipush (-9), 2) := dk_16 247 (dk_at dksX0_bestShut_0 0 rfl rfl)
theorem dX0_bestShut_2 : decode cX0_bestShut 2 = .ok (.istore_n 2, 1) := dk_61 (dk_at dksX0_bestShut_0 2 rfl rfl)
theorem dX0_bestShut_3 : decode cX0_bestShut 3 = .ok (.aload_n 0, 1) := dk_42 (dk_at dksX0_bestShut_0 3 rfl rfl)
theorem dX0_bestShut_4 : decode cX0_bestShut 4 = .ok (.invokevirtual 126, 3) := dk_182 0 126 (dk_at dksX0_bestShut_0 4 rfl rfl)
theorem dX0_bestShut_7 : decode cX0_bestShut 7 = .ok (.iload_n 1, 1) := dk_27 (dk_at dksX0_bestShut_0 7 rfl rfl)
theorem dX0_bestShut_8 : decode cX0_bestShut 8 = .ok (.invokevirtual 147, 3) := dk_182 0 147 (dk_at dksX0_bestShut_0 8 rfl rfl)
theorem dX0_bestShut_11 : decode cX0_bestShut 11 = .ok (.iconst (-1), 1) := dk_2 (dk_at dksX0_bestShut_0 11 rfl rfl)
theorem dX0_bestShut_12 : decode cX0_bestShut 12 = .ok (.invokevirtual 137, 3) := dk_182 0 137 (dk_at dksX0_bestShut_0 12 rfl rfl)
theorem dX0_bestShut_15 : decode cX0_bestShut 15 = .ok (.istore_n 3, 1) := dk_62 (dk_at dksX0_bestShut_0 15 rfl rfl)
theorem dX0_bestShut_16 : decode cX0_bestShut 16 = .ok (.iconst 0, 1) := dk_3 (dk_at dksX0_bestShut_0 16 rfl rfl)
theorem dX0_bestShut_17 : decode cX0_bestShut 17 = .ok (.istore 4, 2) := dk_54 4 (dk_at dksX0_bestShut_0 17 rfl rfl)
theorem dX0_bestShut_19 : decode cX0_bestShut 19 = .ok (.iload 4, 2) := dk_21 4 (dk_at dksX0_bestShut_0 19 rfl rfl)
theorem dX0_bestShut_21 : decode cX0_bestShut 21 = .ok (.aload_n 0, 1) := dk_42 (dk_at dksX0_bestShut_0 21 rfl rfl)
theorem dX0_bestShut_22 : decode cX0_bestShut 22 = .ok (.getfield 69, 3) := dk_180 0 69 (dk_at dksX0_bestShut_1 0 rfl rfl)
theorem dX0_bestShut_25 : decode cX0_bestShut 25 = .ok (.getfield 179, 3) := dk_180 0 179 (dk_at dksX0_bestShut_1 3 rfl rfl)
theorem dX0_bestShut_28 : decode cX0_bestShut 28 = .ok (.if_icmp .ge 76, 3) := dk_162 0 76 (dk_at dksX0_bestShut_1 6 rfl rfl)
theorem dX0_bestShut_31 : decode cX0_bestShut 31 = .ok (.aload_n 0, 1) := dk_42 (dk_at dksX0_bestShut_1 9 rfl rfl)
theorem dX0_bestShut_32 : decode cX0_bestShut 32 = .ok (.getfield 69, 3) := dk_180 0 69 (dk_at dksX0_bestShut_1 10 rfl rfl)
theorem dX0_bestShut_35 : decode cX0_bestShut 35 = .ok (.getfield 182, 3) := dk_180 0 182 (dk_at dksX0_bestShut_1 13 rfl rfl)
theorem dX0_bestShut_38 : decode cX0_bestShut 38 = .ok (.iload 4, 2) := dk_21 4 (dk_at dksX0_bestShut_1 16 rfl rfl)
theorem dX0_bestShut_40 : decode cX0_bestShut 40 = .ok (.invokestatic 185, 3) := dk_184 0 185 (dk_at dksX0_bestShut_1 18 rfl rfl)
theorem dX0_bestShut_43 : decode cX0_bestShut 43 = .ok (.ifCond .ne 55, 3) := dk_154 0 55 (dk_at dksX0_bestShut_1 21 rfl rfl)
theorem dX0_bestShut_46 : decode cX0_bestShut 46 = .ok (.aload_n 0, 1) := dk_42 (dk_at dksX0_bestShut_2 0 rfl rfl)
theorem dX0_bestShut_47 : decode cX0_bestShut 47 = .ok (.invokevirtual 126, 3) := dk_182 0 126 (dk_at dksX0_bestShut_2 1 rfl rfl)
theorem dX0_bestShut_50 : decode cX0_bestShut 50 = .ok (.astore 5, 2) := dk_58 5 (dk_at dksX0_bestShut_2 4 rfl rfl)
theorem dX0_bestShut_52 : decode cX0_bestShut 52 = .ok (.aload 5, 2) := dk_25 5 (dk_at dksX0_bestShut_2 6 rfl rfl)
theorem dX0_bestShut_54 : decode cX0_bestShut 54 = .ok (.dup, 1) := dk_89 (dk_at dksX0_bestShut_2 8 rfl rfl)
theorem dX0_bestShut_55 : decode cX0_bestShut 55 = .ok (.getfield 182, 3) := dk_180 0 182 (dk_at dksX0_bestShut_2 9 rfl rfl)
theorem dX0_bestShut_58 : decode cX0_bestShut 58 = .ok (.iconst 1, 1) := dk_4 (dk_at dksX0_bestShut_2 12 rfl rfl)
theorem dX0_bestShut_59 : decode cX0_bestShut 59 = .ok (.iload 4, 2) := dk_21 4 (dk_at dksX0_bestShut_2 13 rfl rfl)
theorem dX0_bestShut_61 : decode cX0_bestShut 61 = .ok (.ishl, 1) := dk_120 (dk_at dksX0_bestShut_2 15 rfl rfl)
theorem dX0_bestShut_62 : decode cX0_bestShut 62 = .ok (.ior, 1) := dk_128 (dk_at dksX0_bestShut_2 16 rfl rfl)
theorem dX0_bestShut_63 : decode cX0_bestShut 63 = .ok (.putfield 182, 3) := dk_181 0 182 (dk_at dksX0_bestShut_2 17 rfl rfl)
theorem dX0_bestShut_66 : decode cX0_bestShut 66 = .ok (.aload 5, 2) := dk_25 5 (dk_at dksX0_bestShut_2 20 rfl rfl)
theorem dX0_bestShut_68 : decode cX0_bestShut 68 = .ok (.iload_n 1, 1) := dk_27 (dk_at dksX0_bestShut_2 22 rfl rfl)
theorem dX0_bestShut_69 : decode cX0_bestShut 69 = .ok (.invokevirtual 147, 3) := dk_182 0 147 (dk_at dksX0_bestShut_3 0 rfl rfl)
theorem dX0_bestShut_72 : decode cX0_bestShut 72 = .ok (.iconst (-1), 1) := dk_2 (dk_at dksX0_bestShut_3 3 rfl rfl)
theorem dX0_bestShut_73 : decode cX0_bestShut 73 = .ok (.invokevirtual 137, 3) := dk_182 0 137 (dk_at dksX0_bestShut_3 4 rfl rfl)
theorem dX0_bestShut_76 : decode cX0_bestShut 76 = .ok (.istore 6, 2) := dk_54 6 (dk_at dksX0_bestShut_3 7 rfl rfl)
theorem dX0_bestShut_78 : decode cX0_bestShut 78 = .ok (.iload 6, 2) := dk_21 6 (dk_at dksX0_bestShut_3 9 rfl rfl)
theorem dX0_bestShut_80 : decode cX0_bestShut 80 = .ok (.iload_n 3, 1) := dk_29 (dk_at dksX0_bestShut_3 11 rfl rfl)
theorem dX0_bestShut_81 : decode cX0_bestShut 81 = .ok (.if_icmp .ge 8, 3) := dk_162 0 8 (dk_at dksX0_bestShut_3 12 rfl rfl)
theorem dX0_bestShut_84 : decode cX0_bestShut 84 = .ok (.iload 4, 2) := dk_21 4 (dk_at dksX0_bestShut_3 15 rfl rfl)
theorem dX0_bestShut_86 : decode cX0_bestShut 86 = .ok (.goto 4, 3) := dk_167 0 4 (dk_at dksX0_bestShut_3 17 rfl rfl)
theorem dX0_bestShut_89 : decode cX0_bestShut 89 = .ok (.iload_n 2, 1) := dk_28 (dk_at dksX0_bestShut_3 20 rfl rfl)
theorem dX0_bestShut_90 : decode cX0_bestShut 90 = .ok (.istore_n 2, 1) := dk_61 (dk_at dksX0_bestShut_3 21 rfl rfl)
theorem dX0_bestShut_91 : decode cX0_bestShut 91 = .ok (.iload_n 3, 1) := dk_29 (dk_at dksX0_bestShut_3 22 rfl rfl)
theorem dX0_bestShut_92 : decode cX0_bestShut 92 = .ok (.iload 6, 2) := dk_21 6 (dk_at dksX0_bestShut_4 0 rfl rfl)
theorem dX0_bestShut_94 : decode cX0_bestShut 94 = .ok (.invokestatic 173, 3) := dk_184 0 173 (dk_at dksX0_bestShut_4 2 rfl rfl)
theorem dX0_bestShut_97 : decode cX0_bestShut 97 = .ok (.istore_n 3, 1) := dk_62 (dk_at dksX0_bestShut_4 5 rfl rfl)
theorem dX0_bestShut_98 : decode cX0_bestShut 98 = .ok (.iinc 4 1, 3) := dk_132 4 1 (dk_at dksX0_bestShut_4 6 rfl rfl)
theorem dX0_bestShut_101 : decode cX0_bestShut 101 = .ok (.goto (-82), 3) := dk_167 255 174 (dk_at dksX0_bestShut_4 9 rfl rfl)
theorem dX0_bestShut_104 : decode cX0_bestShut 104 = .ok (.iload_n 2, 1) := dk_28 (dk_at dksX0_bestShut_4 12 rfl rfl)
theorem dX0_bestShut_105 : decode cX0_bestShut 105 = .ok (.ireturn, 1) := dk_172 (dk_at dksX0_bestShut_4 13 rfl rfl)
abbrev cX0_bestSeats : ByteArray := prog_1_method_21_code
def yX0_bestSeats : MethodName := ⟨RX0, "bestSeats", "(I)I"⟩
def dkwX0_bestSeats_6 : List UInt8 := [28, 172]
abbrev dktX0_bestSeats_6 : List UInt8 := dkwX0_bestSeats_6 ++ []
def dkwX0_bestSeats_5 : List UInt8 := [167, 0, 4, 28, 61, 29, 21, 7, 184, 0, 173, 62, 132, 5, 1, 167, 255, 161, 132, 4, 1, 167, 255, 137]
abbrev dktX0_bestSeats_5 : List UInt8 := dkwX0_bestSeats_5 ++ dktX0_bestSeats_6
def dkwX0_bestSeats_4 : List UInt8 := [27, 182, 0, 147, 2, 182, 0, 137, 54, 7, 21, 7, 29, 162, 0, 14, 16, 10, 21, 4, 104, 21, 5, 96]
abbrev dktX0_bestSeats_4 : List UInt8 := dkwX0_bestSeats_4 ++ dktX0_bestSeats_5
def dkwX0_bestSeats_3 : List UInt8 := [21, 5, 46, 79, 25, 6, 180, 0, 192, 21, 5, 42, 180, 0, 69, 180, 0, 192, 21, 4, 46, 79, 25, 6]
abbrev dktX0_bestSeats_3 : List UInt8 := dkwX0_bestSeats_3 ++ dktX0_bestSeats_4
def dkwX0_bestSeats_2 : List UInt8 := [162, 0, 89, 42, 182, 0, 126, 58, 6, 25, 6, 180, 0, 192, 21, 4, 42, 180, 0, 69, 180, 0, 192]
abbrev dktX0_bestSeats_2 : List UInt8 := dkwX0_bestSeats_2 ++ dktX0_bestSeats_3
def dkwX0_bestSeats_1 : List UInt8 := [180, 0, 69, 180, 0, 189, 162, 0, 113, 21, 4, 4, 96, 54, 5, 21, 5, 42, 180, 0, 69, 180, 0, 189]
abbrev dktX0_bestSeats_1 : List UInt8 := dkwX0_bestSeats_1 ++ dktX0_bestSeats_2
def dkwX0_bestSeats_0 : List UInt8 := [16, 247, 61, 42, 182, 0, 126, 27, 182, 0, 147, 2, 182, 0, 137, 62, 3, 54, 4, 21, 4, 42]
abbrev dktX0_bestSeats_0 : List UInt8 := dkwX0_bestSeats_0 ++ dktX0_bestSeats_1
theorem dksX0_bestSeats_0 : cX0_bestSeats.data.toList.drop 0 = dktX0_bestSeats_0 := by decide +kernel
theorem dksX0_bestSeats_1 : cX0_bestSeats.data.toList.drop 22 = dktX0_bestSeats_1 := dk_seg dksX0_bestSeats_0 22 rfl rfl
theorem dksX0_bestSeats_2 : cX0_bestSeats.data.toList.drop 46 = dktX0_bestSeats_2 := dk_seg dksX0_bestSeats_1 24 rfl rfl
theorem dksX0_bestSeats_3 : cX0_bestSeats.data.toList.drop 69 = dktX0_bestSeats_3 := dk_seg dksX0_bestSeats_2 23 rfl rfl
theorem dksX0_bestSeats_4 : cX0_bestSeats.data.toList.drop 93 = dktX0_bestSeats_4 := dk_seg dksX0_bestSeats_3 24 rfl rfl
theorem dksX0_bestSeats_5 : cX0_bestSeats.data.toList.drop 117 = dktX0_bestSeats_5 := dk_seg dksX0_bestSeats_4 24 rfl rfl
theorem dksX0_bestSeats_6 : cX0_bestSeats.data.toList.drop 141 = dktX0_bestSeats_6 := dk_seg dksX0_bestSeats_5 24 rfl rfl
theorem dX0_bestSeats_0 : decode cX0_bestSeats 0 = .ok (.bipush (-9), 2) := dk_16 247 (dk_at dksX0_bestSeats_0 0 rfl rfl)
theorem dX0_bestSeats_2 : decode cX0_bestSeats 2 = .ok (.istore_n 2, 1) := dk_61 (dk_at dksX0_bestSeats_0 2 rfl rfl)
theorem dX0_bestSeats_3 : decode cX0_bestSeats 3 = .ok (.aload_n 0, 1) := dk_42 (dk_at dksX0_bestSeats_0 3 rfl rfl)
theorem dX0_bestSeats_4 : decode cX0_bestSeats 4 = .ok (.invokevirtual 126, 3) := dk_182 0 126 (dk_at dksX0_bestSeats_0 4 rfl rfl)
theorem dX0_bestSeats_7 : decode cX0_bestSeats 7 = .ok (.iload_n 1, 1) := dk_27 (dk_at dksX0_bestSeats_0 7 rfl rfl)
theorem dX0_bestSeats_8 : decode cX0_bestSeats 8 = .ok (.invokevirtual 147, 3) := dk_182 0 147 (dk_at dksX0_bestSeats_0 8 rfl rfl)
theorem dX0_bestSeats_11 : decode cX0_bestSeats 11 = .ok (.iconst (-1), 1) := dk_2 (dk_at dksX0_bestSeats_0 11 rfl rfl)
theorem dX0_bestSeats_12 : decode cX0_bestSeats 12 = .ok (.invokevirtual 137, 3) := dk_182 0 137 (dk_at dksX0_bestSeats_0 12 rfl rfl)
theorem dX0_bestSeats_15 : decode cX0_bestSeats 15 = .ok (.istore_n 3, 1) := dk_62 (dk_at dksX0_bestSeats_0 15 rfl rfl)
theorem dX0_bestSeats_16 : decode cX0_bestSeats 16 = .ok (.iconst 0, 1) := dk_3 (dk_at dksX0_bestSeats_0 16 rfl rfl)
theorem dX0_bestSeats_17 : decode cX0_bestSeats 17 = .ok (.istore 4, 2) := dk_54 4 (dk_at dksX0_bestSeats_0 17 rfl rfl)
theorem dX0_bestSeats_19 : decode cX0_bestSeats 19 = .ok (.iload 4, 2) := dk_21 4 (dk_at dksX0_bestSeats_0 19 rfl rfl)
theorem dX0_bestSeats_21 : decode cX0_bestSeats 21 = .ok (.aload_n 0, 1) := dk_42 (dk_at dksX0_bestSeats_0 21 rfl rfl)
theorem dX0_bestSeats_22 : decode cX0_bestSeats 22 = .ok (.getfield 69, 3) := dk_180 0 69 (dk_at dksX0_bestSeats_1 0 rfl rfl)
theorem dX0_bestSeats_25 : decode cX0_bestSeats 25 = .ok (.getfield 189, 3) := dk_180 0 189 (dk_at dksX0_bestSeats_1 3 rfl rfl)
theorem dX0_bestSeats_28 : decode cX0_bestSeats 28 = .ok (.if_icmp .ge 113, 3) := dk_162 0 113 (dk_at dksX0_bestSeats_1 6 rfl rfl)
theorem dX0_bestSeats_31 : decode cX0_bestSeats 31 = .ok (.iload 4, 2) := dk_21 4 (dk_at dksX0_bestSeats_1 9 rfl rfl)
theorem dX0_bestSeats_33 : decode cX0_bestSeats 33 = .ok (.iconst 1, 1) := dk_4 (dk_at dksX0_bestSeats_1 11 rfl rfl)
theorem dX0_bestSeats_34 : decode cX0_bestSeats 34 = .ok (.iadd, 1) := dk_96 (dk_at dksX0_bestSeats_1 12 rfl rfl)
theorem dX0_bestSeats_35 : decode cX0_bestSeats 35 = .ok (.istore 5, 2) := dk_54 5 (dk_at dksX0_bestSeats_1 13 rfl rfl)
theorem dX0_bestSeats_37 : decode cX0_bestSeats 37 = .ok (.iload 5, 2) := dk_21 5 (dk_at dksX0_bestSeats_1 15 rfl rfl)
theorem dX0_bestSeats_39 : decode cX0_bestSeats 39 = .ok (.aload_n 0, 1) := dk_42 (dk_at dksX0_bestSeats_1 17 rfl rfl)
theorem dX0_bestSeats_40 : decode cX0_bestSeats 40 = .ok (.getfield 69, 3) := dk_180 0 69 (dk_at dksX0_bestSeats_1 18 rfl rfl)
theorem dX0_bestSeats_43 : decode cX0_bestSeats 43 = .ok (.getfield 189, 3) := dk_180 0 189 (dk_at dksX0_bestSeats_1 21 rfl rfl)
theorem dX0_bestSeats_46 : decode cX0_bestSeats 46 = .ok (.if_icmp .ge 89, 3) := dk_162 0 89 (dk_at dksX0_bestSeats_2 0 rfl rfl)
theorem dX0_bestSeats_49 : decode cX0_bestSeats 49 = .ok (.aload_n 0, 1) := dk_42 (dk_at dksX0_bestSeats_2 3 rfl rfl)
theorem dX0_bestSeats_50 : decode cX0_bestSeats 50 = .ok (.invokevirtual 126, 3) := dk_182 0 126 (dk_at dksX0_bestSeats_2 4 rfl rfl)
theorem dX0_bestSeats_53 : decode cX0_bestSeats 53 = .ok (.astore 6, 2) := dk_58 6 (dk_at dksX0_bestSeats_2 7 rfl rfl)
theorem dX0_bestSeats_55 : decode cX0_bestSeats 55 = .ok (.aload 6, 2) := dk_25 6 (dk_at dksX0_bestSeats_2 9 rfl rfl)
theorem dX0_bestSeats_57 : decode cX0_bestSeats 57 = .ok (.getfield 192, 3) := dk_180 0 192 (dk_at dksX0_bestSeats_2 11 rfl rfl)
theorem dX0_bestSeats_60 : decode cX0_bestSeats 60 = .ok (.iload 4, 2) := dk_21 4 (dk_at dksX0_bestSeats_2 14 rfl rfl)
theorem dX0_bestSeats_62 : decode cX0_bestSeats 62 = .ok (.aload_n 0, 1) := dk_42 (dk_at dksX0_bestSeats_2 16 rfl rfl)
theorem dX0_bestSeats_63 : decode cX0_bestSeats 63 = .ok (.getfield 69, 3) := dk_180 0 69 (dk_at dksX0_bestSeats_2 17 rfl rfl)
theorem dX0_bestSeats_66 : decode cX0_bestSeats 66 = .ok (.getfield 192, 3) := dk_180 0 192 (dk_at dksX0_bestSeats_2 20 rfl rfl)
theorem dX0_bestSeats_69 : decode cX0_bestSeats 69 = .ok (.iload 5, 2) := dk_21 5 (dk_at dksX0_bestSeats_3 0 rfl rfl)
theorem dX0_bestSeats_71 : decode cX0_bestSeats 71 = .ok (.iaload, 1) := dk_46 (dk_at dksX0_bestSeats_3 2 rfl rfl)
theorem dX0_bestSeats_72 : decode cX0_bestSeats 72 = .ok (.iastore, 1) := dk_79 (dk_at dksX0_bestSeats_3 3 rfl rfl)
theorem dX0_bestSeats_73 : decode cX0_bestSeats 73 = .ok (.aload 6, 2) := dk_25 6 (dk_at dksX0_bestSeats_3 4 rfl rfl)
theorem dX0_bestSeats_75 : decode cX0_bestSeats 75 = .ok (.getfield 192, 3) := dk_180 0 192 (dk_at dksX0_bestSeats_3 6 rfl rfl)
theorem dX0_bestSeats_78 : decode cX0_bestSeats 78 = .ok (.iload 5, 2) := dk_21 5 (dk_at dksX0_bestSeats_3 9 rfl rfl)
theorem dX0_bestSeats_80 : decode cX0_bestSeats 80 = .ok (.aload_n 0, 1) := dk_42 (dk_at dksX0_bestSeats_3 11 rfl rfl)
theorem dX0_bestSeats_81 : decode cX0_bestSeats 81 = .ok (.getfield 69, 3) := dk_180 0 69 (dk_at dksX0_bestSeats_3 12 rfl rfl)
theorem dX0_bestSeats_84 : decode cX0_bestSeats 84 = .ok (.getfield 192, 3) := dk_180 0 192 (dk_at dksX0_bestSeats_3 15 rfl rfl)
theorem dX0_bestSeats_87 : decode cX0_bestSeats 87 = .ok (.iload 4, 2) := dk_21 4 (dk_at dksX0_bestSeats_3 18 rfl rfl)
theorem dX0_bestSeats_89 : decode cX0_bestSeats 89 = .ok (.iaload, 1) := dk_46 (dk_at dksX0_bestSeats_3 20 rfl rfl)
theorem dX0_bestSeats_90 : decode cX0_bestSeats 90 = .ok (.iastore, 1) := dk_79 (dk_at dksX0_bestSeats_3 21 rfl rfl)
theorem dX0_bestSeats_91 : decode cX0_bestSeats 91 = .ok (.aload 6, 2) := dk_25 6 (dk_at dksX0_bestSeats_3 22 rfl rfl)
theorem dX0_bestSeats_93 : decode cX0_bestSeats 93 = .ok (.iload_n 1, 1) := dk_27 (dk_at dksX0_bestSeats_4 0 rfl rfl)
theorem dX0_bestSeats_94 : decode cX0_bestSeats 94 = .ok (.invokevirtual 147, 3) := dk_182 0 147 (dk_at dksX0_bestSeats_4 1 rfl rfl)
theorem dX0_bestSeats_97 : decode cX0_bestSeats 97 = .ok (.iconst (-1), 1) := dk_2 (dk_at dksX0_bestSeats_4 4 rfl rfl)
theorem dX0_bestSeats_98 : decode cX0_bestSeats 98 = .ok (.invokevirtual 137, 3) := dk_182 0 137 (dk_at dksX0_bestSeats_4 5 rfl rfl)
theorem dX0_bestSeats_101 : decode cX0_bestSeats 101 = .ok (.istore 7, 2) := dk_54 7 (dk_at dksX0_bestSeats_4 8 rfl rfl)
theorem dX0_bestSeats_103 : decode cX0_bestSeats 103 = .ok (.iload 7, 2) := dk_21 7 (dk_at dksX0_bestSeats_4 10 rfl rfl)
theorem dX0_bestSeats_105 : decode cX0_bestSeats 105 = .ok (.iload_n 3, 1) := dk_29 (dk_at dksX0_bestSeats_4 12 rfl rfl)
theorem dX0_bestSeats_106 : decode cX0_bestSeats 106 = .ok (.if_icmp .ge 14, 3) := dk_162 0 14 (dk_at dksX0_bestSeats_4 13 rfl rfl)
theorem dX0_bestSeats_109 : decode cX0_bestSeats 109 = .ok (.bipush 10, 2) := dk_16 10 (dk_at dksX0_bestSeats_4 16 rfl rfl)
theorem dX0_bestSeats_111 : decode cX0_bestSeats 111 = .ok (.iload 4, 2) := dk_21 4 (dk_at dksX0_bestSeats_4 18 rfl rfl)
theorem dX0_bestSeats_113 : decode cX0_bestSeats 113 = .ok (.imul, 1) := dk_104 (dk_at dksX0_bestSeats_4 20 rfl rfl)
theorem dX0_bestSeats_114 : decode cX0_bestSeats 114 = .ok (.iload 5, 2) := dk_21 5 (dk_at dksX0_bestSeats_4 21 rfl rfl)
theorem dX0_bestSeats_116 : decode cX0_bestSeats 116 = .ok (.iadd, 1) := dk_96 (dk_at dksX0_bestSeats_4 23 rfl rfl)
theorem dX0_bestSeats_117 : decode cX0_bestSeats 117 = .ok (.goto 4, 3) := dk_167 0 4 (dk_at dksX0_bestSeats_5 0 rfl rfl)
theorem dX0_bestSeats_120 : decode cX0_bestSeats 120 = .ok (.iload_n 2, 1) := dk_28 (dk_at dksX0_bestSeats_5 3 rfl rfl)
theorem dX0_bestSeats_121 : decode cX0_bestSeats 121 = .ok (.istore_n 2, 1) := dk_61 (dk_at dksX0_bestSeats_5 4 rfl rfl)
theorem dX0_bestSeats_122 : decode cX0_bestSeats 122 = .ok (.iload_n 3, 1) := dk_29 (dk_at dksX0_bestSeats_5 5 rfl rfl)
theorem dX0_bestSeats_123 : decode cX0_bestSeats 123 = .ok (.iload 7, 2) := dk_21 7 (dk_at dksX0_bestSeats_5 6 rfl rfl)
theorem dX0_bestSeats_125 : decode cX0_bestSeats 125 = .ok (.invokestatic 173, 3) := dk_184 0 173 (dk_at dksX0_bestSeats_5 8 rfl rfl)
theorem dX0_bestSeats_128 : decode cX0_bestSeats 128 = .ok (.istore_n 3, 1) := dk_62 (dk_at dksX0_bestSeats_5 11 rfl rfl)
theorem dX0_bestSeats_129 : decode cX0_bestSeats 129 = .ok (.iinc 5 1, 3) := dk_132 5 1 (dk_at dksX0_bestSeats_5 12 rfl rfl)
theorem dX0_bestSeats_132 : decode cX0_bestSeats 132 = .ok (.goto (-95), 3) := dk_167 255 161 (dk_at dksX0_bestSeats_5 15 rfl rfl)
theorem dX0_bestSeats_135 : decode cX0_bestSeats 135 = .ok (.iinc 4 1, 3) := dk_132 4 1 (dk_at dksX0_bestSeats_5 18 rfl rfl)
theorem dX0_bestSeats_138 : decode cX0_bestSeats 138 = .ok (.goto (-119), 3) := dk_167 255 137 (dk_at dksX0_bestSeats_5 21 rfl rfl)
theorem dX0_bestSeats_141 : decode cX0_bestSeats 141 = .ok (.iload_n 2, 1) := dk_28 (dk_at dksX0_bestSeats_6 0 rfl rfl)
theorem dX0_bestSeats_142 : decode cX0_bestSeats 142 = .ok (.ireturn, 1) := dk_172 (dk_at dksX0_bestSeats_6 1 rfl rfl)
abbrev cX0_writeAsked : ByteArray := prog_1_method_53_code
def yX0_writeAsked : MethodName := ⟨RX0, "writeAsked", "(III)I"⟩
def dkwX0_writeAsked_3 : List UInt8 := [3, 16, 253, 184, 0, 9, 42, 27, 28, 29, 182, 1, 129, 172]
abbrev dktX0_writeAsked_3 : List UInt8 := dkwX0_writeAsked_3 ++ []
def dkwX0_writeAsked_2 : List UInt8 := [3, 16, 250, 184, 0, 9, 29, 184, 1, 80, 42, 180, 0, 69, 180, 0, 189, 158, 0, 7, 4, 167, 0, 4]
abbrev dktX0_writeAsked_2 : List UInt8 := dkwX0_writeAsked_2 ++ dktX0_writeAsked_3
def dkwX0_writeAsked_1 : List UInt8 := [163, 0, 24, 28, 16, 60, 163, 0, 18, 42, 180, 0, 69, 180, 0, 151, 8, 162, 0, 7, 4, 167, 0, 4]
abbrev dktX0_writeAsked_1 : List UInt8 := dkwX0_writeAsked_1 ++ dktX0_writeAsked_2
def dkwX0_writeAsked_0 : List UInt8 := [27, 4, 161, 0, 11, 28, 155, 0, 7, 4, 167, 0, 4, 3, 16, 252, 184, 0, 9, 27, 16, 9]
abbrev dktX0_writeAsked_0 : List UInt8 := dkwX0_writeAsked_0 ++ dktX0_writeAsked_1
theorem dksX0_writeAsked_0 : cX0_writeAsked.data.toList.drop 0 = dktX0_writeAsked_0 := by decide +kernel
theorem dksX0_writeAsked_1 : cX0_writeAsked.data.toList.drop 22 = dktX0_writeAsked_1 := dk_seg dksX0_writeAsked_0 22 rfl rfl
theorem dksX0_writeAsked_2 : cX0_writeAsked.data.toList.drop 46 = dktX0_writeAsked_2 := dk_seg dksX0_writeAsked_1 24 rfl rfl
theorem dksX0_writeAsked_3 : cX0_writeAsked.data.toList.drop 70 = dktX0_writeAsked_3 := dk_seg dksX0_writeAsked_2 24 rfl rfl
theorem dX0_writeAsked_0 : decode cX0_writeAsked 0 = .ok (.iload_n 1, 1) := dk_27 (dk_at dksX0_writeAsked_0 0 rfl rfl)
theorem dX0_writeAsked_1 : decode cX0_writeAsked 1 = .ok (.iconst 1, 1) := dk_4 (dk_at dksX0_writeAsked_0 1 rfl rfl)
theorem dX0_writeAsked_2 : decode cX0_writeAsked 2 = .ok (.if_icmp .lt 11, 3) := dk_161 0 11 (dk_at dksX0_writeAsked_0 2 rfl rfl)
theorem dX0_writeAsked_5 : decode cX0_writeAsked 5 = .ok (.iload_n 2, 1) := dk_28 (dk_at dksX0_writeAsked_0 5 rfl rfl)
theorem dX0_writeAsked_6 : decode cX0_writeAsked 6 = .ok (.ifCond .lt 7, 3) := dk_155 0 7 (dk_at dksX0_writeAsked_0 6 rfl rfl)
theorem dX0_writeAsked_9 : decode cX0_writeAsked 9 = .ok (.iconst 1, 1) := dk_4 (dk_at dksX0_writeAsked_0 9 rfl rfl)
theorem dX0_writeAsked_10 : decode cX0_writeAsked 10 = .ok (.goto 4, 3) := dk_167 0 4 (dk_at dksX0_writeAsked_0 10 rfl rfl)
theorem dX0_writeAsked_13 : decode cX0_writeAsked 13 = .ok (.iconst 0, 1) := dk_3 (dk_at dksX0_writeAsked_0 13 rfl rfl)
theorem dX0_writeAsked_14 : decode cX0_writeAsked 14 = .ok (.bipush (-4), 2) := dk_16 252 (dk_at dksX0_writeAsked_0 14 rfl rfl)
theorem dX0_writeAsked_16 : decode cX0_writeAsked 16 = .ok (.invokestatic 9, 3) := dk_184 0 9 (dk_at dksX0_writeAsked_0 16 rfl rfl)
theorem dX0_writeAsked_19 : decode cX0_writeAsked 19 = .ok (.iload_n 1, 1) := dk_27 (dk_at dksX0_writeAsked_0 19 rfl rfl)
theorem dX0_writeAsked_20 : decode cX0_writeAsked 20 = .ok (.bipush 9, 2) := dk_16 9 (dk_at dksX0_writeAsked_0 20 rfl rfl)
theorem dX0_writeAsked_22 : decode cX0_writeAsked 22 = .ok (.if_icmp .gt 24, 3) := dk_163 0 24 (dk_at dksX0_writeAsked_1 0 rfl rfl)
theorem dX0_writeAsked_25 : decode cX0_writeAsked 25 = .ok (.iload_n 2, 1) := dk_28 (dk_at dksX0_writeAsked_1 3 rfl rfl)
theorem dX0_writeAsked_26 : decode cX0_writeAsked 26 = .ok (.bipush 60, 2) := dk_16 60 (dk_at dksX0_writeAsked_1 4 rfl rfl)
theorem dX0_writeAsked_28 : decode cX0_writeAsked 28 = .ok (.if_icmp .gt 18, 3) := dk_163 0 18 (dk_at dksX0_writeAsked_1 6 rfl rfl)
theorem dX0_writeAsked_31 : decode cX0_writeAsked 31 = .ok (.aload_n 0, 1) := dk_42 (dk_at dksX0_writeAsked_1 9 rfl rfl)
theorem dX0_writeAsked_32 : decode cX0_writeAsked 32 = .ok (.getfield 69, 3) := dk_180 0 69 (dk_at dksX0_writeAsked_1 10 rfl rfl)
theorem dX0_writeAsked_35 : decode cX0_writeAsked 35 = .ok (.getfield 151, 3) := dk_180 0 151 (dk_at dksX0_writeAsked_1 13 rfl rfl)
theorem dX0_writeAsked_38 : decode cX0_writeAsked 38 = .ok (.iconst 5, 1) := dk_8 (dk_at dksX0_writeAsked_1 16 rfl rfl)
theorem dX0_writeAsked_39 : decode cX0_writeAsked 39 = .ok (.if_icmp .ge 7, 3) := dk_162 0 7 (dk_at dksX0_writeAsked_1 17 rfl rfl)
theorem dX0_writeAsked_42 : decode cX0_writeAsked 42 = .ok (.iconst 1, 1) := dk_4 (dk_at dksX0_writeAsked_1 20 rfl rfl)
theorem dX0_writeAsked_43 : decode cX0_writeAsked 43 = .ok (.goto 4, 3) := dk_167 0 4 (dk_at dksX0_writeAsked_1 21 rfl rfl)
theorem dX0_writeAsked_46 : decode cX0_writeAsked 46 = .ok (.iconst 0, 1) := dk_3 (dk_at dksX0_writeAsked_2 0 rfl rfl)
theorem dX0_writeAsked_47 : decode cX0_writeAsked 47 = .ok (.bipush (-6), 2) := dk_16 250 (dk_at dksX0_writeAsked_2 1 rfl rfl)
theorem dX0_writeAsked_49 : decode cX0_writeAsked 49 = .ok (.invokestatic 9, 3) := dk_184 0 9 (dk_at dksX0_writeAsked_2 3 rfl rfl)
theorem dX0_writeAsked_52 : decode cX0_writeAsked 52 = .ok (.iload_n 3, 1) := dk_29 (dk_at dksX0_writeAsked_2 6 rfl rfl)
theorem dX0_writeAsked_53 : decode cX0_writeAsked 53 = .ok (.invokestatic 336, 3) := dk_184 1 80 (dk_at dksX0_writeAsked_2 7 rfl rfl)
theorem dX0_writeAsked_56 : decode cX0_writeAsked 56 = .ok (.aload_n 0, 1) := dk_42 (dk_at dksX0_writeAsked_2 10 rfl rfl)
theorem dX0_writeAsked_57 : decode cX0_writeAsked 57 = .ok (.getfield 69, 3) := dk_180 0 69 (dk_at dksX0_writeAsked_2 11 rfl rfl)
theorem dX0_writeAsked_60 : decode cX0_writeAsked 60 = .ok (.getfield 189, 3) := dk_180 0 189 (dk_at dksX0_writeAsked_2 14 rfl rfl)
theorem dX0_writeAsked_63 : decode cX0_writeAsked 63 = .ok (.ifCond .le 7, 3) := dk_158 0 7 (dk_at dksX0_writeAsked_2 17 rfl rfl)
theorem dX0_writeAsked_66 : decode cX0_writeAsked 66 = .ok (.iconst 1, 1) := dk_4 (dk_at dksX0_writeAsked_2 20 rfl rfl)
theorem dX0_writeAsked_67 : decode cX0_writeAsked 67 = .ok (.goto 4, 3) := dk_167 0 4 (dk_at dksX0_writeAsked_2 21 rfl rfl)
theorem dX0_writeAsked_70 : decode cX0_writeAsked 70 = .ok (.iconst 0, 1) := dk_3 (dk_at dksX0_writeAsked_3 0 rfl rfl)
theorem dX0_writeAsked_71 : decode cX0_writeAsked 71 = .ok (.bipush (-3), 2) := dk_16 253 (dk_at dksX0_writeAsked_3 1 rfl rfl)
theorem dX0_writeAsked_73 : decode cX0_writeAsked 73 = .ok (.invokestatic 9, 3) := dk_184 0 9 (dk_at dksX0_writeAsked_3 3 rfl rfl)
theorem dX0_writeAsked_76 : decode cX0_writeAsked 76 = .ok (.aload_n 0, 1) := dk_42 (dk_at dksX0_writeAsked_3 6 rfl rfl)
theorem dX0_writeAsked_77 : decode cX0_writeAsked 77 = .ok (.iload_n 1, 1) := dk_27 (dk_at dksX0_writeAsked_3 7 rfl rfl)
theorem dX0_writeAsked_78 : decode cX0_writeAsked 78 = .ok (.iload_n 2, 1) := dk_28 (dk_at dksX0_writeAsked_3 8 rfl rfl)
theorem dX0_writeAsked_79 : decode cX0_writeAsked 79 = .ok (.iload_n 3, 1) := dk_29 (dk_at dksX0_writeAsked_3 9 rfl rfl)
theorem dX0_writeAsked_80 : decode cX0_writeAsked 80 = .ok (.invokevirtual 385, 3) := dk_182 1 129 (dk_at dksX0_writeAsked_3 10 rfl rfl)
theorem dX0_writeAsked_83 : decode cX0_writeAsked 83 = .ok (.ireturn, 1) := dk_172 (dk_at dksX0_writeAsked_3 13 rfl rfl)
abbrev cX0_writeTold : ByteArray := prog_1_method_22_code
def yX0_writeTold : MethodName := ⟨RX0, "writeTold", "(III)I"⟩
def dkwX0_writeTold_6 : List UInt8 := [21, 4, 167, 0, 5, 21, 5, 172]
abbrev dktX0_writeTold_6 : List UInt8 := dkwX0_writeTold_6 ++ []
def dkwX0_writeTold_5 : List UInt8 := [21, 10, 184, 0, 141, 54, 5, 132, 7, 1, 167, 255, 154, 132, 6, 1, 167, 255, 135, 29, 154, 0, 8]
abbrev dktX0_writeTold_5 : List UInt8 := dkwX0_writeTold_5 ++ dktX0_writeTold_6
def dkwX0_writeTold_4 : List UInt8 := [21, 10, 21, 5, 164, 0, 14, 16, 10, 21, 6, 104, 21, 7, 96, 167, 0, 5, 21, 4, 54, 4, 21, 5]
abbrev dktX0_writeTold_4 : List UInt8 := dkwX0_writeTold_4 ++ dktX0_writeTold_5
def dkwX0_writeTold_3 : List UInt8 := [181, 0, 151, 25, 8, 3, 21, 9, 182, 0, 176, 25, 8, 28, 182, 0, 147, 21, 9, 182, 0, 137, 54, 10]
abbrev dktX0_writeTold_3 : List UInt8 := dkwX0_writeTold_3 ++ dktX0_writeTold_4
def dkwX0_writeTold_2 : List UInt8 := [180, 0, 195, 21, 9, 21, 6, 21, 7, 27, 184, 0, 199, 83, 25, 8, 89, 180, 0, 151, 4, 96]
abbrev dktX0_writeTold_2 : List UInt8 := dkwX0_writeTold_2 ++ dktX0_writeTold_3
def dkwX0_writeTold_1 : List UInt8 := [21, 7, 16, 9, 163, 0, 101, 42, 182, 0, 126, 58, 8, 25, 8, 180, 0, 151, 54, 9, 25, 8]
abbrev dktX0_writeTold_1 : List UInt8 := dkwX0_writeTold_1 ++ dktX0_writeTold_2
def dkwX0_writeTold_0 : List UInt8 := [16, 247, 54, 4, 2, 54, 5, 3, 54, 6, 21, 6, 42, 180, 0, 62, 190, 162, 0, 117, 3, 54, 7]
abbrev dktX0_writeTold_0 : List UInt8 := dkwX0_writeTold_0 ++ dktX0_writeTold_1
theorem dksX0_writeTold_0 : cX0_writeTold.data.toList.drop 0 = dktX0_writeTold_0 := by decide +kernel
theorem dksX0_writeTold_1 : cX0_writeTold.data.toList.drop 23 = dktX0_writeTold_1 := dk_seg dksX0_writeTold_0 23 rfl rfl
theorem dksX0_writeTold_2 : cX0_writeTold.data.toList.drop 45 = dktX0_writeTold_2 := dk_seg dksX0_writeTold_1 22 rfl rfl
theorem dksX0_writeTold_3 : cX0_writeTold.data.toList.drop 67 = dktX0_writeTold_3 := dk_seg dksX0_writeTold_2 22 rfl rfl
theorem dksX0_writeTold_4 : cX0_writeTold.data.toList.drop 91 = dktX0_writeTold_4 := dk_seg dksX0_writeTold_3 24 rfl rfl
theorem dksX0_writeTold_5 : cX0_writeTold.data.toList.drop 115 = dktX0_writeTold_5 := dk_seg dksX0_writeTold_4 24 rfl rfl
theorem dksX0_writeTold_6 : cX0_writeTold.data.toList.drop 138 = dktX0_writeTold_6 := dk_seg dksX0_writeTold_5 23 rfl rfl
theorem dX0_writeTold_0 : decode cX0_writeTold 0 = .ok (.bipush (-9), 2) := dk_16 247 (dk_at dksX0_writeTold_0 0 rfl rfl)
theorem dX0_writeTold_2 : decode cX0_writeTold 2 = .ok (.istore 4, 2) := dk_54 4 (dk_at dksX0_writeTold_0 2 rfl rfl)
theorem dX0_writeTold_4 : decode cX0_writeTold 4 = .ok (.iconst (-1), 1) := dk_2 (dk_at dksX0_writeTold_0 4 rfl rfl)
theorem dX0_writeTold_5 : decode cX0_writeTold 5 = .ok (.istore 5, 2) := dk_54 5 (dk_at dksX0_writeTold_0 5 rfl rfl)
theorem dX0_writeTold_7 : decode cX0_writeTold 7 = .ok (.iconst 0, 1) := dk_3 (dk_at dksX0_writeTold_0 7 rfl rfl)
theorem dX0_writeTold_8 : decode cX0_writeTold 8 = .ok (.istore 6, 2) := dk_54 6 (dk_at dksX0_writeTold_0 8 rfl rfl)
theorem dX0_writeTold_10 : decode cX0_writeTold 10 = .ok (.iload 6, 2) := dk_21 6 (dk_at dksX0_writeTold_0 10 rfl rfl)
theorem dX0_writeTold_12 : decode cX0_writeTold 12 = .ok (.aload_n 0, 1) := dk_42 (dk_at dksX0_writeTold_0 12 rfl rfl)
theorem dX0_writeTold_13 : decode cX0_writeTold 13 = .ok (.getfield 62, 3) := dk_180 0 62 (dk_at dksX0_writeTold_0 13 rfl rfl)
theorem dX0_writeTold_16 : decode cX0_writeTold 16 = .ok (.arraylength, 1) := dk_190 (dk_at dksX0_writeTold_0 16 rfl rfl)
theorem dX0_writeTold_17 : decode cX0_writeTold 17 = .ok (.if_icmp .ge 117, 3) := dk_162 0 117 (dk_at dksX0_writeTold_0 17 rfl rfl)
theorem dX0_writeTold_20 : decode cX0_writeTold 20 = .ok (.iconst 0, 1) := dk_3 (dk_at dksX0_writeTold_0 20 rfl rfl)
theorem dX0_writeTold_21 : decode cX0_writeTold 21 = .ok (.istore 7, 2) := dk_54 7 (dk_at dksX0_writeTold_0 21 rfl rfl)
theorem dX0_writeTold_23 : decode cX0_writeTold 23 = .ok (.iload 7, 2) := dk_21 7 (dk_at dksX0_writeTold_1 0 rfl rfl)
theorem dX0_writeTold_25 : decode cX0_writeTold 25 = .ok (.bipush 9, 2) := dk_16 9 (dk_at dksX0_writeTold_1 2 rfl rfl)
theorem dX0_writeTold_27 : decode cX0_writeTold 27 = .ok (.if_icmp .gt 101, 3) := dk_163 0 101 (dk_at dksX0_writeTold_1 4 rfl rfl)
theorem dX0_writeTold_30 : decode cX0_writeTold 30 = .ok (.aload_n 0, 1) := dk_42 (dk_at dksX0_writeTold_1 7 rfl rfl)
theorem dX0_writeTold_31 : decode cX0_writeTold 31 = .ok (.invokevirtual 126, 3) := dk_182 0 126 (dk_at dksX0_writeTold_1 8 rfl rfl)
theorem dX0_writeTold_34 : decode cX0_writeTold 34 = .ok (.astore 8, 2) := dk_58 8 (dk_at dksX0_writeTold_1 11 rfl rfl)
theorem dX0_writeTold_36 : decode cX0_writeTold 36 = .ok (.aload 8, 2) := dk_25 8 (dk_at dksX0_writeTold_1 13 rfl rfl)
theorem dX0_writeTold_38 : decode cX0_writeTold 38 = .ok (.getfield 151, 3) := dk_180 0 151 (dk_at dksX0_writeTold_1 15 rfl rfl)
theorem dX0_writeTold_41 : decode cX0_writeTold 41 = .ok (.istore 9, 2) := dk_54 9 (dk_at dksX0_writeTold_1 18 rfl rfl)
theorem dX0_writeTold_43 : decode cX0_writeTold 43 = .ok (.aload 8, 2) := dk_25 8 (dk_at dksX0_writeTold_1 20 rfl rfl)
theorem dX0_writeTold_45 : decode cX0_writeTold 45 = .ok (.getfield 195, 3) := dk_180 0 195 (dk_at dksX0_writeTold_2 0 rfl rfl)
theorem dX0_writeTold_48 : decode cX0_writeTold 48 = .ok (.iload 9, 2) := dk_21 9 (dk_at dksX0_writeTold_2 3 rfl rfl)
theorem dX0_writeTold_50 : decode cX0_writeTold 50 = .ok (.iload 6, 2) := dk_21 6 (dk_at dksX0_writeTold_2 5 rfl rfl)
theorem dX0_writeTold_52 : decode cX0_writeTold 52 = .ok (.iload 7, 2) := dk_21 7 (dk_at dksX0_writeTold_2 7 rfl rfl)
theorem dX0_writeTold_54 : decode cX0_writeTold 54 = .ok (.iload_n 1, 1) := dk_27 (dk_at dksX0_writeTold_2 9 rfl rfl)
theorem dX0_writeTold_55 : decode cX0_writeTold 55 = .ok (.invokestatic 199, 3) := dk_184 0 199 (dk_at dksX0_writeTold_2 10 rfl rfl)
theorem dX0_writeTold_58 : decode cX0_writeTold 58 = .ok (.aastore, 1) := dk_83 (dk_at dksX0_writeTold_2 13 rfl rfl)
theorem dX0_writeTold_59 : decode cX0_writeTold 59 = .ok (.aload 8, 2) := dk_25 8 (dk_at dksX0_writeTold_2 14 rfl rfl)
theorem dX0_writeTold_61 : decode cX0_writeTold 61 = .ok (.dup, 1) := dk_89 (dk_at dksX0_writeTold_2 16 rfl rfl)
theorem dX0_writeTold_62 : decode cX0_writeTold 62 = .ok (.getfield 151, 3) := dk_180 0 151 (dk_at dksX0_writeTold_2 17 rfl rfl)
theorem dX0_writeTold_65 : decode cX0_writeTold 65 = .ok (.iconst 1, 1) := dk_4 (dk_at dksX0_writeTold_2 20 rfl rfl)
theorem dX0_writeTold_66 : decode cX0_writeTold 66 = .ok (.iadd, 1) := dk_96 (dk_at dksX0_writeTold_2 21 rfl rfl)
theorem dX0_writeTold_67 : decode cX0_writeTold 67 = .ok (.putfield 151, 3) := dk_181 0 151 (dk_at dksX0_writeTold_3 0 rfl rfl)
theorem dX0_writeTold_70 : decode cX0_writeTold 70 = .ok (.aload 8, 2) := dk_25 8 (dk_at dksX0_writeTold_3 3 rfl rfl)
theorem dX0_writeTold_72 : decode cX0_writeTold 72 = .ok (.iconst 0, 1) := dk_3 (dk_at dksX0_writeTold_3 5 rfl rfl)
theorem dX0_writeTold_73 : decode cX0_writeTold 73 = .ok (.iload 9, 2) := dk_21 9 (dk_at dksX0_writeTold_3 6 rfl rfl)
theorem dX0_writeTold_75 : decode cX0_writeTold 75 = .ok (.invokevirtual 176, 3) := dk_182 0 176 (dk_at dksX0_writeTold_3 8 rfl rfl)
theorem dX0_writeTold_78 : decode cX0_writeTold 78 = .ok (.aload 8, 2) := dk_25 8 (dk_at dksX0_writeTold_3 11 rfl rfl)
theorem dX0_writeTold_80 : decode cX0_writeTold 80 = .ok (.iload_n 2, 1) := dk_28 (dk_at dksX0_writeTold_3 13 rfl rfl)
theorem dX0_writeTold_81 : decode cX0_writeTold 81 = .ok (.invokevirtual 147, 3) := dk_182 0 147 (dk_at dksX0_writeTold_3 14 rfl rfl)
theorem dX0_writeTold_84 : decode cX0_writeTold 84 = .ok (.iload 9, 2) := dk_21 9 (dk_at dksX0_writeTold_3 17 rfl rfl)
theorem dX0_writeTold_86 : decode cX0_writeTold 86 = .ok (.invokevirtual 137, 3) := dk_182 0 137 (dk_at dksX0_writeTold_3 19 rfl rfl)
theorem dX0_writeTold_89 : decode cX0_writeTold 89 = .ok (.istore 10, 2) := dk_54 10 (dk_at dksX0_writeTold_3 22 rfl rfl)
theorem dX0_writeTold_91 : decode cX0_writeTold 91 = .ok (.iload 10, 2) := dk_21 10 (dk_at dksX0_writeTold_4 0 rfl rfl)
theorem dX0_writeTold_93 : decode cX0_writeTold 93 = .ok (.iload 5, 2) := dk_21 5 (dk_at dksX0_writeTold_4 2 rfl rfl)
theorem dX0_writeTold_95 : decode cX0_writeTold 95 = .ok (.if_icmp .le 14, 3) := dk_164 0 14 (dk_at dksX0_writeTold_4 4 rfl rfl)
theorem dX0_writeTold_98 : decode cX0_writeTold 98 = .ok (.bipush 10, 2) := dk_16 10 (dk_at dksX0_writeTold_4 7 rfl rfl)
theorem dX0_writeTold_100 : decode cX0_writeTold 100 = .ok (.iload 6, 2) := dk_21 6 (dk_at dksX0_writeTold_4 9 rfl rfl)
theorem dX0_writeTold_102 : decode cX0_writeTold 102 = .ok (.imul, 1) := dk_104 (dk_at dksX0_writeTold_4 11 rfl rfl)
theorem dX0_writeTold_103 : decode cX0_writeTold 103 = .ok (.iload 7, 2) := dk_21 7 (dk_at dksX0_writeTold_4 12 rfl rfl)
theorem dX0_writeTold_105 : decode cX0_writeTold 105 = .ok (.iadd, 1) := dk_96 (dk_at dksX0_writeTold_4 14 rfl rfl)
theorem dX0_writeTold_106 : decode cX0_writeTold 106 = .ok (.goto 5, 3) := dk_167 0 5 (dk_at dksX0_writeTold_4 15 rfl rfl)
theorem dX0_writeTold_109 : decode cX0_writeTold 109 = .ok (.iload 4, 2) := dk_21 4 (dk_at dksX0_writeTold_4 18 rfl rfl)
theorem dX0_writeTold_111 : decode cX0_writeTold 111 = .ok (.istore 4, 2) := dk_54 4 (dk_at dksX0_writeTold_4 20 rfl rfl)
theorem dX0_writeTold_113 : decode cX0_writeTold 113 = .ok (.iload 5, 2) := dk_21 5 (dk_at dksX0_writeTold_4 22 rfl rfl)
theorem dX0_writeTold_115 : decode cX0_writeTold 115 = .ok (.iload 10, 2) := dk_21 10 (dk_at dksX0_writeTold_5 0 rfl rfl)
theorem dX0_writeTold_117 : decode cX0_writeTold 117 = .ok (.invokestatic 141, 3) := dk_184 0 141 (dk_at dksX0_writeTold_5 2 rfl rfl)
theorem dX0_writeTold_120 : decode cX0_writeTold 120 = .ok (.istore 5, 2) := dk_54 5 (dk_at dksX0_writeTold_5 5 rfl rfl)
theorem dX0_writeTold_122 : decode cX0_writeTold 122 = .ok (.iinc 7 1, 3) := dk_132 7 1 (dk_at dksX0_writeTold_5 7 rfl rfl)
theorem dX0_writeTold_125 : decode cX0_writeTold 125 = .ok (.goto (-102), 3) := dk_167 255 154 (dk_at dksX0_writeTold_5 10 rfl rfl)
theorem dX0_writeTold_128 : decode cX0_writeTold 128 = .ok (.iinc 6 1, 3) := dk_132 6 1 (dk_at dksX0_writeTold_5 13 rfl rfl)
theorem dX0_writeTold_131 : decode cX0_writeTold 131 = .ok (.goto (-121), 3) := dk_167 255 135 (dk_at dksX0_writeTold_5 16 rfl rfl)
theorem dX0_writeTold_134 : decode cX0_writeTold 134 = .ok (.iload_n 3, 1) := dk_29 (dk_at dksX0_writeTold_5 19 rfl rfl)
theorem dX0_writeTold_135 : decode cX0_writeTold 135 = .ok (.ifCond .ne 8, 3) := dk_154 0 8 (dk_at dksX0_writeTold_5 20 rfl rfl)
theorem dX0_writeTold_138 : decode cX0_writeTold 138 = .ok (.iload 4, 2) := dk_21 4 (dk_at dksX0_writeTold_6 0 rfl rfl)
theorem dX0_writeTold_140 : decode cX0_writeTold 140 = .ok (.goto 5, 3) := dk_167 0 5 (dk_at dksX0_writeTold_6 2 rfl rfl)
theorem dX0_writeTold_143 : decode cX0_writeTold 143 = .ok (.iload 5, 2) := dk_21 5 (dk_at dksX0_writeTold_6 5 rfl rfl)
theorem dX0_writeTold_145 : decode cX0_writeTold 145 = .ok (.ireturn, 1) := dk_172 (dk_at dksX0_writeTold_6 7 rfl rfl)
abbrev cX0_otherwiseAsked : ByteArray := prog_1_method_54_code
def yX0_otherwiseAsked : MethodName := ⟨RX0, "otherwiseAsked", "(II)I"⟩
def dkwX0_otherwiseAsked_1 : List UInt8 := [167, 0, 4, 3, 16, 253, 184, 0, 9, 42, 27, 28, 182, 1, 132, 172]
abbrev dktX0_otherwiseAsked_1 : List UInt8 := dkwX0_otherwiseAsked_1 ++ []
def dkwX0_otherwiseAsked_0 : List UInt8 := [27, 184, 1, 77, 28, 184, 1, 80, 42, 180, 0, 206, 42, 180, 0, 69, 180, 0, 189, 160, 0, 7, 4]
abbrev dktX0_otherwiseAsked_0 : List UInt8 := dkwX0_otherwiseAsked_0 ++ dktX0_otherwiseAsked_1
theorem dksX0_otherwiseAsked_0 : cX0_otherwiseAsked.data.toList.drop 0 = dktX0_otherwiseAsked_0 := by decide +kernel
theorem dksX0_otherwiseAsked_1 : cX0_otherwiseAsked.data.toList.drop 23 = dktX0_otherwiseAsked_1 := dk_seg dksX0_otherwiseAsked_0 23 rfl rfl
theorem dX0_otherwiseAsked_0 : decode cX0_otherwiseAsked 0 = .ok (.iload_n 1, 1) := dk_27 (dk_at dksX0_otherwiseAsked_0 0 rfl rfl)
theorem dX0_otherwiseAsked_1 : decode cX0_otherwiseAsked 1 = .ok (.invokestatic 333, 3) := dk_184 1 77 (dk_at dksX0_otherwiseAsked_0 1 rfl rfl)
theorem dX0_otherwiseAsked_4 : decode cX0_otherwiseAsked 4 = .ok (.iload_n 2, 1) := dk_28 (dk_at dksX0_otherwiseAsked_0 4 rfl rfl)
theorem dX0_otherwiseAsked_5 : decode cX0_otherwiseAsked 5 = .ok (.invokestatic 336, 3) := dk_184 1 80 (dk_at dksX0_otherwiseAsked_0 5 rfl rfl)
theorem dX0_otherwiseAsked_8 : decode cX0_otherwiseAsked 8 = .ok (.aload_n 0, 1) := dk_42 (dk_at dksX0_otherwiseAsked_0 8 rfl rfl)
theorem dX0_otherwiseAsked_9 : decode cX0_otherwiseAsked 9 = .ok (.getfield 206, 3) := dk_180 0 206 (dk_at dksX0_otherwiseAsked_0 9 rfl rfl)
theorem dX0_otherwiseAsked_12 : decode cX0_otherwiseAsked 12 = .ok (.aload_n 0, 1) := dk_42 (dk_at dksX0_otherwiseAsked_0 12 rfl rfl)
theorem dX0_otherwiseAsked_13 : decode cX0_otherwiseAsked 13 = .ok (.getfield 69, 3) := dk_180 0 69 (dk_at dksX0_otherwiseAsked_0 13 rfl rfl)
theorem dX0_otherwiseAsked_16 : decode cX0_otherwiseAsked 16 = .ok (.getfield 189, 3) := dk_180 0 189 (dk_at dksX0_otherwiseAsked_0 16 rfl rfl)
theorem dX0_otherwiseAsked_19 : decode cX0_otherwiseAsked 19 = .ok (.if_icmp .ne 7, 3) := dk_160 0 7 (dk_at dksX0_otherwiseAsked_0 19 rfl rfl)
theorem dX0_otherwiseAsked_22 : decode cX0_otherwiseAsked 22 = .ok (.iconst 1, 1) := dk_4 (dk_at dksX0_otherwiseAsked_0 22 rfl rfl)
theorem dX0_otherwiseAsked_23 : decode cX0_otherwiseAsked 23 = .ok (.goto 4, 3) := dk_167 0 4 (dk_at dksX0_otherwiseAsked_1 0 rfl rfl)
theorem dX0_otherwiseAsked_26 : decode cX0_otherwiseAsked 26 = .ok (.iconst 0, 1) := dk_3 (dk_at dksX0_otherwiseAsked_1 3 rfl rfl)
theorem dX0_otherwiseAsked_27 : decode cX0_otherwiseAsked 27 = .ok (.bipush (-3), 2) := dk_16 253 (dk_at dksX0_otherwiseAsked_1 4 rfl rfl)
theorem dX0_otherwiseAsked_29 : decode cX0_otherwiseAsked 29 = .ok (.invokestatic 9, 3) := dk_184 0 9 (dk_at dksX0_otherwiseAsked_1 6 rfl rfl)
theorem dX0_otherwiseAsked_32 : decode cX0_otherwiseAsked 32 = .ok (.aload_n 0, 1) := dk_42 (dk_at dksX0_otherwiseAsked_1 9 rfl rfl)
theorem dX0_otherwiseAsked_33 : decode cX0_otherwiseAsked 33 = .ok (.iload_n 1, 1) := dk_27 (dk_at dksX0_otherwiseAsked_1 10 rfl rfl)
theorem dX0_otherwiseAsked_34 : decode cX0_otherwiseAsked 34 = .ok (.iload_n 2, 1) := dk_28 (dk_at dksX0_otherwiseAsked_1 11 rfl rfl)
theorem dX0_otherwiseAsked_35 : decode cX0_otherwiseAsked 35 = .ok (.invokevirtual 388, 3) := dk_182 1 132 (dk_at dksX0_otherwiseAsked_1 12 rfl rfl)
theorem dX0_otherwiseAsked_38 : decode cX0_otherwiseAsked 38 = .ok (.ireturn, 1) := dk_172 (dk_at dksX0_otherwiseAsked_1 15 rfl rfl)
abbrev cX0_otherwiseTold : ByteArray := prog_1_method_24_code
def yX0_otherwiseTold : MethodName := ⟨RX0, "otherwiseTold", "(II)I"⟩
def dkwX0_otherwiseTold_7 : List UInt8 := [21, 4, 172]
abbrev dktX0_otherwiseTold_7 : List UInt8 := dkwX0_otherwiseTold_7 ++ []
def dkwX0_otherwiseTold_6 : List UInt8 := [153, 0, 7, 4, 167, 0, 4, 3, 96, 62, 132, 5, 1, 167, 255, 112, 28, 154, 0, 7, 29, 167, 0, 5]
abbrev dktX0_otherwiseTold_6 : List UInt8 := dkwX0_otherwiseTold_6 ++ dktX0_otherwiseTold_7
def dkwX0_otherwiseTold_5 : List UInt8 := [54, 10, 21, 10, 153, 0, 12, 29, 154, 0, 8, 21, 5, 167, 0, 5, 21, 4, 54, 4, 29, 21, 10]
abbrev dktX0_otherwiseTold_5 : List UInt8 := dkwX0_otherwiseTold_5 ++ dktX0_otherwiseTold_6
def dkwX0_otherwiseTold_4 : List UInt8 := [182, 0, 126, 58, 9, 25, 9, 21, 6, 21, 7, 182, 0, 176, 42, 25, 9, 27, 182, 0, 147, 182, 0, 203]
abbrev dktX0_otherwiseTold_4 : List UInt8 := dkwX0_otherwiseTold_4 ++ dktX0_otherwiseTold_5
def dkwX0_otherwiseTold_3 : List UInt8 := [180, 0, 130, 21, 6, 46, 159, 0, 7, 4, 167, 0, 4, 3, 54, 8, 21, 8, 153, 0, 61, 42]
abbrev dktX0_otherwiseTold_3 : List UInt8 := dkwX0_otherwiseTold_3 ++ dktX0_otherwiseTold_4
def dkwX0_otherwiseTold_2 : List UInt8 := [16, 10, 112, 54, 7, 21, 7, 42, 180, 0, 69, 180, 0, 151, 162, 0, 22, 21, 7, 42, 180, 0, 69]
abbrev dktX0_otherwiseTold_2 : List UInt8 := dkwX0_otherwiseTold_2 ++ dktX0_otherwiseTold_3
def dkwX0_otherwiseTold_1 : List UInt8 := [21, 5, 16, 10, 108, 54, 6, 21, 5, 16, 10, 112, 16, 9, 160, 0, 8, 16, 247, 167, 0, 8, 21, 5]
abbrev dktX0_otherwiseTold_1 : List UInt8 := dkwX0_otherwiseTold_1 ++ dktX0_otherwiseTold_2
def dkwX0_otherwiseTold_0 : List UInt8 := [3, 62, 16, 247, 54, 4, 3, 54, 5, 21, 5, 16, 10, 42, 180, 0, 69, 180, 0, 189, 104, 162, 0, 135]
abbrev dktX0_otherwiseTold_0 : List UInt8 := dkwX0_otherwiseTold_0 ++ dktX0_otherwiseTold_1
theorem dksX0_otherwiseTold_0 : cX0_otherwiseTold.data.toList.drop 0 = dktX0_otherwiseTold_0 := by decide +kernel
theorem dksX0_otherwiseTold_1 : cX0_otherwiseTold.data.toList.drop 24 = dktX0_otherwiseTold_1 := dk_seg dksX0_otherwiseTold_0 24 rfl rfl
theorem dksX0_otherwiseTold_2 : cX0_otherwiseTold.data.toList.drop 48 = dktX0_otherwiseTold_2 := dk_seg dksX0_otherwiseTold_1 24 rfl rfl
theorem dksX0_otherwiseTold_3 : cX0_otherwiseTold.data.toList.drop 71 = dktX0_otherwiseTold_3 := dk_seg dksX0_otherwiseTold_2 23 rfl rfl
theorem dksX0_otherwiseTold_4 : cX0_otherwiseTold.data.toList.drop 93 = dktX0_otherwiseTold_4 := dk_seg dksX0_otherwiseTold_3 22 rfl rfl
theorem dksX0_otherwiseTold_5 : cX0_otherwiseTold.data.toList.drop 117 = dktX0_otherwiseTold_5 := dk_seg dksX0_otherwiseTold_4 24 rfl rfl
theorem dksX0_otherwiseTold_6 : cX0_otherwiseTold.data.toList.drop 140 = dktX0_otherwiseTold_6 := dk_seg dksX0_otherwiseTold_5 23 rfl rfl
theorem dksX0_otherwiseTold_7 : cX0_otherwiseTold.data.toList.drop 164 = dktX0_otherwiseTold_7 := dk_seg dksX0_otherwiseTold_6 24 rfl rfl
theorem dX0_otherwiseTold_0 : decode cX0_otherwiseTold 0 = .ok (.iconst 0, 1) := dk_3 (dk_at dksX0_otherwiseTold_0 0 rfl rfl)
theorem dX0_otherwiseTold_1 : decode cX0_otherwiseTold 1 = .ok (.istore_n 3, 1) := dk_62 (dk_at dksX0_otherwiseTold_0 1 rfl rfl)
theorem dX0_otherwiseTold_2 : decode cX0_otherwiseTold 2 = .ok (.bipush (-9), 2) := dk_16 247 (dk_at dksX0_otherwiseTold_0 2 rfl rfl)
theorem dX0_otherwiseTold_4 : decode cX0_otherwiseTold 4 = .ok (.istore 4, 2) := dk_54 4 (dk_at dksX0_otherwiseTold_0 4 rfl rfl)
theorem dX0_otherwiseTold_6 : decode cX0_otherwiseTold 6 = .ok (.iconst 0, 1) := dk_3 (dk_at dksX0_otherwiseTold_0 6 rfl rfl)
theorem dX0_otherwiseTold_7 : decode cX0_otherwiseTold 7 = .ok (.istore 5, 2) := dk_54 5 (dk_at dksX0_otherwiseTold_0 7 rfl rfl)
theorem dX0_otherwiseTold_9 : decode cX0_otherwiseTold 9 = .ok (.iload 5, 2) := dk_21 5 (dk_at dksX0_otherwiseTold_0 9 rfl rfl)
theorem dX0_otherwiseTold_11 : decode cX0_otherwiseTold 11 = .ok (.bipush 10, 2) := dk_16 10 (dk_at dksX0_otherwiseTold_0 11 rfl rfl)
theorem dX0_otherwiseTold_13 : decode cX0_otherwiseTold 13 = .ok (.aload_n 0, 1) := dk_42 (dk_at dksX0_otherwiseTold_0 13 rfl rfl)
theorem dX0_otherwiseTold_14 : decode cX0_otherwiseTold 14 = .ok (.getfield 69, 3) := dk_180 0 69 (dk_at dksX0_otherwiseTold_0 14 rfl rfl)
theorem dX0_otherwiseTold_17 : decode cX0_otherwiseTold 17 = .ok (.getfield 189, 3) := dk_180 0 189 (dk_at dksX0_otherwiseTold_0 17 rfl rfl)
theorem dX0_otherwiseTold_20 : decode cX0_otherwiseTold 20 = .ok (.imul, 1) := dk_104 (dk_at dksX0_otherwiseTold_0 20 rfl rfl)
theorem dX0_otherwiseTold_21 : decode cX0_otherwiseTold 21 = .ok (.if_icmp .ge 135, 3) := dk_162 0 135 (dk_at dksX0_otherwiseTold_0 21 rfl rfl)
theorem dX0_otherwiseTold_24 : decode cX0_otherwiseTold 24 = .ok (.iload 5, 2) := dk_21 5 (dk_at dksX0_otherwiseTold_1 0 rfl rfl)
theorem dX0_otherwiseTold_26 : decode cX0_otherwiseTold 26 = .ok (.bipush 10, 2) := dk_16 10 (dk_at dksX0_otherwiseTold_1 2 rfl rfl)
theorem dX0_otherwiseTold_28 : decode cX0_otherwiseTold 28 = .ok (.idiv, 1) := dk_108 (dk_at dksX0_otherwiseTold_1 4 rfl rfl)
theorem dX0_otherwiseTold_29 : decode cX0_otherwiseTold 29 = .ok (.istore 6, 2) := dk_54 6 (dk_at dksX0_otherwiseTold_1 5 rfl rfl)
theorem dX0_otherwiseTold_31 : decode cX0_otherwiseTold 31 = .ok (.iload 5, 2) := dk_21 5 (dk_at dksX0_otherwiseTold_1 7 rfl rfl)
theorem dX0_otherwiseTold_33 : decode cX0_otherwiseTold 33 = .ok (.bipush 10, 2) := dk_16 10 (dk_at dksX0_otherwiseTold_1 9 rfl rfl)
theorem dX0_otherwiseTold_35 : decode cX0_otherwiseTold 35 = .ok (.irem, 1) := dk_112 (dk_at dksX0_otherwiseTold_1 11 rfl rfl)
theorem dX0_otherwiseTold_36 : decode cX0_otherwiseTold 36 = .ok (.bipush 9, 2) := dk_16 9 (dk_at dksX0_otherwiseTold_1 12 rfl rfl)
theorem dX0_otherwiseTold_38 : decode cX0_otherwiseTold 38 = .ok (.if_icmp .ne 8, 3) := dk_160 0 8 (dk_at dksX0_otherwiseTold_1 14 rfl rfl)
theorem dX0_otherwiseTold_41 : decode cX0_otherwiseTold 41 = .ok (.bipush (-9), 2) := dk_16 247 (dk_at dksX0_otherwiseTold_1 17 rfl rfl)
theorem dX0_otherwiseTold_43 : decode cX0_otherwiseTold 43 = .ok (.goto 8, 3) := dk_167 0 8 (dk_at dksX0_otherwiseTold_1 19 rfl rfl)
theorem dX0_otherwiseTold_46 : decode cX0_otherwiseTold 46 = .ok (.iload 5, 2) := dk_21 5 (dk_at dksX0_otherwiseTold_1 22 rfl rfl)
theorem dX0_otherwiseTold_48 : decode cX0_otherwiseTold 48 = .ok (.bipush 10, 2) := dk_16 10 (dk_at dksX0_otherwiseTold_2 0 rfl rfl)
theorem dX0_otherwiseTold_50 : decode cX0_otherwiseTold 50 = .ok (.irem, 1) := dk_112 (dk_at dksX0_otherwiseTold_2 2 rfl rfl)
theorem dX0_otherwiseTold_51 : decode cX0_otherwiseTold 51 = .ok (.istore 7, 2) := dk_54 7 (dk_at dksX0_otherwiseTold_2 3 rfl rfl)
theorem dX0_otherwiseTold_53 : decode cX0_otherwiseTold 53 = .ok (.iload 7, 2) := dk_21 7 (dk_at dksX0_otherwiseTold_2 5 rfl rfl)
theorem dX0_otherwiseTold_55 : decode cX0_otherwiseTold 55 = .ok (.aload_n 0, 1) := dk_42 (dk_at dksX0_otherwiseTold_2 7 rfl rfl)
theorem dX0_otherwiseTold_56 : decode cX0_otherwiseTold 56 = .ok (.getfield 69, 3) := dk_180 0 69 (dk_at dksX0_otherwiseTold_2 8 rfl rfl)
theorem dX0_otherwiseTold_59 : decode cX0_otherwiseTold 59 = .ok (.getfield 151, 3) := dk_180 0 151 (dk_at dksX0_otherwiseTold_2 11 rfl rfl)
theorem dX0_otherwiseTold_62 : decode cX0_otherwiseTold 62 = .ok (.if_icmp .ge 22, 3) := dk_162 0 22 (dk_at dksX0_otherwiseTold_2 14 rfl rfl)
theorem dX0_otherwiseTold_65 : decode cX0_otherwiseTold 65 = .ok (.iload 7, 2) := dk_21 7 (dk_at dksX0_otherwiseTold_2 17 rfl rfl)
theorem dX0_otherwiseTold_67 : decode cX0_otherwiseTold 67 = .ok (.aload_n 0, 1) := dk_42 (dk_at dksX0_otherwiseTold_2 19 rfl rfl)
theorem dX0_otherwiseTold_68 : decode cX0_otherwiseTold 68 = .ok (.getfield 69, 3) := dk_180 0 69 (dk_at dksX0_otherwiseTold_2 20 rfl rfl)
theorem dX0_otherwiseTold_71 : decode cX0_otherwiseTold 71 = .ok (.getfield 130, 3) := dk_180 0 130 (dk_at dksX0_otherwiseTold_3 0 rfl rfl)
theorem dX0_otherwiseTold_74 : decode cX0_otherwiseTold 74 = .ok (.iload 6, 2) := dk_21 6 (dk_at dksX0_otherwiseTold_3 3 rfl rfl)
theorem dX0_otherwiseTold_76 : decode cX0_otherwiseTold 76 = .ok (.iaload, 1) := dk_46 (dk_at dksX0_otherwiseTold_3 5 rfl rfl)
theorem dX0_otherwiseTold_77 : decode cX0_otherwiseTold 77 = .ok (.if_icmp .eq 7, 3) := dk_159 0 7 (dk_at dksX0_otherwiseTold_3 6 rfl rfl)
theorem dX0_otherwiseTold_80 : decode cX0_otherwiseTold 80 = .ok (.iconst 1, 1) := dk_4 (dk_at dksX0_otherwiseTold_3 9 rfl rfl)
theorem dX0_otherwiseTold_81 : decode cX0_otherwiseTold 81 = .ok (.goto 4, 3) := dk_167 0 4 (dk_at dksX0_otherwiseTold_3 10 rfl rfl)
theorem dX0_otherwiseTold_84 : decode cX0_otherwiseTold 84 = .ok (.iconst 0, 1) := dk_3 (dk_at dksX0_otherwiseTold_3 13 rfl rfl)
theorem dX0_otherwiseTold_85 : decode cX0_otherwiseTold 85 = .ok (.istore 8, 2) := dk_54 8 (dk_at dksX0_otherwiseTold_3 14 rfl rfl)
theorem dX0_otherwiseTold_87 : decode cX0_otherwiseTold 87 = .ok (.iload 8, 2) := dk_21 8 (dk_at dksX0_otherwiseTold_3 16 rfl rfl)
theorem dX0_otherwiseTold_89 : decode cX0_otherwiseTold 89 = .ok (.ifCond .eq 61, 3) := dk_153 0 61 (dk_at dksX0_otherwiseTold_3 18 rfl rfl)
theorem dX0_otherwiseTold_92 : decode cX0_otherwiseTold 92 = .ok (.aload_n 0, 1) := dk_42 (dk_at dksX0_otherwiseTold_3 21 rfl rfl)
theorem dX0_otherwiseTold_93 : decode cX0_otherwiseTold 93 = .ok (.invokevirtual 126, 3) := dk_182 0 126 (dk_at dksX0_otherwiseTold_4 0 rfl rfl)
theorem dX0_otherwiseTold_96 : decode cX0_otherwiseTold 96 = .ok (.astore 9, 2) := dk_58 9 (dk_at dksX0_otherwiseTold_4 3 rfl rfl)
theorem dX0_otherwiseTold_98 : decode cX0_otherwiseTold 98 = .ok (.aload 9, 2) := dk_25 9 (dk_at dksX0_otherwiseTold_4 5 rfl rfl)
theorem dX0_otherwiseTold_100 : decode cX0_otherwiseTold 100 = .ok (.iload 6, 2) := dk_21 6 (dk_at dksX0_otherwiseTold_4 7 rfl rfl)
theorem dX0_otherwiseTold_102 : decode cX0_otherwiseTold 102 = .ok (.iload 7, 2) := dk_21 7 (dk_at dksX0_otherwiseTold_4 9 rfl rfl)
theorem dX0_otherwiseTold_104 : decode cX0_otherwiseTold 104 = .ok (.invokevirtual 176, 3) := dk_182 0 176 (dk_at dksX0_otherwiseTold_4 11 rfl rfl)
theorem dX0_otherwiseTold_107 : decode cX0_otherwiseTold 107 = .ok (.aload_n 0, 1) := dk_42 (dk_at dksX0_otherwiseTold_4 14 rfl rfl)
theorem dX0_otherwiseTold_108 : decode cX0_otherwiseTold 108 = .ok (.aload 9, 2) := dk_25 9 (dk_at dksX0_otherwiseTold_4 15 rfl rfl)
theorem dX0_otherwiseTold_110 : decode cX0_otherwiseTold 110 = .ok (.iload_n 1, 1) := dk_27 (dk_at dksX0_otherwiseTold_4 17 rfl rfl)
theorem dX0_otherwiseTold_111 : decode cX0_otherwiseTold 111 = .ok (.invokevirtual 147, 3) := dk_182 0 147 (dk_at dksX0_otherwiseTold_4 18 rfl rfl)
theorem dX0_otherwiseTold_114 : decode cX0_otherwiseTold 114 = .ok (.invokevirtual 203, 3) := dk_182 0 203 (dk_at dksX0_otherwiseTold_4 21 rfl rfl)
theorem dX0_otherwiseTold_117 : decode cX0_otherwiseTold 117 = .ok (.istore 10, 2) := dk_54 10 (dk_at dksX0_otherwiseTold_5 0 rfl rfl)
theorem dX0_otherwiseTold_119 : decode cX0_otherwiseTold 119 = .ok (.iload 10, 2) := dk_21 10 (dk_at dksX0_otherwiseTold_5 2 rfl rfl)
theorem dX0_otherwiseTold_121 : decode cX0_otherwiseTold 121 = .ok (.ifCond .eq 12, 3) := dk_153 0 12 (dk_at dksX0_otherwiseTold_5 4 rfl rfl)
theorem dX0_otherwiseTold_124 : decode cX0_otherwiseTold 124 = .ok (.iload_n 3, 1) := dk_29 (dk_at dksX0_otherwiseTold_5 7 rfl rfl)
theorem dX0_otherwiseTold_125 : decode cX0_otherwiseTold 125 = .ok (.ifCond .ne 8, 3) := dk_154 0 8 (dk_at dksX0_otherwiseTold_5 8 rfl rfl)
theorem dX0_otherwiseTold_128 : decode cX0_otherwiseTold 128 = .ok (.iload 5, 2) := dk_21 5 (dk_at dksX0_otherwiseTold_5 11 rfl rfl)
theorem dX0_otherwiseTold_130 : decode cX0_otherwiseTold 130 = .ok (.goto 5, 3) := dk_167 0 5 (dk_at dksX0_otherwiseTold_5 13 rfl rfl)
theorem dX0_otherwiseTold_133 : decode cX0_otherwiseTold 133 = .ok (.iload 4, 2) := dk_21 4 (dk_at dksX0_otherwiseTold_5 16 rfl rfl)
theorem dX0_otherwiseTold_135 : decode cX0_otherwiseTold 135 = .ok (.istore 4, 2) := dk_54 4 (dk_at dksX0_otherwiseTold_5 18 rfl rfl)
theorem dX0_otherwiseTold_137 : decode cX0_otherwiseTold 137 = .ok (.iload_n 3, 1) := dk_29 (dk_at dksX0_otherwiseTold_5 20 rfl rfl)
theorem dX0_otherwiseTold_138 : decode cX0_otherwiseTold 138 = .ok (.iload 10, 2) := dk_21 10 (dk_at dksX0_otherwiseTold_5 21 rfl rfl)
theorem dX0_otherwiseTold_140 : decode cX0_otherwiseTold 140 = .ok (.ifCond .eq 7, 3) := dk_153 0 7 (dk_at dksX0_otherwiseTold_6 0 rfl rfl)
theorem dX0_otherwiseTold_143 : decode cX0_otherwiseTold 143 = .ok (.iconst 1, 1) := dk_4 (dk_at dksX0_otherwiseTold_6 3 rfl rfl)
theorem dX0_otherwiseTold_144 : decode cX0_otherwiseTold 144 = .ok (.goto 4, 3) := dk_167 0 4 (dk_at dksX0_otherwiseTold_6 4 rfl rfl)
theorem dX0_otherwiseTold_147 : decode cX0_otherwiseTold 147 = .ok (.iconst 0, 1) := dk_3 (dk_at dksX0_otherwiseTold_6 7 rfl rfl)
theorem dX0_otherwiseTold_148 : decode cX0_otherwiseTold 148 = .ok (.iadd, 1) := dk_96 (dk_at dksX0_otherwiseTold_6 8 rfl rfl)
theorem dX0_otherwiseTold_149 : decode cX0_otherwiseTold 149 = .ok (.istore_n 3, 1) := dk_62 (dk_at dksX0_otherwiseTold_6 9 rfl rfl)
theorem dX0_otherwiseTold_150 : decode cX0_otherwiseTold 150 = .ok (.iinc 5 1, 3) := dk_132 5 1 (dk_at dksX0_otherwiseTold_6 10 rfl rfl)
theorem dX0_otherwiseTold_153 : decode cX0_otherwiseTold 153 = .ok (.goto (-144), 3) := dk_167 255 112 (dk_at dksX0_otherwiseTold_6 13 rfl rfl)
theorem dX0_otherwiseTold_156 : decode cX0_otherwiseTold 156 = .ok (.iload_n 2, 1) := dk_28 (dk_at dksX0_otherwiseTold_6 16 rfl rfl)
theorem dX0_otherwiseTold_157 : decode cX0_otherwiseTold 157 = .ok (.ifCond .ne 7, 3) := dk_154 0 7 (dk_at dksX0_otherwiseTold_6 17 rfl rfl)
theorem dX0_otherwiseTold_160 : decode cX0_otherwiseTold 160 = .ok (.iload_n 3, 1) := dk_29 (dk_at dksX0_otherwiseTold_6 20 rfl rfl)
theorem dX0_otherwiseTold_161 : decode cX0_otherwiseTold 161 = .ok (.goto 5, 3) := dk_167 0 5 (dk_at dksX0_otherwiseTold_6 21 rfl rfl)
theorem dX0_otherwiseTold_164 : decode cX0_otherwiseTold 164 = .ok (.iload 4, 2) := dk_21 4 (dk_at dksX0_otherwiseTold_7 0 rfl rfl)
theorem dX0_otherwiseTold_166 : decode cX0_otherwiseTold 166 = .ok (.ireturn, 1) := dk_172 (dk_at dksX0_otherwiseTold_7 2 rfl rfl)
abbrev cX0_isAsTold : ByteArray := prog_1_method_23_code
def yX0_isAsTold : MethodName := ⟨RX0, "isAsTold", "(LSongThatStays$Office;)Z"⟩
def dkwX0_isAsTold_2 : List UInt8 := [3, 126, 61, 132, 3, 1, 167, 255, 206, 28, 172]
abbrev dktX0_isAsTold_2 : List UInt8 := dkwX0_isAsTold_2 ++ []
def dkwX0_isAsTold_1 : List UInt8 := [46, 16, 247, 160, 0, 8, 16, 9, 167, 0, 9, 43, 180, 0, 130, 29, 46, 160, 0, 7, 4, 167, 0, 4]
abbrev dktX0_isAsTold_1 : List UInt8 := dkwX0_isAsTold_1 ++ dktX0_isAsTold_2
def dkwX0_isAsTold_0 : List UInt8 := [4, 61, 3, 62, 29, 43, 180, 0, 189, 162, 0, 48, 28, 42, 180, 0, 79, 29, 51, 43, 180, 0, 130, 29]
abbrev dktX0_isAsTold_0 : List UInt8 := dkwX0_isAsTold_0 ++ dktX0_isAsTold_1
theorem dksX0_isAsTold_0 : cX0_isAsTold.data.toList.drop 0 = dktX0_isAsTold_0 := by decide +kernel
theorem dksX0_isAsTold_1 : cX0_isAsTold.data.toList.drop 24 = dktX0_isAsTold_1 := dk_seg dksX0_isAsTold_0 24 rfl rfl
theorem dksX0_isAsTold_2 : cX0_isAsTold.data.toList.drop 48 = dktX0_isAsTold_2 := dk_seg dksX0_isAsTold_1 24 rfl rfl
theorem dX0_isAsTold_0 : decode cX0_isAsTold 0 = .ok (.iconst 1, 1) := dk_4 (dk_at dksX0_isAsTold_0 0 rfl rfl)
theorem dX0_isAsTold_1 : decode cX0_isAsTold 1 = .ok (.istore_n 2, 1) := dk_61 (dk_at dksX0_isAsTold_0 1 rfl rfl)
theorem dX0_isAsTold_2 : decode cX0_isAsTold 2 = .ok (.iconst 0, 1) := dk_3 (dk_at dksX0_isAsTold_0 2 rfl rfl)
theorem dX0_isAsTold_3 : decode cX0_isAsTold 3 = .ok (.istore_n 3, 1) := dk_62 (dk_at dksX0_isAsTold_0 3 rfl rfl)
theorem dX0_isAsTold_4 : decode cX0_isAsTold 4 = .ok (.iload_n 3, 1) := dk_29 (dk_at dksX0_isAsTold_0 4 rfl rfl)
theorem dX0_isAsTold_5 : decode cX0_isAsTold 5 = .ok (.aload_n 1, 1) := dk_43 (dk_at dksX0_isAsTold_0 5 rfl rfl)
theorem dX0_isAsTold_6 : decode cX0_isAsTold 6 = .ok (.getfield 189, 3) := dk_180 0 189 (dk_at dksX0_isAsTold_0 6 rfl rfl)
theorem dX0_isAsTold_9 : decode cX0_isAsTold 9 = .ok (.if_icmp .ge 48, 3) := dk_162 0 48 (dk_at dksX0_isAsTold_0 9 rfl rfl)
theorem dX0_isAsTold_12 : decode cX0_isAsTold 12 = .ok (.iload_n 2, 1) := dk_28 (dk_at dksX0_isAsTold_0 12 rfl rfl)
theorem dX0_isAsTold_13 : decode cX0_isAsTold 13 = .ok (.aload_n 0, 1) := dk_42 (dk_at dksX0_isAsTold_0 13 rfl rfl)
theorem dX0_isAsTold_14 : decode cX0_isAsTold 14 = .ok (.getfield 79, 3) := dk_180 0 79 (dk_at dksX0_isAsTold_0 14 rfl rfl)
theorem dX0_isAsTold_17 : decode cX0_isAsTold 17 = .ok (.iload_n 3, 1) := dk_29 (dk_at dksX0_isAsTold_0 17 rfl rfl)
theorem dX0_isAsTold_18 : decode cX0_isAsTold 18 = .ok (.baload, 1) := dk_51 (dk_at dksX0_isAsTold_0 18 rfl rfl)
theorem dX0_isAsTold_19 : decode cX0_isAsTold 19 = .ok (.aload_n 1, 1) := dk_43 (dk_at dksX0_isAsTold_0 19 rfl rfl)
theorem dX0_isAsTold_20 : decode cX0_isAsTold 20 = .ok (.getfield 130, 3) := dk_180 0 130 (dk_at dksX0_isAsTold_0 20 rfl rfl)
theorem dX0_isAsTold_23 : decode cX0_isAsTold 23 = .ok (.iload_n 3, 1) := dk_29 (dk_at dksX0_isAsTold_0 23 rfl rfl)
theorem dX0_isAsTold_24 : decode cX0_isAsTold 24 = .ok (.iaload, 1) := dk_46 (dk_at dksX0_isAsTold_1 0 rfl rfl)
theorem dX0_isAsTold_25 : decode cX0_isAsTold 25 = .ok (.bipush (-9), 2) := dk_16 247 (dk_at dksX0_isAsTold_1 1 rfl rfl)
theorem dX0_isAsTold_27 : decode cX0_isAsTold 27 = .ok (.if_icmp .ne 8, 3) := dk_160 0 8 (dk_at dksX0_isAsTold_1 3 rfl rfl)
theorem dX0_isAsTold_30 : decode cX0_isAsTold 30 = .ok (.bipush 9, 2) := dk_16 9 (dk_at dksX0_isAsTold_1 6 rfl rfl)
theorem dX0_isAsTold_32 : decode cX0_isAsTold 32 = .ok (.goto 9, 3) := dk_167 0 9 (dk_at dksX0_isAsTold_1 8 rfl rfl)
theorem dX0_isAsTold_35 : decode cX0_isAsTold 35 = .ok (.aload_n 1, 1) := dk_43 (dk_at dksX0_isAsTold_1 11 rfl rfl)
theorem dX0_isAsTold_36 : decode cX0_isAsTold 36 = .ok (.getfield 130, 3) := dk_180 0 130 (dk_at dksX0_isAsTold_1 12 rfl rfl)
theorem dX0_isAsTold_39 : decode cX0_isAsTold 39 = .ok (.iload_n 3, 1) := dk_29 (dk_at dksX0_isAsTold_1 15 rfl rfl)
theorem dX0_isAsTold_40 : decode cX0_isAsTold 40 = .ok (.iaload, 1) := dk_46 (dk_at dksX0_isAsTold_1 16 rfl rfl)
theorem dX0_isAsTold_41 : decode cX0_isAsTold 41 = .ok (.if_icmp .ne 7, 3) := dk_160 0 7 (dk_at dksX0_isAsTold_1 17 rfl rfl)
theorem dX0_isAsTold_44 : decode cX0_isAsTold 44 = .ok (.iconst 1, 1) := dk_4 (dk_at dksX0_isAsTold_1 20 rfl rfl)
theorem dX0_isAsTold_45 : decode cX0_isAsTold 45 = .ok (.goto 4, 3) := dk_167 0 4 (dk_at dksX0_isAsTold_1 21 rfl rfl)
theorem dX0_isAsTold_48 : decode cX0_isAsTold 48 = .ok (.iconst 0, 1) := dk_3 (dk_at dksX0_isAsTold_2 0 rfl rfl)
theorem dX0_isAsTold_49 : decode cX0_isAsTold 49 = .ok (.iand, 1) := dk_126 (dk_at dksX0_isAsTold_2 1 rfl rfl)
theorem dX0_isAsTold_50 : decode cX0_isAsTold 50 = .ok (.istore_n 2, 1) := dk_61 (dk_at dksX0_isAsTold_2 2 rfl rfl)
theorem dX0_isAsTold_51 : decode cX0_isAsTold 51 = .ok (.iinc 3 1, 3) := dk_132 3 1 (dk_at dksX0_isAsTold_2 3 rfl rfl)
theorem dX0_isAsTold_54 : decode cX0_isAsTold 54 = .ok (.goto (-50), 3) := dk_167 255 206 (dk_at dksX0_isAsTold_2 6 rfl rfl)
theorem dX0_isAsTold_57 : decode cX0_isAsTold 57 = .ok (.iload_n 2, 1) := dk_28 (dk_at dksX0_isAsTold_2 9 rfl rfl)
theorem dX0_isAsTold_58 : decode cX0_isAsTold 58 = .ok (.ireturn, 1) := dk_172 (dk_at dksX0_isAsTold_2 10 rfl rfl)
abbrev cX0_judgeRow : ByteArray := prog_1_method_25_code
def yX0_judgeRow : MethodName := ⟨RX0, "judgeRow", "()I"⟩
def dkwX0_judgeRow_4 : List UInt8 := [167, 0, 5, 16, 247, 172]
abbrev dktX0_judgeRow_4 : List UInt8 := dkwX0_judgeRow_4 ++ []
def dkwX0_judgeRow_3 : List UInt8 := [132, 2, 1, 167, 255, 196, 27, 42, 180, 0, 69, 180, 0, 189, 164, 0, 13, 42, 180, 0, 69, 180, 0, 189]
abbrev dktX0_judgeRow_3 : List UInt8 := dkwX0_judgeRow_3 ++ dktX0_judgeRow_4
def dkwX0_judgeRow_2 : List UInt8 := [180, 0, 130, 28, 46, 62, 28, 27, 159, 0, 13, 42, 180, 0, 79, 28, 51, 29, 159, 0, 5, 28, 172]
abbrev dktX0_judgeRow_2 : List UInt8 := dkwX0_judgeRow_2 ++ dktX0_judgeRow_3
def dkwX0_judgeRow_1 : List UInt8 := [180, 0, 69, 180, 0, 130, 28, 46, 16, 247, 160, 0, 8, 16, 9, 167, 0, 12, 42, 180, 0, 69]
abbrev dktX0_judgeRow_1 : List UInt8 := dkwX0_judgeRow_1 ++ dktX0_judgeRow_2
def dkwX0_judgeRow_0 : List UInt8 := [42, 180, 0, 206, 60, 42, 3, 181, 0, 206, 3, 61, 28, 42, 180, 0, 69, 180, 0, 189, 162, 0, 55, 42]
abbrev dktX0_judgeRow_0 : List UInt8 := dkwX0_judgeRow_0 ++ dktX0_judgeRow_1
theorem dksX0_judgeRow_0 : cX0_judgeRow.data.toList.drop 0 = dktX0_judgeRow_0 := by decide +kernel
theorem dksX0_judgeRow_1 : cX0_judgeRow.data.toList.drop 24 = dktX0_judgeRow_1 := dk_seg dksX0_judgeRow_0 24 rfl rfl
theorem dksX0_judgeRow_2 : cX0_judgeRow.data.toList.drop 46 = dktX0_judgeRow_2 := dk_seg dksX0_judgeRow_1 22 rfl rfl
theorem dksX0_judgeRow_3 : cX0_judgeRow.data.toList.drop 69 = dktX0_judgeRow_3 := dk_seg dksX0_judgeRow_2 23 rfl rfl
theorem dksX0_judgeRow_4 : cX0_judgeRow.data.toList.drop 93 = dktX0_judgeRow_4 := dk_seg dksX0_judgeRow_3 24 rfl rfl
theorem dX0_judgeRow_0 : decode cX0_judgeRow 0 = .ok (.aload_n 0, 1) := dk_42 (dk_at dksX0_judgeRow_0 0 rfl rfl)
theorem dX0_judgeRow_1 : decode cX0_judgeRow 1 = .ok (.getfield 206, 3) := dk_180 0 206 (dk_at dksX0_judgeRow_0 1 rfl rfl)
theorem dX0_judgeRow_4 : decode cX0_judgeRow 4 = .ok (.istore_n 1, 1) := dk_60 (dk_at dksX0_judgeRow_0 4 rfl rfl)
theorem dX0_judgeRow_5 : decode cX0_judgeRow 5 = .ok (.aload_n 0, 1) := dk_42 (dk_at dksX0_judgeRow_0 5 rfl rfl)
theorem dX0_judgeRow_6 : decode cX0_judgeRow 6 = .ok (.iconst 0, 1) := dk_3 (dk_at dksX0_judgeRow_0 6 rfl rfl)
theorem dX0_judgeRow_7 : decode cX0_judgeRow 7 = .ok (.putfield 206, 3) := dk_181 0 206 (dk_at dksX0_judgeRow_0 7 rfl rfl)
theorem dX0_judgeRow_10 : decode cX0_judgeRow 10 = .ok (.iconst 0, 1) := dk_3 (dk_at dksX0_judgeRow_0 10 rfl rfl)
theorem dX0_judgeRow_11 : decode cX0_judgeRow 11 = .ok (.istore_n 2, 1) := dk_61 (dk_at dksX0_judgeRow_0 11 rfl rfl)
theorem dX0_judgeRow_12 : decode cX0_judgeRow 12 = .ok (.iload_n 2, 1) := dk_28 (dk_at dksX0_judgeRow_0 12 rfl rfl)
theorem dX0_judgeRow_13 : decode cX0_judgeRow 13 = .ok (.aload_n 0, 1) := dk_42 (dk_at dksX0_judgeRow_0 13 rfl rfl)
theorem dX0_judgeRow_14 : decode cX0_judgeRow 14 = .ok (.getfield 69, 3) := dk_180 0 69 (dk_at dksX0_judgeRow_0 14 rfl rfl)
theorem dX0_judgeRow_17 : decode cX0_judgeRow 17 = .ok (.getfield 189, 3) := dk_180 0 189 (dk_at dksX0_judgeRow_0 17 rfl rfl)
theorem dX0_judgeRow_20 : decode cX0_judgeRow 20 = .ok (.if_icmp .ge 55, 3) := dk_162 0 55 (dk_at dksX0_judgeRow_0 20 rfl rfl)
theorem dX0_judgeRow_23 : decode cX0_judgeRow 23 = .ok (.aload_n 0, 1) := dk_42 (dk_at dksX0_judgeRow_0 23 rfl rfl)
theorem dX0_judgeRow_24 : decode cX0_judgeRow 24 = .ok (.getfield 69, 3) := dk_180 0 69 (dk_at dksX0_judgeRow_1 0 rfl rfl)
theorem dX0_judgeRow_27 : decode cX0_judgeRow 27 = .ok (.getfield 130, 3) := dk_180 0 130 (dk_at dksX0_judgeRow_1 3 rfl rfl)
theorem dX0_judgeRow_30 : decode cX0_judgeRow 30 = .ok (.iload_n 2, 1) := dk_28 (dk_at dksX0_judgeRow_1 6 rfl rfl)
theorem dX0_judgeRow_31 : decode cX0_judgeRow 31 = .ok (.iaload, 1) := dk_46 (dk_at dksX0_judgeRow_1 7 rfl rfl)
theorem dX0_judgeRow_32 : decode cX0_judgeRow 32 = .ok (.bipush (-9), 2) := dk_16 247 (dk_at dksX0_judgeRow_1 8 rfl rfl)
theorem dX0_judgeRow_34 : decode cX0_judgeRow 34 = .ok (.if_icmp .ne 8, 3) := dk_160 0 8 (dk_at dksX0_judgeRow_1 10 rfl rfl)
theorem dX0_judgeRow_37 : decode cX0_judgeRow 37 = .ok (.bipush 9, 2) := dk_16 9 (dk_at dksX0_judgeRow_1 13 rfl rfl)
theorem dX0_judgeRow_39 : decode cX0_judgeRow 39 = .ok (.goto 12, 3) := dk_167 0 12 (dk_at dksX0_judgeRow_1 15 rfl rfl)
theorem dX0_judgeRow_42 : decode cX0_judgeRow 42 = .ok (.aload_n 0, 1) := dk_42 (dk_at dksX0_judgeRow_1 18 rfl rfl)
theorem dX0_judgeRow_43 : decode cX0_judgeRow 43 = .ok (.getfield 69, 3) := dk_180 0 69 (dk_at dksX0_judgeRow_1 19 rfl rfl)
theorem dX0_judgeRow_46 : decode cX0_judgeRow 46 = .ok (.getfield 130, 3) := dk_180 0 130 (dk_at dksX0_judgeRow_2 0 rfl rfl)
theorem dX0_judgeRow_49 : decode cX0_judgeRow 49 = .ok (.iload_n 2, 1) := dk_28 (dk_at dksX0_judgeRow_2 3 rfl rfl)
theorem dX0_judgeRow_50 : decode cX0_judgeRow 50 = .ok (.iaload, 1) := dk_46 (dk_at dksX0_judgeRow_2 4 rfl rfl)
theorem dX0_judgeRow_51 : decode cX0_judgeRow 51 = .ok (.istore_n 3, 1) := dk_62 (dk_at dksX0_judgeRow_2 5 rfl rfl)
theorem dX0_judgeRow_52 : decode cX0_judgeRow 52 = .ok (.iload_n 2, 1) := dk_28 (dk_at dksX0_judgeRow_2 6 rfl rfl)
theorem dX0_judgeRow_53 : decode cX0_judgeRow 53 = .ok (.iload_n 1, 1) := dk_27 (dk_at dksX0_judgeRow_2 7 rfl rfl)
theorem dX0_judgeRow_54 : decode cX0_judgeRow 54 = .ok (.if_icmp .eq 13, 3) := dk_159 0 13 (dk_at dksX0_judgeRow_2 8 rfl rfl)
theorem dX0_judgeRow_57 : decode cX0_judgeRow 57 = .ok (.aload_n 0, 1) := dk_42 (dk_at dksX0_judgeRow_2 11 rfl rfl)
theorem dX0_judgeRow_58 : decode cX0_judgeRow 58 = .ok (.getfield 79, 3) := dk_180 0 79 (dk_at dksX0_judgeRow_2 12 rfl rfl)
theorem dX0_judgeRow_61 : decode cX0_judgeRow 61 = .ok (.iload_n 2, 1) := dk_28 (dk_at dksX0_judgeRow_2 15 rfl rfl)
theorem dX0_judgeRow_62 : decode cX0_judgeRow 62 = .ok (.baload, 1) := dk_51 (dk_at dksX0_judgeRow_2 16 rfl rfl)
theorem dX0_judgeRow_63 : decode cX0_judgeRow 63 = .ok (.iload_n 3, 1) := dk_29 (dk_at dksX0_judgeRow_2 17 rfl rfl)
theorem dX0_judgeRow_64 : decode cX0_judgeRow 64 = .ok (.if_icmp .eq 5, 3) := dk_159 0 5 (dk_at dksX0_judgeRow_2 18 rfl rfl)
theorem dX0_judgeRow_67 : decode cX0_judgeRow 67 = .ok (.iload_n 2, 1) := dk_28 (dk_at dksX0_judgeRow_2 21 rfl rfl)
theorem dX0_judgeRow_68 : decode cX0_judgeRow 68 = .ok (.ireturn, 1) := dk_172 (dk_at dksX0_judgeRow_2 22 rfl rfl)
theorem dX0_judgeRow_69 : decode cX0_judgeRow 69 = .ok (.iinc 2 1, 3) := dk_132 2 1 (dk_at dksX0_judgeRow_3 0 rfl rfl)
theorem dX0_judgeRow_72 : decode cX0_judgeRow 72 = .ok (.goto (-60), 3) := dk_167 255 196 (dk_at dksX0_judgeRow_3 3 rfl rfl)
theorem dX0_judgeRow_75 : decode cX0_judgeRow 75 = .ok (.iload_n 1, 1) := dk_27 (dk_at dksX0_judgeRow_3 6 rfl rfl)
theorem dX0_judgeRow_76 : decode cX0_judgeRow 76 = .ok (.aload_n 0, 1) := dk_42 (dk_at dksX0_judgeRow_3 7 rfl rfl)
theorem dX0_judgeRow_77 : decode cX0_judgeRow 77 = .ok (.getfield 69, 3) := dk_180 0 69 (dk_at dksX0_judgeRow_3 8 rfl rfl)
theorem dX0_judgeRow_80 : decode cX0_judgeRow 80 = .ok (.getfield 189, 3) := dk_180 0 189 (dk_at dksX0_judgeRow_3 11 rfl rfl)
theorem dX0_judgeRow_83 : decode cX0_judgeRow 83 = .ok (.if_icmp .le 13, 3) := dk_164 0 13 (dk_at dksX0_judgeRow_3 14 rfl rfl)
theorem dX0_judgeRow_86 : decode cX0_judgeRow 86 = .ok (.aload_n 0, 1) := dk_42 (dk_at dksX0_judgeRow_3 17 rfl rfl)
theorem dX0_judgeRow_87 : decode cX0_judgeRow 87 = .ok (.getfield 69, 3) := dk_180 0 69 (dk_at dksX0_judgeRow_3 18 rfl rfl)
theorem dX0_judgeRow_90 : decode cX0_judgeRow 90 = .ok (.getfield 189, 3) := dk_180 0 189 (dk_at dksX0_judgeRow_3 21 rfl rfl)
theorem dX0_judgeRow_93 : decode cX0_judgeRow 93 = .ok (.goto 5, 3) := dk_167 0 5 (dk_at dksX0_judgeRow_4 0 rfl rfl)
theorem dX0_judgeRow_96 : decode cX0_judgeRow 96 = .ok (.bipush (-9), 2) := dk_16 247 (dk_at dksX0_judgeRow_4 3 rfl rfl)
theorem dX0_judgeRow_98 : decode cX0_judgeRow 98 = .ok (.ireturn, 1) := dk_172 (dk_at dksX0_judgeRow_4 5 rfl rfl)
abbrev cX0_ofLast : ByteArray := prog_1_method_56_code
def yX0_ofLast : MethodName := ⟨RX0, "ofLast", "(III)I"⟩
def dkwX0_ofLast_4 : List UInt8 := [184, 0, 9, 42, 180, 0, 69, 42, 180, 0, 76, 182, 0, 112, 42, 180, 0, 69, 180, 1, 74, 172]
abbrev dktX0_ofLast_4 : List UInt8 := dkwX0_ofLast_4 ++ []
def dkwX0_ofLast_3 : List UInt8 := [180, 0, 76, 42, 180, 0, 69, 182, 0, 112, 42, 180, 0, 69, 180, 1, 74, 172, 42, 180, 1, 160, 16, 253]
abbrev dktX0_ofLast_3 : List UInt8 := dkwX0_ofLast_3 ++ dktX0_ofLast_4
def dkwX0_ofLast_2 : List UInt8 := [28, 133, 10, 20, 1, 155, 184, 0, 238, 42, 28, 29, 182, 1, 157, 172, 42, 4, 181, 1, 160, 42]
abbrev dktX0_ofLast_2 : List UInt8 := dkwX0_ofLast_2 ++ dktX0_ofLast_3
def dkwX0_ofLast_1 : List UInt8 := [171, 0, 0, 0, 0, 0, 67, 0, 0, 0, 2, 0, 0, 0, 27, 0, 0, 0, 27, 0, 0, 0, 28, 0, 0, 0, 43]
abbrev dktX0_ofLast_1 : List UInt8 := dkwX0_ofLast_1 ++ dktX0_ofLast_2
def dkwX0_ofLast_0 : List UInt8 := [27]
abbrev dktX0_ofLast_0 : List UInt8 := dkwX0_ofLast_0 ++ dktX0_ofLast_1
theorem dksX0_ofLast_0 : cX0_ofLast.data.toList.drop 0 = dktX0_ofLast_0 := by decide +kernel
theorem dksX0_ofLast_1 : cX0_ofLast.data.toList.drop 1 = dktX0_ofLast_1 := dk_seg dksX0_ofLast_0 1 rfl rfl
theorem dksX0_ofLast_2 : cX0_ofLast.data.toList.drop 28 = dktX0_ofLast_2 := dk_seg dksX0_ofLast_1 27 rfl rfl
theorem dksX0_ofLast_3 : cX0_ofLast.data.toList.drop 50 = dktX0_ofLast_3 := dk_seg dksX0_ofLast_2 22 rfl rfl
theorem dksX0_ofLast_4 : cX0_ofLast.data.toList.drop 74 = dktX0_ofLast_4 := dk_seg dksX0_ofLast_3 24 rfl rfl
theorem dX0_ofLast_0 : decode cX0_ofLast 0 = .ok (.iload_n 1, 1) := dk_27 (dk_at dksX0_ofLast_0 0 rfl rfl)
theorem dX0_ofLast_1 : decode cX0_ofLast 1 = .ok (.lookupswitch 67 #[(27, 27), (28, 43)], 27) := by decide +kernel
theorem dX0_ofLast_28 : decode cX0_ofLast 28 = .ok (.iload_n 2, 1) := dk_28 (dk_at dksX0_ofLast_2 0 rfl rfl)
theorem dX0_ofLast_29 : decode cX0_ofLast 29 = .ok (.i2l, 1) := dk_133 (dk_at dksX0_ofLast_2 1 rfl rfl)
theorem dX0_ofLast_30 : decode cX0_ofLast 30 = .ok (.lconst 1, 1) := dk_10 (dk_at dksX0_ofLast_2 2 rfl rfl)
theorem dX0_ofLast_31 : decode cX0_ofLast 31 = .ok (.ldc2_w 411, 3) := dk_20 1 155 (dk_at dksX0_ofLast_2 3 rfl rfl)
theorem dX0_ofLast_34 : decode cX0_ofLast 34 = .ok (.invokestatic 238, 3) := dk_184 0 238 (dk_at dksX0_ofLast_2 6 rfl rfl)
theorem dX0_ofLast_37 : decode cX0_ofLast 37 = .ok (.aload_n 0, 1) := dk_42 (dk_at dksX0_ofLast_2 9 rfl rfl)
theorem dX0_ofLast_38 : decode cX0_ofLast 38 = .ok (.iload_n 2, 1) := dk_28 (dk_at dksX0_ofLast_2 10 rfl rfl)
theorem dX0_ofLast_39 : decode cX0_ofLast 39 = .ok (.iload_n 3, 1) := dk_29 (dk_at dksX0_ofLast_2 11 rfl rfl)
theorem dX0_ofLast_40 : decode cX0_ofLast 40 = .ok (.invokevirtual 413, 3) := dk_182 1 157 (dk_at dksX0_ofLast_2 12 rfl rfl)
theorem dX0_ofLast_43 : decode cX0_ofLast 43 = .ok (.ireturn, 1) := dk_172 (dk_at dksX0_ofLast_2 15 rfl rfl)
theorem dX0_ofLast_44 : decode cX0_ofLast 44 = .ok (.aload_n 0, 1) := dk_42 (dk_at dksX0_ofLast_2 16 rfl rfl)
theorem dX0_ofLast_45 : decode cX0_ofLast 45 = .ok (.iconst 1, 1) := dk_4 (dk_at dksX0_ofLast_2 17 rfl rfl)
theorem dX0_ofLast_46 : decode cX0_ofLast 46 = .ok (.putfield 416, 3) := dk_181 1 160 (dk_at dksX0_ofLast_2 18 rfl rfl)
theorem dX0_ofLast_49 : decode cX0_ofLast 49 = .ok (.aload_n 0, 1) := dk_42 (dk_at dksX0_ofLast_2 21 rfl rfl)
theorem dX0_ofLast_50 : decode cX0_ofLast 50 = .ok (.getfield 76, 3) := dk_180 0 76 (dk_at dksX0_ofLast_3 0 rfl rfl)
theorem dX0_ofLast_53 : decode cX0_ofLast 53 = .ok (.aload_n 0, 1) := dk_42 (dk_at dksX0_ofLast_3 3 rfl rfl)
theorem dX0_ofLast_54 : decode cX0_ofLast 54 = .ok (.getfield 69, 3) := dk_180 0 69 (dk_at dksX0_ofLast_3 4 rfl rfl)
theorem dX0_ofLast_57 : decode cX0_ofLast 57 = .ok (.invokevirtual 112, 3) := dk_182 0 112 (dk_at dksX0_ofLast_3 7 rfl rfl)
theorem dX0_ofLast_60 : decode cX0_ofLast 60 = .ok (.aload_n 0, 1) := dk_42 (dk_at dksX0_ofLast_3 10 rfl rfl)
theorem dX0_ofLast_61 : decode cX0_ofLast 61 = .ok (.getfield 69, 3) := dk_180 0 69 (dk_at dksX0_ofLast_3 11 rfl rfl)
theorem dX0_ofLast_64 : decode cX0_ofLast 64 = .ok (.getfield 330, 3) := dk_180 1 74 (dk_at dksX0_ofLast_3 14 rfl rfl)
theorem dX0_ofLast_67 : decode cX0_ofLast 67 = .ok (.ireturn, 1) := dk_172 (dk_at dksX0_ofLast_3 17 rfl rfl)
theorem dX0_ofLast_68 : decode cX0_ofLast 68 = .ok (.aload_n 0, 1) := dk_42 (dk_at dksX0_ofLast_3 18 rfl rfl)
theorem dX0_ofLast_69 : decode cX0_ofLast 69 = .ok (.getfield 416, 3) := dk_180 1 160 (dk_at dksX0_ofLast_3 19 rfl rfl)
theorem dX0_ofLast_72 : decode cX0_ofLast 72 = .ok (.bipush (-3), 2) := dk_16 253 (dk_at dksX0_ofLast_3 22 rfl rfl)
theorem dX0_ofLast_74 : decode cX0_ofLast 74 = .ok (.invokestatic 9, 3) := dk_184 0 9 (dk_at dksX0_ofLast_4 0 rfl rfl)
theorem dX0_ofLast_77 : decode cX0_ofLast 77 = .ok (.aload_n 0, 1) := dk_42 (dk_at dksX0_ofLast_4 3 rfl rfl)
theorem dX0_ofLast_78 : decode cX0_ofLast 78 = .ok (.getfield 69, 3) := dk_180 0 69 (dk_at dksX0_ofLast_4 4 rfl rfl)
theorem dX0_ofLast_81 : decode cX0_ofLast 81 = .ok (.aload_n 0, 1) := dk_42 (dk_at dksX0_ofLast_4 7 rfl rfl)
theorem dX0_ofLast_82 : decode cX0_ofLast 82 = .ok (.getfield 76, 3) := dk_180 0 76 (dk_at dksX0_ofLast_4 8 rfl rfl)
theorem dX0_ofLast_85 : decode cX0_ofLast 85 = .ok (.invokevirtual 112, 3) := dk_182 0 112 (dk_at dksX0_ofLast_4 11 rfl rfl)
theorem dX0_ofLast_88 : decode cX0_ofLast 88 = .ok (.aload_n 0, 1) := dk_42 (dk_at dksX0_ofLast_4 14 rfl rfl)
theorem dX0_ofLast_89 : decode cX0_ofLast 89 = .ok (.getfield 69, 3) := dk_180 0 69 (dk_at dksX0_ofLast_4 15 rfl rfl)
theorem dX0_ofLast_92 : decode cX0_ofLast 92 = .ok (.getfield 330, 3) := dk_180 1 74 (dk_at dksX0_ofLast_4 18 rfl rfl)
theorem dX0_ofLast_95 : decode cX0_ofLast 95 = .ok (.ireturn, 1) := dk_172 (dk_at dksX0_ofLast_4 21 rfl rfl)
abbrev cX0_bySeeds : ByteArray := prog_1_method_26_code
def yX0_bySeeds : MethodName := ⟨RX0, "bySeeds", "(II)I"⟩
def dkwX0_bySeeds_3 : List UInt8 := [167, 255, 196, 25, 4, 2, 182, 0, 137, 172]
abbrev dktX0_bySeeds_3 : List UInt8 := dkwX0_bySeeds_3 ++ []
def dkwX0_bySeeds_2 : List UInt8 := [126, 17, 1, 0, 108, 8, 112, 79, 132, 6, 1, 167, 255, 217, 25, 4, 182, 0, 133, 87, 132, 5, 1]
abbrev dktX0_bySeeds_2 : List UInt8 := dkwX0_bySeeds_2 ++ dktX0_bySeeds_3
def dkwX0_bySeeds_1 : List UInt8 := [180, 0, 189, 162, 0, 35, 29, 18, 209, 104, 18, 210, 96, 62, 25, 4, 180, 0, 192, 21, 6, 29, 18, 211]
abbrev dktX0_bySeeds_1 : List UInt8 := dkwX0_bySeeds_1 ++ dktX0_bySeeds_2
def dkwX0_bySeeds_0 : List UInt8 := [28, 62, 42, 182, 0, 126, 58, 4, 3, 54, 5, 21, 5, 27, 162, 0, 60, 3, 54, 6, 21, 6, 25, 4]
abbrev dktX0_bySeeds_0 : List UInt8 := dkwX0_bySeeds_0 ++ dktX0_bySeeds_1
theorem dksX0_bySeeds_0 : cX0_bySeeds.data.toList.drop 0 = dktX0_bySeeds_0 := by decide +kernel
theorem dksX0_bySeeds_1 : cX0_bySeeds.data.toList.drop 24 = dktX0_bySeeds_1 := dk_seg dksX0_bySeeds_0 24 rfl rfl
theorem dksX0_bySeeds_2 : cX0_bySeeds.data.toList.drop 48 = dktX0_bySeeds_2 := dk_seg dksX0_bySeeds_1 24 rfl rfl
theorem dksX0_bySeeds_3 : cX0_bySeeds.data.toList.drop 71 = dktX0_bySeeds_3 := dk_seg dksX0_bySeeds_2 23 rfl rfl
theorem dX0_bySeeds_0 : decode cX0_bySeeds 0 = .ok (.iload_n 2, 1) := dk_28 (dk_at dksX0_bySeeds_0 0 rfl rfl)
theorem dX0_bySeeds_1 : decode cX0_bySeeds 1 = .ok (.istore_n 3, 1) := dk_62 (dk_at dksX0_bySeeds_0 1 rfl rfl)
theorem dX0_bySeeds_2 : decode cX0_bySeeds 2 = .ok (.aload_n 0, 1) := dk_42 (dk_at dksX0_bySeeds_0 2 rfl rfl)
theorem dX0_bySeeds_3 : decode cX0_bySeeds 3 = .ok (.invokevirtual 126, 3) := dk_182 0 126 (dk_at dksX0_bySeeds_0 3 rfl rfl)
theorem dX0_bySeeds_6 : decode cX0_bySeeds 6 = .ok (.astore 4, 2) := dk_58 4 (dk_at dksX0_bySeeds_0 6 rfl rfl)
theorem dX0_bySeeds_8 : decode cX0_bySeeds 8 = .ok (.iconst 0, 1) := dk_3 (dk_at dksX0_bySeeds_0 8 rfl rfl)
theorem dX0_bySeeds_9 : decode cX0_bySeeds 9 = .ok (.istore 5, 2) := dk_54 5 (dk_at dksX0_bySeeds_0 9 rfl rfl)
theorem dX0_bySeeds_11 : decode cX0_bySeeds 11 = .ok (.iload 5, 2) := dk_21 5 (dk_at dksX0_bySeeds_0 11 rfl rfl)
theorem dX0_bySeeds_13 : decode cX0_bySeeds 13 = .ok (.iload_n 1, 1) := dk_27 (dk_at dksX0_bySeeds_0 13 rfl rfl)
theorem dX0_bySeeds_14 : decode cX0_bySeeds 14 = .ok (.if_icmp .ge 60, 3) := dk_162 0 60 (dk_at dksX0_bySeeds_0 14 rfl rfl)
theorem dX0_bySeeds_17 : decode cX0_bySeeds 17 = .ok (.iconst 0, 1) := dk_3 (dk_at dksX0_bySeeds_0 17 rfl rfl)
theorem dX0_bySeeds_18 : decode cX0_bySeeds 18 = .ok (.istore 6, 2) := dk_54 6 (dk_at dksX0_bySeeds_0 18 rfl rfl)
theorem dX0_bySeeds_20 : decode cX0_bySeeds 20 = .ok (.iload 6, 2) := dk_21 6 (dk_at dksX0_bySeeds_0 20 rfl rfl)
theorem dX0_bySeeds_22 : decode cX0_bySeeds 22 = .ok (.aload 4, 2) := dk_25 4 (dk_at dksX0_bySeeds_0 22 rfl rfl)
theorem dX0_bySeeds_24 : decode cX0_bySeeds 24 = .ok (.getfield 189, 3) := dk_180 0 189 (dk_at dksX0_bySeeds_1 0 rfl rfl)
theorem dX0_bySeeds_27 : decode cX0_bySeeds 27 = .ok (.if_icmp .ge 35, 3) := dk_162 0 35 (dk_at dksX0_bySeeds_1 3 rfl rfl)
theorem dX0_bySeeds_30 : decode cX0_bySeeds 30 = .ok (.iload_n 3, 1) := dk_29 (dk_at dksX0_bySeeds_1 6 rfl rfl)
theorem dX0_bySeeds_31 : decode cX0_bySeeds 31 = .ok (.ldc 209, 2) := dk_18 209 (dk_at dksX0_bySeeds_1 7 rfl rfl)
theorem dX0_bySeeds_33 : decode cX0_bySeeds 33 = .ok (.imul, 1) := dk_104 (dk_at dksX0_bySeeds_1 9 rfl rfl)
theorem dX0_bySeeds_34 : decode cX0_bySeeds 34 = .ok (.ldc 210, 2) := dk_18 210 (dk_at dksX0_bySeeds_1 10 rfl rfl)
theorem dX0_bySeeds_36 : decode cX0_bySeeds 36 = .ok (.iadd, 1) := dk_96 (dk_at dksX0_bySeeds_1 12 rfl rfl)
theorem dX0_bySeeds_37 : decode cX0_bySeeds 37 = .ok (.istore_n 3, 1) := dk_62 (dk_at dksX0_bySeeds_1 13 rfl rfl)
theorem dX0_bySeeds_38 : decode cX0_bySeeds 38 = .ok (.aload 4, 2) := dk_25 4 (dk_at dksX0_bySeeds_1 14 rfl rfl)
theorem dX0_bySeeds_40 : decode cX0_bySeeds 40 = .ok (.getfield 192, 3) := dk_180 0 192 (dk_at dksX0_bySeeds_1 16 rfl rfl)
theorem dX0_bySeeds_43 : decode cX0_bySeeds 43 = .ok (.iload 6, 2) := dk_21 6 (dk_at dksX0_bySeeds_1 19 rfl rfl)
theorem dX0_bySeeds_45 : decode cX0_bySeeds 45 = .ok (.iload_n 3, 1) := dk_29 (dk_at dksX0_bySeeds_1 21 rfl rfl)
theorem dX0_bySeeds_46 : decode cX0_bySeeds 46 = .ok (.ldc 211, 2) := dk_18 211 (dk_at dksX0_bySeeds_1 22 rfl rfl)
theorem dX0_bySeeds_48 : decode cX0_bySeeds 48 = .ok (.iand, 1) := dk_126 (dk_at dksX0_bySeeds_2 0 rfl rfl)
theorem dX0_bySeeds_49 : decode cX0_bySeeds 49 = .ok (.sipush 256, 3) := dk_17 1 0 (dk_at dksX0_bySeeds_2 1 rfl rfl)
theorem dX0_bySeeds_52 : decode cX0_bySeeds 52 = .ok (.idiv, 1) := dk_108 (dk_at dksX0_bySeeds_2 4 rfl rfl)
theorem dX0_bySeeds_53 : decode cX0_bySeeds 53 = .ok (.iconst 5, 1) := dk_8 (dk_at dksX0_bySeeds_2 5 rfl rfl)
theorem dX0_bySeeds_54 : decode cX0_bySeeds 54 = .ok (.irem, 1) := dk_112 (dk_at dksX0_bySeeds_2 6 rfl rfl)
theorem dX0_bySeeds_55 : decode cX0_bySeeds 55 = .ok (.iastore, 1) := dk_79 (dk_at dksX0_bySeeds_2 7 rfl rfl)
theorem dX0_bySeeds_56 : decode cX0_bySeeds 56 = .ok (.iinc 6 1, 3) := dk_132 6 1 (dk_at dksX0_bySeeds_2 8 rfl rfl)
theorem dX0_bySeeds_59 : decode cX0_bySeeds 59 = .ok (.goto (-39), 3) := dk_167 255 217 (dk_at dksX0_bySeeds_2 11 rfl rfl)
theorem dX0_bySeeds_62 : decode cX0_bySeeds 62 = .ok (.aload 4, 2) := dk_25 4 (dk_at dksX0_bySeeds_2 14 rfl rfl)
theorem dX0_bySeeds_64 : decode cX0_bySeeds 64 = .ok (.invokevirtual 133, 3) := dk_182 0 133 (dk_at dksX0_bySeeds_2 16 rfl rfl)
theorem dX0_bySeeds_67 : decode cX0_bySeeds 67 = .ok (.pop, 1) := dk_87 (dk_at dksX0_bySeeds_2 19 rfl rfl)
theorem dX0_bySeeds_68 : decode cX0_bySeeds 68 = .ok (.iinc 5 1, 3) := dk_132 5 1 (dk_at dksX0_bySeeds_2 20 rfl rfl)
theorem dX0_bySeeds_71 : decode cX0_bySeeds 71 = .ok (.goto (-60), 3) := dk_167 255 196 (dk_at dksX0_bySeeds_3 0 rfl rfl)
theorem dX0_bySeeds_74 : decode cX0_bySeeds 74 = .ok (.aload 4, 2) := dk_25 4 (dk_at dksX0_bySeeds_3 3 rfl rfl)
theorem dX0_bySeeds_76 : decode cX0_bySeeds 76 = .ok (.iconst (-1), 1) := dk_2 (dk_at dksX0_bySeeds_3 5 rfl rfl)
theorem dX0_bySeeds_77 : decode cX0_bySeeds 77 = .ok (.invokevirtual 137, 3) := dk_182 0 137 (dk_at dksX0_bySeeds_3 6 rfl rfl)
theorem dX0_bySeeds_80 : decode cX0_bySeeds 80 = .ok (.ireturn, 1) := dk_172 (dk_at dksX0_bySeeds_3 9 rfl rfl)
abbrev cX0_refuse : ByteArray := prog_1_method_27_code
def yX0_refuse : MethodName := ⟨RX0, "refuse", "(I)I"⟩
def dkwX0_refuse_0 : List UInt8 := [27, 16, 236, 164, 0, 14, 42, 180, 0, 87, 27, 116, 92, 46, 4, 96, 79, 27, 172]
abbrev dktX0_refuse_0 : List UInt8 := dkwX0_refuse_0 ++ []
theorem dksX0_refuse_0 : cX0_refuse.data.toList.drop 0 = dktX0_refuse_0 := by decide +kernel
theorem dX0_refuse_0 : decode cX0_refuse 0 = .ok (.iload_n 1, 1) := dk_27 (dk_at dksX0_refuse_0 0 rfl rfl)
theorem dX0_refuse_1 : decode cX0_refuse 1 = .ok (.bipush (-20), 2) := dk_16 236 (dk_at dksX0_refuse_0 1 rfl rfl)
theorem dX0_refuse_3 : decode cX0_refuse 3 = .ok (.if_icmp .le 14, 3) := dk_164 0 14 (dk_at dksX0_refuse_0 3 rfl rfl)
theorem dX0_refuse_6 : decode cX0_refuse 6 = .ok (.aload_n 0, 1) := dk_42 (dk_at dksX0_refuse_0 6 rfl rfl)
theorem dX0_refuse_7 : decode cX0_refuse 7 = .ok (.getfield 87, 3) := dk_180 0 87 (dk_at dksX0_refuse_0 7 rfl rfl)
theorem dX0_refuse_10 : decode cX0_refuse 10 = .ok (.iload_n 1, 1) := dk_27 (dk_at dksX0_refuse_0 10 rfl rfl)
theorem dX0_refuse_11 : decode cX0_refuse 11 = .ok (.ineg, 1) := dk_116 (dk_at dksX0_refuse_0 11 rfl rfl)
theorem dX0_refuse_12 : decode cX0_refuse 12 = .ok (.dup2, 1) := dk_92 (dk_at dksX0_refuse_0 12 rfl rfl)
theorem dX0_refuse_13 : decode cX0_refuse 13 = .ok (.iaload, 1) := dk_46 (dk_at dksX0_refuse_0 13 rfl rfl)
theorem dX0_refuse_14 : decode cX0_refuse 14 = .ok (.iconst 1, 1) := dk_4 (dk_at dksX0_refuse_0 14 rfl rfl)
theorem dX0_refuse_15 : decode cX0_refuse 15 = .ok (.iadd, 1) := dk_96 (dk_at dksX0_refuse_0 15 rfl rfl)
theorem dX0_refuse_16 : decode cX0_refuse 16 = .ok (.iastore, 1) := dk_79 (dk_at dksX0_refuse_0 16 rfl rfl)
theorem dX0_refuse_17 : decode cX0_refuse 17 = .ok (.iload_n 1, 1) := dk_27 (dk_at dksX0_refuse_0 17 rfl rfl)
theorem dX0_refuse_18 : decode cX0_refuse 18 = .ok (.ireturn, 1) := dk_172 (dk_at dksX0_refuse_0 18 rfl rfl)
abbrev cX0_office : ByteArray := prog_1_method_59_code
def yX0_office : MethodName := ⟨RX0, "office", "()I"⟩
def dkwX0_office_0 : List UInt8 := [42, 4, 3, 3, 3, 182, 1, 164, 172]
abbrev dktX0_office_0 : List UInt8 := dkwX0_office_0 ++ []
theorem dksX0_office_0 : cX0_office.data.toList.drop 0 = dktX0_office_0 := by decide +kernel
theorem dX0_office_0 : decode cX0_office 0 = .ok (.aload_n 0, 1) := dk_42 (dk_at dksX0_office_0 0 rfl rfl)
theorem dX0_office_1 : decode cX0_office 1 = .ok (.iconst 1, 1) := dk_4 (dk_at dksX0_office_0 1 rfl rfl)
theorem dX0_office_2 : decode cX0_office 2 = .ok (.iconst 0, 1) := dk_3 (dk_at dksX0_office_0 2 rfl rfl)
theorem dX0_office_3 : decode cX0_office 3 = .ok (.iconst 0, 1) := dk_3 (dk_at dksX0_office_0 3 rfl rfl)
theorem dX0_office_4 : decode cX0_office 4 = .ok (.iconst 0, 1) := dk_3 (dk_at dksX0_office_0 4 rfl rfl)
theorem dX0_office_5 : decode cX0_office 5 = .ok (.invokevirtual 420, 3) := dk_182 1 164 (dk_at dksX0_office_0 5 rfl rfl)
theorem dX0_office_8 : decode cX0_office 8 = .ok (.ireturn, 1) := dk_172 (dk_at dksX0_office_0 8 rfl rfl)
abbrev cX0_song : ByteArray := prog_1_method_60_code
def yX0_song : MethodName := ⟨RX0, "song", "(II)I"⟩
def dkwX0_song_0 : List UInt8 := [42, 5, 27, 28, 3, 182, 1, 164, 172]
abbrev dktX0_song_0 : List UInt8 := dkwX0_song_0 ++ []
theorem dksX0_song_0 : cX0_song.data.toList.drop 0 = dktX0_song_0 := by decide +kernel
theorem dX0_song_0 : decode cX0_song 0 = .ok (.aload_n 0, 1) := dk_42 (dk_at dksX0_song_0 0 rfl rfl)
theorem dX0_song_1 : decode cX0_song 1 = .ok (.iconst 2, 1) := dk_5 (dk_at dksX0_song_0 1 rfl rfl)
theorem dX0_song_2 : decode cX0_song 2 = .ok (.iload_n 1, 1) := dk_27 (dk_at dksX0_song_0 2 rfl rfl)
theorem dX0_song_3 : decode cX0_song 3 = .ok (.iload_n 2, 1) := dk_28 (dk_at dksX0_song_0 3 rfl rfl)
theorem dX0_song_4 : decode cX0_song 4 = .ok (.iconst 0, 1) := dk_3 (dk_at dksX0_song_0 4 rfl rfl)
theorem dX0_song_5 : decode cX0_song 5 = .ok (.invokevirtual 420, 3) := dk_182 1 164 (dk_at dksX0_song_0 5 rfl rfl)
theorem dX0_song_8 : decode cX0_song 8 = .ok (.ireturn, 1) := dk_172 (dk_at dksX0_song_0 8 rfl rfl)
abbrev cX0_head : ByteArray := prog_1_method_61_code
def yX0_head : MethodName := ⟨RX0, "head", "(II)I"⟩
def dkwX0_head_0 : List UInt8 := [42, 6, 27, 28, 3, 182, 1, 164, 172]
abbrev dktX0_head_0 : List UInt8 := dkwX0_head_0 ++ []
theorem dksX0_head_0 : cX0_head.data.toList.drop 0 = dktX0_head_0 := by decide +kernel
theorem dX0_head_0 : decode cX0_head 0 = .ok (.aload_n 0, 1) := dk_42 (dk_at dksX0_head_0 0 rfl rfl)
theorem dX0_head_1 : decode cX0_head 1 = .ok (.iconst 3, 1) := dk_6 (dk_at dksX0_head_0 1 rfl rfl)
theorem dX0_head_2 : decode cX0_head 2 = .ok (.iload_n 1, 1) := dk_27 (dk_at dksX0_head_0 2 rfl rfl)
theorem dX0_head_3 : decode cX0_head 3 = .ok (.iload_n 2, 1) := dk_28 (dk_at dksX0_head_0 3 rfl rfl)
theorem dX0_head_4 : decode cX0_head 4 = .ok (.iconst 0, 1) := dk_3 (dk_at dksX0_head_0 4 rfl rfl)
theorem dX0_head_5 : decode cX0_head 5 = .ok (.invokevirtual 420, 3) := dk_182 1 164 (dk_at dksX0_head_0 5 rfl rfl)
theorem dX0_head_8 : decode cX0_head 8 = .ok (.ireturn, 1) := dk_172 (dk_at dksX0_head_0 8 rfl rfl)
abbrev cX0_near : ByteArray := prog_1_method_62_code
def yX0_near : MethodName := ⟨RX0, "near", "(I)I"⟩
def dkwX0_near_0 : List UInt8 := [42, 7, 27, 3, 3, 182, 1, 164, 172]
abbrev dktX0_near_0 : List UInt8 := dkwX0_near_0 ++ []
theorem dksX0_near_0 : cX0_near.data.toList.drop 0 = dktX0_near_0 := by decide +kernel
theorem dX0_near_0 : decode cX0_near 0 = .ok (.aload_n 0, 1) := dk_42 (dk_at dksX0_near_0 0 rfl rfl)
theorem dX0_near_1 : decode cX0_near 1 = .ok (.iconst 4, 1) := dk_7 (dk_at dksX0_near_0 1 rfl rfl)
theorem dX0_near_2 : decode cX0_near 2 = .ok (.iload_n 1, 1) := dk_27 (dk_at dksX0_near_0 2 rfl rfl)
theorem dX0_near_3 : decode cX0_near 3 = .ok (.iconst 0, 1) := dk_3 (dk_at dksX0_near_0 3 rfl rfl)
theorem dX0_near_4 : decode cX0_near 4 = .ok (.iconst 0, 1) := dk_3 (dk_at dksX0_near_0 4 rfl rfl)
theorem dX0_near_5 : decode cX0_near 5 = .ok (.invokevirtual 420, 3) := dk_182 1 164 (dk_at dksX0_near_0 5 rfl rfl)
theorem dX0_near_8 : decode cX0_near 8 = .ok (.ireturn, 1) := dk_172 (dk_at dksX0_near_0 8 rfl rfl)
abbrev cX0_door : ByteArray := prog_1_method_63_code
def yX0_door : MethodName := ⟨RX0, "door", "(I)I"⟩
def dkwX0_door_0 : List UInt8 := [42, 8, 27, 3, 3, 182, 1, 164, 172]
abbrev dktX0_door_0 : List UInt8 := dkwX0_door_0 ++ []
theorem dksX0_door_0 : cX0_door.data.toList.drop 0 = dktX0_door_0 := by decide +kernel
theorem dX0_door_0 : decode cX0_door 0 = .ok (.aload_n 0, 1) := dk_42 (dk_at dksX0_door_0 0 rfl rfl)
theorem dX0_door_1 : decode cX0_door 1 = .ok (.iconst 5, 1) := dk_8 (dk_at dksX0_door_0 1 rfl rfl)
theorem dX0_door_2 : decode cX0_door 2 = .ok (.iload_n 1, 1) := dk_27 (dk_at dksX0_door_0 2 rfl rfl)
theorem dX0_door_3 : decode cX0_door 3 = .ok (.iconst 0, 1) := dk_3 (dk_at dksX0_door_0 3 rfl rfl)
theorem dX0_door_4 : decode cX0_door 4 = .ok (.iconst 0, 1) := dk_3 (dk_at dksX0_door_0 4 rfl rfl)
theorem dX0_door_5 : decode cX0_door 5 = .ok (.invokevirtual 420, 3) := dk_182 1 164 (dk_at dksX0_door_0 5 rfl rfl)
theorem dX0_door_8 : decode cX0_door 8 = .ok (.ireturn, 1) := dk_172 (dk_at dksX0_door_0 8 rfl rfl)
abbrev cX0_go : ByteArray := prog_1_method_64_code
def yX0_go : MethodName := ⟨RX0, "go", "(II)I"⟩
def dkwX0_go_0 : List UInt8 := [42, 16, 6, 27, 28, 3, 182, 1, 164, 172]
abbrev dktX0_go_0 : List UInt8 := dkwX0_go_0 ++ []
theorem dksX0_go_0 : cX0_go.data.toList.drop 0 = dktX0_go_0 := by decide +kernel
theorem dX0_go_0 : decode cX0_go 0 = .ok (.aload_n 0, 1) := dk_42 (dk_at dksX0_go_0 0 rfl rfl)
theorem dX0_go_1 : decode cX0_go 1 = .ok (.bipush 6, 2) := dk_16 6 (dk_at dksX0_go_0 1 rfl rfl)
theorem dX0_go_3 : decode cX0_go 3 = .ok (.iload_n 1, 1) := dk_27 (dk_at dksX0_go_0 3 rfl rfl)
theorem dX0_go_4 : decode cX0_go 4 = .ok (.iload_n 2, 1) := dk_28 (dk_at dksX0_go_0 4 rfl rfl)
theorem dX0_go_5 : decode cX0_go 5 = .ok (.iconst 0, 1) := dk_3 (dk_at dksX0_go_0 5 rfl rfl)
theorem dX0_go_6 : decode cX0_go 6 = .ok (.invokevirtual 420, 3) := dk_182 1 164 (dk_at dksX0_go_0 6 rfl rfl)
theorem dX0_go_9 : decode cX0_go 9 = .ok (.ireturn, 1) := dk_172 (dk_at dksX0_go_0 9 rfl rfl)
abbrev cX0_get : ByteArray := prog_1_method_65_code
def yX0_get : MethodName := ⟨RX0, "get", "(II)I"⟩
def dkwX0_get_0 : List UInt8 := [42, 16, 7, 27, 28, 3, 182, 1, 164, 172]
abbrev dktX0_get_0 : List UInt8 := dkwX0_get_0 ++ []
theorem dksX0_get_0 : cX0_get.data.toList.drop 0 = dktX0_get_0 := by decide +kernel
theorem dX0_get_0 : decode cX0_get 0 = .ok (.aload_n 0, 1) := dk_42 (dk_at dksX0_get_0 0 rfl rfl)
theorem dX0_get_1 : decode cX0_get 1 = .ok (.bipush 7, 2) := dk_16 7 (dk_at dksX0_get_0 1 rfl rfl)
theorem dX0_get_3 : decode cX0_get 3 = .ok (.iload_n 1, 1) := dk_27 (dk_at dksX0_get_0 3 rfl rfl)
theorem dX0_get_4 : decode cX0_get 4 = .ok (.iload_n 2, 1) := dk_28 (dk_at dksX0_get_0 4 rfl rfl)
theorem dX0_get_5 : decode cX0_get 5 = .ok (.iconst 0, 1) := dk_3 (dk_at dksX0_get_0 5 rfl rfl)
theorem dX0_get_6 : decode cX0_get 6 = .ok (.invokevirtual 420, 3) := dk_182 1 164 (dk_at dksX0_get_0 6 rfl rfl)
theorem dX0_get_9 : decode cX0_get 9 = .ok (.ireturn, 1) := dk_172 (dk_at dksX0_get_0 9 rfl rfl)
abbrev cX0_remedy : ByteArray := prog_1_method_66_code
def yX0_remedy : MethodName := ⟨RX0, "remedy", "(II)I"⟩
def dkwX0_remedy_0 : List UInt8 := [42, 16, 8, 27, 28, 3, 182, 1, 164, 172]
abbrev dktX0_remedy_0 : List UInt8 := dkwX0_remedy_0 ++ []
theorem dksX0_remedy_0 : cX0_remedy.data.toList.drop 0 = dktX0_remedy_0 := by decide +kernel
theorem dX0_remedy_0 : decode cX0_remedy 0 = .ok (.aload_n 0, 1) := dk_42 (dk_at dksX0_remedy_0 0 rfl rfl)
theorem dX0_remedy_1 : decode cX0_remedy 1 = .ok (.bipush 8, 2) := dk_16 8 (dk_at dksX0_remedy_0 1 rfl rfl)
theorem dX0_remedy_3 : decode cX0_remedy 3 = .ok (.iload_n 1, 1) := dk_27 (dk_at dksX0_remedy_0 3 rfl rfl)
theorem dX0_remedy_4 : decode cX0_remedy 4 = .ok (.iload_n 2, 1) := dk_28 (dk_at dksX0_remedy_0 4 rfl rfl)
theorem dX0_remedy_5 : decode cX0_remedy 5 = .ok (.iconst 0, 1) := dk_3 (dk_at dksX0_remedy_0 5 rfl rfl)
theorem dX0_remedy_6 : decode cX0_remedy 6 = .ok (.invokevirtual 420, 3) := dk_182 1 164 (dk_at dksX0_remedy_0 6 rfl rfl)
theorem dX0_remedy_9 : decode cX0_remedy 9 = .ok (.ireturn, 1) := dk_172 (dk_at dksX0_remedy_0 9 rfl rfl)
abbrev cX0_loud : ByteArray := prog_1_method_67_code
def yX0_loud : MethodName := ⟨RX0, "loud", "(I)I"⟩
def dkwX0_loud_0 : List UInt8 := [42, 16, 9, 27, 3, 3, 182, 1, 164, 172]
abbrev dktX0_loud_0 : List UInt8 := dkwX0_loud_0 ++ []
theorem dksX0_loud_0 : cX0_loud.data.toList.drop 0 = dktX0_loud_0 := by decide +kernel
theorem dX0_loud_0 : decode cX0_loud 0 = .ok (.aload_n 0, 1) := dk_42 (dk_at dksX0_loud_0 0 rfl rfl)
theorem dX0_loud_1 : decode cX0_loud 1 = .ok (.bipush 9, 2) := dk_16 9 (dk_at dksX0_loud_0 1 rfl rfl)
theorem dX0_loud_3 : decode cX0_loud 3 = .ok (.iload_n 1, 1) := dk_27 (dk_at dksX0_loud_0 3 rfl rfl)
theorem dX0_loud_4 : decode cX0_loud 4 = .ok (.iconst 0, 1) := dk_3 (dk_at dksX0_loud_0 4 rfl rfl)
theorem dX0_loud_5 : decode cX0_loud 5 = .ok (.iconst 0, 1) := dk_3 (dk_at dksX0_loud_0 5 rfl rfl)
theorem dX0_loud_6 : decode cX0_loud 6 = .ok (.invokevirtual 420, 3) := dk_182 1 164 (dk_at dksX0_loud_0 6 rfl rfl)
theorem dX0_loud_9 : decode cX0_loud 9 = .ok (.ireturn, 1) := dk_172 (dk_at dksX0_loud_0 9 rfl rfl)
abbrev cX0_hour : ByteArray := prog_1_method_68_code
def yX0_hour : MethodName := ⟨RX0, "hour", "()I"⟩
def dkwX0_hour_0 : List UInt8 := [42, 16, 10, 3, 3, 3, 182, 1, 164, 172]
abbrev dktX0_hour_0 : List UInt8 := dkwX0_hour_0 ++ []
theorem dksX0_hour_0 : cX0_hour.data.toList.drop 0 = dktX0_hour_0 := by decide +kernel
theorem dX0_hour_0 : decode cX0_hour 0 = .ok (.aload_n 0, 1) := dk_42 (dk_at dksX0_hour_0 0 rfl rfl)
theorem dX0_hour_1 : decode cX0_hour 1 = .ok (.bipush 10, 2) := dk_16 10 (dk_at dksX0_hour_0 1 rfl rfl)
theorem dX0_hour_3 : decode cX0_hour 3 = .ok (.iconst 0, 1) := dk_3 (dk_at dksX0_hour_0 3 rfl rfl)
theorem dX0_hour_4 : decode cX0_hour 4 = .ok (.iconst 0, 1) := dk_3 (dk_at dksX0_hour_0 4 rfl rfl)
theorem dX0_hour_5 : decode cX0_hour 5 = .ok (.iconst 0, 1) := dk_3 (dk_at dksX0_hour_0 5 rfl rfl)
theorem dX0_hour_6 : decode cX0_hour 6 = .ok (.invokevirtual 420, 3) := dk_182 1 164 (dk_at dksX0_hour_0 6 rfl rfl)
theorem dX0_hour_9 : decode cX0_hour 9 = .ok (.ireturn, 1) := dk_172 (dk_at dksX0_hour_0 9 rfl rfl)
abbrev cX0_hold : ByteArray := prog_1_method_69_code
def yX0_hold : MethodName := ⟨RX0, "hold", "(III)I"⟩
def dkwX0_hold_0 : List UInt8 := [42, 16, 11, 27, 28, 29, 182, 1, 164, 172]
abbrev dktX0_hold_0 : List UInt8 := dkwX0_hold_0 ++ []
theorem dksX0_hold_0 : cX0_hold.data.toList.drop 0 = dktX0_hold_0 := by decide +kernel
theorem dX0_hold_0 : decode cX0_hold 0 = .ok (.aload_n 0, 1) := dk_42 (dk_at dksX0_hold_0 0 rfl rfl)
theorem dX0_hold_1 : decode cX0_hold 1 = .ok (.bipush 11, 2) := dk_16 11 (dk_at dksX0_hold_0 1 rfl rfl)
theorem dX0_hold_3 : decode cX0_hold 3 = .ok (.iload_n 1, 1) := dk_27 (dk_at dksX0_hold_0 3 rfl rfl)
theorem dX0_hold_4 : decode cX0_hold 4 = .ok (.iload_n 2, 1) := dk_28 (dk_at dksX0_hold_0 4 rfl rfl)
theorem dX0_hold_5 : decode cX0_hold 5 = .ok (.iload_n 3, 1) := dk_29 (dk_at dksX0_hold_0 5 rfl rfl)
theorem dX0_hold_6 : decode cX0_hold 6 = .ok (.invokevirtual 420, 3) := dk_182 1 164 (dk_at dksX0_hold_0 6 rfl rfl)
theorem dX0_hold_9 : decode cX0_hold 9 = .ok (.ireturn, 1) := dk_172 (dk_at dksX0_hold_0 9 rfl rfl)
abbrev cX0_have : ByteArray := prog_1_method_70_code
def yX0_have : MethodName := ⟨RX0, "have", "(II)I"⟩
def dkwX0_have_0 : List UInt8 := [42, 16, 12, 27, 28, 3, 182, 1, 164, 172]
abbrev dktX0_have_0 : List UInt8 := dkwX0_have_0 ++ []
theorem dksX0_have_0 : cX0_have.data.toList.drop 0 = dktX0_have_0 := by decide +kernel
theorem dX0_have_0 : decode cX0_have 0 = .ok (.aload_n 0, 1) := dk_42 (dk_at dksX0_have_0 0 rfl rfl)
theorem dX0_have_1 : decode cX0_have 1 = .ok (.bipush 12, 2) := dk_16 12 (dk_at dksX0_have_0 1 rfl rfl)
theorem dX0_have_3 : decode cX0_have 3 = .ok (.iload_n 1, 1) := dk_27 (dk_at dksX0_have_0 3 rfl rfl)
theorem dX0_have_4 : decode cX0_have 4 = .ok (.iload_n 2, 1) := dk_28 (dk_at dksX0_have_0 4 rfl rfl)
theorem dX0_have_5 : decode cX0_have 5 = .ok (.iconst 0, 1) := dk_3 (dk_at dksX0_have_0 5 rfl rfl)
theorem dX0_have_6 : decode cX0_have 6 = .ok (.invokevirtual 420, 3) := dk_182 1 164 (dk_at dksX0_have_0 6 rfl rfl)
theorem dX0_have_9 : decode cX0_have 9 = .ok (.ireturn, 1) := dk_172 (dk_at dksX0_have_0 9 rfl rfl)
abbrev cX0_takes : ByteArray := prog_1_method_71_code
def yX0_takes : MethodName := ⟨RX0, "takes", "(II)I"⟩
def dkwX0_takes_0 : List UInt8 := [42, 16, 13, 27, 28, 3, 182, 1, 164, 172]
abbrev dktX0_takes_0 : List UInt8 := dkwX0_takes_0 ++ []
theorem dksX0_takes_0 : cX0_takes.data.toList.drop 0 = dktX0_takes_0 := by decide +kernel
theorem dX0_takes_0 : decode cX0_takes 0 = .ok (.aload_n 0, 1) := dk_42 (dk_at dksX0_takes_0 0 rfl rfl)
theorem dX0_takes_1 : decode cX0_takes 1 = .ok (.bipush 13, 2) := dk_16 13 (dk_at dksX0_takes_0 1 rfl rfl)
theorem dX0_takes_3 : decode cX0_takes 3 = .ok (.iload_n 1, 1) := dk_27 (dk_at dksX0_takes_0 3 rfl rfl)
theorem dX0_takes_4 : decode cX0_takes 4 = .ok (.iload_n 2, 1) := dk_28 (dk_at dksX0_takes_0 4 rfl rfl)
theorem dX0_takes_5 : decode cX0_takes 5 = .ok (.iconst 0, 1) := dk_3 (dk_at dksX0_takes_0 5 rfl rfl)
theorem dX0_takes_6 : decode cX0_takes 6 = .ok (.invokevirtual 420, 3) := dk_182 1 164 (dk_at dksX0_takes_0 6 rfl rfl)
theorem dX0_takes_9 : decode cX0_takes 9 = .ok (.ireturn, 1) := dk_172 (dk_at dksX0_takes_0 9 rfl rfl)
abbrev cX0_still : ByteArray := prog_1_method_72_code
def yX0_still : MethodName := ⟨RX0, "still", "()I"⟩
def dkwX0_still_0 : List UInt8 := [42, 16, 14, 3, 3, 3, 182, 1, 164, 172]
abbrev dktX0_still_0 : List UInt8 := dkwX0_still_0 ++ []
theorem dksX0_still_0 : cX0_still.data.toList.drop 0 = dktX0_still_0 := by decide +kernel
theorem dX0_still_0 : decode cX0_still 0 = .ok (.aload_n 0, 1) := dk_42 (dk_at dksX0_still_0 0 rfl rfl)
theorem dX0_still_1 : decode cX0_still 1 = .ok (.bipush 14, 2) := dk_16 14 (dk_at dksX0_still_0 1 rfl rfl)
theorem dX0_still_3 : decode cX0_still 3 = .ok (.iconst 0, 1) := dk_3 (dk_at dksX0_still_0 3 rfl rfl)
theorem dX0_still_4 : decode cX0_still 4 = .ok (.iconst 0, 1) := dk_3 (dk_at dksX0_still_0 4 rfl rfl)
theorem dX0_still_5 : decode cX0_still 5 = .ok (.iconst 0, 1) := dk_3 (dk_at dksX0_still_0 5 rfl rfl)
theorem dX0_still_6 : decode cX0_still 6 = .ok (.invokevirtual 420, 3) := dk_182 1 164 (dk_at dksX0_still_0 6 rfl rfl)
theorem dX0_still_9 : decode cX0_still 9 = .ok (.ireturn, 1) := dk_172 (dk_at dksX0_still_0 9 rfl rfl)
abbrev cX0_most : ByteArray := prog_1_method_73_code
def yX0_most : MethodName := ⟨RX0, "most", "(III)I"⟩
def dkwX0_most_0 : List UInt8 := [42, 16, 15, 27, 28, 29, 182, 1, 164, 172]
abbrev dktX0_most_0 : List UInt8 := dkwX0_most_0 ++ []
theorem dksX0_most_0 : cX0_most.data.toList.drop 0 = dktX0_most_0 := by decide +kernel
theorem dX0_most_0 : decode cX0_most 0 = .ok (.aload_n 0, 1) := dk_42 (dk_at dksX0_most_0 0 rfl rfl)
theorem dX0_most_1 : decode cX0_most 1 = .ok (.bipush 15, 2) := dk_16 15 (dk_at dksX0_most_0 1 rfl rfl)
theorem dX0_most_3 : decode cX0_most 3 = .ok (.iload_n 1, 1) := dk_27 (dk_at dksX0_most_0 3 rfl rfl)
theorem dX0_most_4 : decode cX0_most 4 = .ok (.iload_n 2, 1) := dk_28 (dk_at dksX0_most_0 4 rfl rfl)
theorem dX0_most_5 : decode cX0_most 5 = .ok (.iload_n 3, 1) := dk_29 (dk_at dksX0_most_0 5 rfl rfl)
theorem dX0_most_6 : decode cX0_most 6 = .ok (.invokevirtual 420, 3) := dk_182 1 164 (dk_at dksX0_most_0 6 rfl rfl)
theorem dX0_most_9 : decode cX0_most 9 = .ok (.ireturn, 1) := dk_172 (dk_at dksX0_most_0 9 rfl rfl)
abbrev cX0_lasts : ByteArray := prog_1_method_74_code
def yX0_lasts : MethodName := ⟨RX0, "lasts", "(I)I"⟩
def dkwX0_lasts_0 : List UInt8 := [42, 16, 16, 27, 3, 3, 182, 1, 164, 172]
abbrev dktX0_lasts_0 : List UInt8 := dkwX0_lasts_0 ++ []
theorem dksX0_lasts_0 : cX0_lasts.data.toList.drop 0 = dktX0_lasts_0 := by decide +kernel
theorem dX0_lasts_0 : decode cX0_lasts 0 = .ok (.aload_n 0, 1) := dk_42 (dk_at dksX0_lasts_0 0 rfl rfl)
theorem dX0_lasts_1 : decode cX0_lasts 1 = .ok (.bipush 16, 2) := dk_16 16 (dk_at dksX0_lasts_0 1 rfl rfl)
theorem dX0_lasts_3 : decode cX0_lasts 3 = .ok (.iload_n 1, 1) := dk_27 (dk_at dksX0_lasts_0 3 rfl rfl)
theorem dX0_lasts_4 : decode cX0_lasts 4 = .ok (.iconst 0, 1) := dk_3 (dk_at dksX0_lasts_0 4 rfl rfl)
theorem dX0_lasts_5 : decode cX0_lasts 5 = .ok (.iconst 0, 1) := dk_3 (dk_at dksX0_lasts_0 5 rfl rfl)
theorem dX0_lasts_6 : decode cX0_lasts 6 = .ok (.invokevirtual 420, 3) := dk_182 1 164 (dk_at dksX0_lasts_0 6 rfl rfl)
theorem dX0_lasts_9 : decode cX0_lasts 9 = .ok (.ireturn, 1) := dk_172 (dk_at dksX0_lasts_0 9 rfl rfl)
abbrev cX0_from : ByteArray := prog_1_method_75_code
def yX0_from : MethodName := ⟨RX0, "from", "(II)I"⟩
def dkwX0_from_0 : List UInt8 := [42, 16, 17, 27, 28, 3, 182, 1, 164, 172]
abbrev dktX0_from_0 : List UInt8 := dkwX0_from_0 ++ []
theorem dksX0_from_0 : cX0_from.data.toList.drop 0 = dktX0_from_0 := by decide +kernel
theorem dX0_from_0 : decode cX0_from 0 = .ok (.aload_n 0, 1) := dk_42 (dk_at dksX0_from_0 0 rfl rfl)
theorem dX0_from_1 : decode cX0_from 1 = .ok (.bipush 17, 2) := dk_16 17 (dk_at dksX0_from_0 1 rfl rfl)
theorem dX0_from_3 : decode cX0_from 3 = .ok (.iload_n 1, 1) := dk_27 (dk_at dksX0_from_0 3 rfl rfl)
theorem dX0_from_4 : decode cX0_from 4 = .ok (.iload_n 2, 1) := dk_28 (dk_at dksX0_from_0 4 rfl rfl)
theorem dX0_from_5 : decode cX0_from 5 = .ok (.iconst 0, 1) := dk_3 (dk_at dksX0_from_0 5 rfl rfl)
theorem dX0_from_6 : decode cX0_from 6 = .ok (.invokevirtual 420, 3) := dk_182 1 164 (dk_at dksX0_from_0 6 rfl rfl)
theorem dX0_from_9 : decode cX0_from 9 = .ok (.ireturn, 1) := dk_172 (dk_at dksX0_from_0 9 rfl rfl)
abbrev cX0_first : ByteArray := prog_1_method_76_code
def yX0_first : MethodName := ⟨RX0, "first", "(II)I"⟩
def dkwX0_first_0 : List UInt8 := [42, 16, 18, 27, 28, 3, 182, 1, 164, 172]
abbrev dktX0_first_0 : List UInt8 := dkwX0_first_0 ++ []
theorem dksX0_first_0 : cX0_first.data.toList.drop 0 = dktX0_first_0 := by decide +kernel
theorem dX0_first_0 : decode cX0_first 0 = .ok (.aload_n 0, 1) := dk_42 (dk_at dksX0_first_0 0 rfl rfl)
theorem dX0_first_1 : decode cX0_first 1 = .ok (.bipush 18, 2) := dk_16 18 (dk_at dksX0_first_0 1 rfl rfl)
theorem dX0_first_3 : decode cX0_first 3 = .ok (.iload_n 1, 1) := dk_27 (dk_at dksX0_first_0 3 rfl rfl)
theorem dX0_first_4 : decode cX0_first 4 = .ok (.iload_n 2, 1) := dk_28 (dk_at dksX0_first_0 4 rfl rfl)
theorem dX0_first_5 : decode cX0_first 5 = .ok (.iconst 0, 1) := dk_3 (dk_at dksX0_first_0 5 rfl rfl)
theorem dX0_first_6 : decode cX0_first 6 = .ok (.invokevirtual 420, 3) := dk_182 1 164 (dk_at dksX0_first_0 6 rfl rfl)
theorem dX0_first_9 : decode cX0_first 9 = .ok (.ireturn, 1) := dk_172 (dk_at dksX0_first_0 9 rfl rfl)
abbrev cX0_rid : ByteArray := prog_1_method_77_code
def yX0_rid : MethodName := ⟨RX0, "rid", "(II)I"⟩
def dkwX0_rid_0 : List UInt8 := [42, 16, 19, 27, 28, 3, 182, 1, 164, 172]
abbrev dktX0_rid_0 : List UInt8 := dkwX0_rid_0 ++ []
theorem dksX0_rid_0 : cX0_rid.data.toList.drop 0 = dktX0_rid_0 := by decide +kernel
theorem dX0_rid_0 : decode cX0_rid 0 = .ok (.aload_n 0, 1) := dk_42 (dk_at dksX0_rid_0 0 rfl rfl)
theorem dX0_rid_1 : decode cX0_rid 1 = .ok (.bipush 19, 2) := dk_16 19 (dk_at dksX0_rid_0 1 rfl rfl)
theorem dX0_rid_3 : decode cX0_rid 3 = .ok (.iload_n 1, 1) := dk_27 (dk_at dksX0_rid_0 3 rfl rfl)
theorem dX0_rid_4 : decode cX0_rid 4 = .ok (.iload_n 2, 1) := dk_28 (dk_at dksX0_rid_0 4 rfl rfl)
theorem dX0_rid_5 : decode cX0_rid 5 = .ok (.iconst 0, 1) := dk_3 (dk_at dksX0_rid_0 5 rfl rfl)
theorem dX0_rid_6 : decode cX0_rid 6 = .ok (.invokevirtual 420, 3) := dk_182 1 164 (dk_at dksX0_rid_0 6 rfl rfl)
theorem dX0_rid_9 : decode cX0_rid 9 = .ok (.ireturn, 1) := dk_172 (dk_at dksX0_rid_0 9 rfl rfl)
abbrev cX0_instead : ByteArray := prog_1_method_78_code
def yX0_instead : MethodName := ⟨RX0, "instead", "(I)I"⟩
def dkwX0_instead_0 : List UInt8 := [42, 16, 20, 27, 3, 3, 182, 1, 164, 172]
abbrev dktX0_instead_0 : List UInt8 := dkwX0_instead_0 ++ []
theorem dksX0_instead_0 : cX0_instead.data.toList.drop 0 = dktX0_instead_0 := by decide +kernel
theorem dX0_instead_0 : decode cX0_instead 0 = .ok (.aload_n 0, 1) := dk_42 (dk_at dksX0_instead_0 0 rfl rfl)
theorem dX0_instead_1 : decode cX0_instead 1 = .ok (.bipush 20, 2) := dk_16 20 (dk_at dksX0_instead_0 1 rfl rfl)
theorem dX0_instead_3 : decode cX0_instead 3 = .ok (.iload_n 1, 1) := dk_27 (dk_at dksX0_instead_0 3 rfl rfl)
theorem dX0_instead_4 : decode cX0_instead 4 = .ok (.iconst 0, 1) := dk_3 (dk_at dksX0_instead_0 4 rfl rfl)
theorem dX0_instead_5 : decode cX0_instead 5 = .ok (.iconst 0, 1) := dk_3 (dk_at dksX0_instead_0 5 rfl rfl)
theorem dX0_instead_6 : decode cX0_instead 6 = .ok (.invokevirtual 420, 3) := dk_182 1 164 (dk_at dksX0_instead_0 6 rfl rfl)
theorem dX0_instead_9 : decode cX0_instead 9 = .ok (.ireturn, 1) := dk_172 (dk_at dksX0_instead_0 9 rfl rfl)
abbrev cX0_shut : ByteArray := prog_1_method_79_code
def yX0_shut : MethodName := ⟨RX0, "shut", "(I)I"⟩
def dkwX0_shut_0 : List UInt8 := [42, 16, 21, 27, 3, 3, 182, 1, 164, 172]
abbrev dktX0_shut_0 : List UInt8 := dkwX0_shut_0 ++ []
theorem dksX0_shut_0 : cX0_shut.data.toList.drop 0 = dktX0_shut_0 := by decide +kernel
theorem dX0_shut_0 : decode cX0_shut 0 = .ok (.aload_n 0, 1) := dk_42 (dk_at dksX0_shut_0 0 rfl rfl)
theorem dX0_shut_1 : decode cX0_shut 1 = .ok (.bipush 21, 2) := dk_16 21 (dk_at dksX0_shut_0 1 rfl rfl)
theorem dX0_shut_3 : decode cX0_shut 3 = .ok (.iload_n 1, 1) := dk_27 (dk_at dksX0_shut_0 3 rfl rfl)
theorem dX0_shut_4 : decode cX0_shut 4 = .ok (.iconst 0, 1) := dk_3 (dk_at dksX0_shut_0 4 rfl rfl)
theorem dX0_shut_5 : decode cX0_shut 5 = .ok (.iconst 0, 1) := dk_3 (dk_at dksX0_shut_0 5 rfl rfl)
theorem dX0_shut_6 : decode cX0_shut 6 = .ok (.invokevirtual 420, 3) := dk_182 1 164 (dk_at dksX0_shut_0 6 rfl rfl)
theorem dX0_shut_9 : decode cX0_shut 9 = .ok (.ireturn, 1) := dk_172 (dk_at dksX0_shut_0 9 rfl rfl)
abbrev cX0_seats : ByteArray := prog_1_method_80_code
def yX0_seats : MethodName := ⟨RX0, "seats", "(I)I"⟩
def dkwX0_seats_0 : List UInt8 := [42, 16, 22, 27, 3, 3, 182, 1, 164, 172]
abbrev dktX0_seats_0 : List UInt8 := dkwX0_seats_0 ++ []
theorem dksX0_seats_0 : cX0_seats.data.toList.drop 0 = dktX0_seats_0 := by decide +kernel
theorem dX0_seats_0 : decode cX0_seats 0 = .ok (.aload_n 0, 1) := dk_42 (dk_at dksX0_seats_0 0 rfl rfl)
theorem dX0_seats_1 : decode cX0_seats 1 = .ok (.bipush 22, 2) := dk_16 22 (dk_at dksX0_seats_0 1 rfl rfl)
theorem dX0_seats_3 : decode cX0_seats 3 = .ok (.iload_n 1, 1) := dk_27 (dk_at dksX0_seats_0 3 rfl rfl)
theorem dX0_seats_4 : decode cX0_seats 4 = .ok (.iconst 0, 1) := dk_3 (dk_at dksX0_seats_0 4 rfl rfl)
theorem dX0_seats_5 : decode cX0_seats 5 = .ok (.iconst 0, 1) := dk_3 (dk_at dksX0_seats_0 5 rfl rfl)
theorem dX0_seats_6 : decode cX0_seats 6 = .ok (.invokevirtual 420, 3) := dk_182 1 164 (dk_at dksX0_seats_0 6 rfl rfl)
theorem dX0_seats_9 : decode cX0_seats 9 = .ok (.ireturn, 1) := dk_172 (dk_at dksX0_seats_0 9 rfl rfl)
abbrev cX0_write : ByteArray := prog_1_method_81_code
def yX0_write : MethodName := ⟨RX0, "write", "(III)I"⟩
def dkwX0_write_0 : List UInt8 := [42, 16, 23, 27, 28, 29, 182, 1, 164, 172]
abbrev dktX0_write_0 : List UInt8 := dkwX0_write_0 ++ []
theorem dksX0_write_0 : cX0_write.data.toList.drop 0 = dktX0_write_0 := by decide +kernel
theorem dX0_write_0 : decode cX0_write 0 = .ok (.aload_n 0, 1) := dk_42 (dk_at dksX0_write_0 0 rfl rfl)
theorem dX0_write_1 : decode cX0_write 1 = .ok (.bipush 23, 2) := dk_16 23 (dk_at dksX0_write_0 1 rfl rfl)
theorem dX0_write_3 : decode cX0_write 3 = .ok (.iload_n 1, 1) := dk_27 (dk_at dksX0_write_0 3 rfl rfl)
theorem dX0_write_4 : decode cX0_write 4 = .ok (.iload_n 2, 1) := dk_28 (dk_at dksX0_write_0 4 rfl rfl)
theorem dX0_write_5 : decode cX0_write 5 = .ok (.iload_n 3, 1) := dk_29 (dk_at dksX0_write_0 5 rfl rfl)
theorem dX0_write_6 : decode cX0_write 6 = .ok (.invokevirtual 420, 3) := dk_182 1 164 (dk_at dksX0_write_0 6 rfl rfl)
theorem dX0_write_9 : decode cX0_write 9 = .ok (.ireturn, 1) := dk_172 (dk_at dksX0_write_0 9 rfl rfl)
abbrev cX0_row : ByteArray := prog_1_method_82_code
def yX0_row : MethodName := ⟨RX0, "row", "(I)I"⟩
def dkwX0_row_0 : List UInt8 := [42, 16, 24, 27, 3, 3, 182, 1, 164, 172]
abbrev dktX0_row_0 : List UInt8 := dkwX0_row_0 ++ []
theorem dksX0_row_0 : cX0_row.data.toList.drop 0 = dktX0_row_0 := by decide +kernel
theorem dX0_row_0 : decode cX0_row 0 = .ok (.aload_n 0, 1) := dk_42 (dk_at dksX0_row_0 0 rfl rfl)
theorem dX0_row_1 : decode cX0_row 1 = .ok (.bipush 24, 2) := dk_16 24 (dk_at dksX0_row_0 1 rfl rfl)
theorem dX0_row_3 : decode cX0_row 3 = .ok (.iload_n 1, 1) := dk_27 (dk_at dksX0_row_0 3 rfl rfl)
theorem dX0_row_4 : decode cX0_row 4 = .ok (.iconst 0, 1) := dk_3 (dk_at dksX0_row_0 4 rfl rfl)
theorem dX0_row_5 : decode cX0_row 5 = .ok (.iconst 0, 1) := dk_3 (dk_at dksX0_row_0 5 rfl rfl)
theorem dX0_row_6 : decode cX0_row 6 = .ok (.invokevirtual 420, 3) := dk_182 1 164 (dk_at dksX0_row_0 6 rfl rfl)
theorem dX0_row_9 : decode cX0_row 9 = .ok (.ireturn, 1) := dk_172 (dk_at dksX0_row_0 9 rfl rfl)
abbrev cX0_otherwise : ByteArray := prog_1_method_83_code
def yX0_otherwise : MethodName := ⟨RX0, "otherwise", "(II)I"⟩
def dkwX0_otherwise_0 : List UInt8 := [42, 16, 25, 27, 28, 3, 182, 1, 164, 172]
abbrev dktX0_otherwise_0 : List UInt8 := dkwX0_otherwise_0 ++ []
theorem dksX0_otherwise_0 : cX0_otherwise.data.toList.drop 0 = dktX0_otherwise_0 := by decide +kernel
theorem dX0_otherwise_0 : decode cX0_otherwise 0 = .ok (.aload_n 0, 1) := dk_42 (dk_at dksX0_otherwise_0 0 rfl rfl)
theorem dX0_otherwise_1 : decode cX0_otherwise 1 = .ok (.bipush 25, 2) := dk_16 25 (dk_at dksX0_otherwise_0 1 rfl rfl)
theorem dX0_otherwise_3 : decode cX0_otherwise 3 = .ok (.iload_n 1, 1) := dk_27 (dk_at dksX0_otherwise_0 3 rfl rfl)
theorem dX0_otherwise_4 : decode cX0_otherwise 4 = .ok (.iload_n 2, 1) := dk_28 (dk_at dksX0_otherwise_0 4 rfl rfl)
theorem dX0_otherwise_5 : decode cX0_otherwise 5 = .ok (.iconst 0, 1) := dk_3 (dk_at dksX0_otherwise_0 5 rfl rfl)
theorem dX0_otherwise_6 : decode cX0_otherwise 6 = .ok (.invokevirtual 420, 3) := dk_182 1 164 (dk_at dksX0_otherwise_0 6 rfl rfl)
theorem dX0_otherwise_9 : decode cX0_otherwise 9 = .ok (.ireturn, 1) := dk_172 (dk_at dksX0_otherwise_0 9 rfl rfl)
abbrev cX0_judge : ByteArray := prog_1_method_84_code
def yX0_judge : MethodName := ⟨RX0, "judge", "()I"⟩
def dkwX0_judge_0 : List UInt8 := [42, 16, 26, 3, 3, 3, 182, 1, 164, 172]
abbrev dktX0_judge_0 : List UInt8 := dkwX0_judge_0 ++ []
theorem dksX0_judge_0 : cX0_judge.data.toList.drop 0 = dktX0_judge_0 := by decide +kernel
theorem dX0_judge_0 : decode cX0_judge 0 = .ok (.aload_n 0, 1) := dk_42 (dk_at dksX0_judge_0 0 rfl rfl)
theorem dX0_judge_1 : decode cX0_judge 1 = .ok (.bipush 26, 2) := dk_16 26 (dk_at dksX0_judge_0 1 rfl rfl)
theorem dX0_judge_3 : decode cX0_judge 3 = .ok (.iconst 0, 1) := dk_3 (dk_at dksX0_judge_0 3 rfl rfl)
theorem dX0_judge_4 : decode cX0_judge 4 = .ok (.iconst 0, 1) := dk_3 (dk_at dksX0_judge_0 4 rfl rfl)
theorem dX0_judge_5 : decode cX0_judge 5 = .ok (.iconst 0, 1) := dk_3 (dk_at dksX0_judge_0 5 rfl rfl)
theorem dX0_judge_6 : decode cX0_judge 6 = .ok (.invokevirtual 420, 3) := dk_182 1 164 (dk_at dksX0_judge_0 6 rfl rfl)
theorem dX0_judge_9 : decode cX0_judge 9 = .ok (.ireturn, 1) := dk_172 (dk_at dksX0_judge_0 9 rfl rfl)
abbrev cX0_seeds : ByteArray := prog_1_method_85_code
def yX0_seeds : MethodName := ⟨RX0, "seeds", "(II)I"⟩
def dkwX0_seeds_0 : List UInt8 := [42, 16, 27, 27, 28, 3, 182, 1, 164, 172]
abbrev dktX0_seeds_0 : List UInt8 := dkwX0_seeds_0 ++ []
theorem dksX0_seeds_0 : cX0_seeds.data.toList.drop 0 = dktX0_seeds_0 := by decide +kernel
theorem dX0_seeds_0 : decode cX0_seeds 0 = .ok (.aload_n 0, 1) := dk_42 (dk_at dksX0_seeds_0 0 rfl rfl)
theorem dX0_seeds_1 : decode cX0_seeds 1 = .ok (.bipush 27, 2) := dk_16 27 (dk_at dksX0_seeds_0 1 rfl rfl)
theorem dX0_seeds_3 : decode cX0_seeds 3 = .ok (.iload_n 1, 1) := dk_27 (dk_at dksX0_seeds_0 3 rfl rfl)
theorem dX0_seeds_4 : decode cX0_seeds 4 = .ok (.iload_n 2, 1) := dk_28 (dk_at dksX0_seeds_0 4 rfl rfl)
theorem dX0_seeds_5 : decode cX0_seeds 5 = .ok (.iconst 0, 1) := dk_3 (dk_at dksX0_seeds_0 5 rfl rfl)
theorem dX0_seeds_6 : decode cX0_seeds 6 = .ok (.invokevirtual 420, 3) := dk_182 1 164 (dk_at dksX0_seeds_0 6 rfl rfl)
theorem dX0_seeds_9 : decode cX0_seeds 9 = .ok (.ireturn, 1) := dk_172 (dk_at dksX0_seeds_0 9 rfl rfl)
abbrev cX0_image : ByteArray := prog_1_method_86_code
def yX0_image : MethodName := ⟨RX0, "image", "()I"⟩
def dkwX0_image_0 : List UInt8 := [42, 16, 28, 3, 3, 3, 182, 1, 164, 172]
abbrev dktX0_image_0 : List UInt8 := dkwX0_image_0 ++ []
theorem dksX0_image_0 : cX0_image.data.toList.drop 0 = dktX0_image_0 := by decide +kernel
theorem dX0_image_0 : decode cX0_image 0 = .ok (.aload_n 0, 1) := dk_42 (dk_at dksX0_image_0 0 rfl rfl)
theorem dX0_image_1 : decode cX0_image 1 = .ok (.bipush 28, 2) := dk_16 28 (dk_at dksX0_image_0 1 rfl rfl)
theorem dX0_image_3 : decode cX0_image 3 = .ok (.iconst 0, 1) := dk_3 (dk_at dksX0_image_0 3 rfl rfl)
theorem dX0_image_4 : decode cX0_image 4 = .ok (.iconst 0, 1) := dk_3 (dk_at dksX0_image_0 4 rfl rfl)
theorem dX0_image_5 : decode cX0_image 5 = .ok (.iconst 0, 1) := dk_3 (dk_at dksX0_image_0 5 rfl rfl)
theorem dX0_image_6 : decode cX0_image 6 = .ok (.invokevirtual 420, 3) := dk_182 1 164 (dk_at dksX0_image_0 6 rfl rfl)
theorem dX0_image_9 : decode cX0_image 9 = .ok (.ireturn, 1) := dk_172 (dk_at dksX0_image_0 9 rfl rfl)
abbrev cX0_on : ByteArray := prog_1_method_87_code
def yX0_on : MethodName := ⟨RX0, "on", "()I"⟩
def dkwX0_on_0 : List UInt8 := [42, 16, 29, 3, 3, 3, 182, 1, 164, 172]
abbrev dktX0_on_0 : List UInt8 := dkwX0_on_0 ++ []
theorem dksX0_on_0 : cX0_on.data.toList.drop 0 = dktX0_on_0 := by decide +kernel
theorem dX0_on_0 : decode cX0_on 0 = .ok (.aload_n 0, 1) := dk_42 (dk_at dksX0_on_0 0 rfl rfl)
theorem dX0_on_1 : decode cX0_on 1 = .ok (.bipush 29, 2) := dk_16 29 (dk_at dksX0_on_0 1 rfl rfl)
theorem dX0_on_3 : decode cX0_on 3 = .ok (.iconst 0, 1) := dk_3 (dk_at dksX0_on_0 3 rfl rfl)
theorem dX0_on_4 : decode cX0_on 4 = .ok (.iconst 0, 1) := dk_3 (dk_at dksX0_on_0 4 rfl rfl)
theorem dX0_on_5 : decode cX0_on 5 = .ok (.iconst 0, 1) := dk_3 (dk_at dksX0_on_0 5 rfl rfl)
theorem dX0_on_6 : decode cX0_on 6 = .ok (.invokevirtual 420, 3) := dk_182 1 164 (dk_at dksX0_on_0 6 rfl rfl)
theorem dX0_on_9 : decode cX0_on 9 = .ok (.ireturn, 1) := dk_172 (dk_at dksX0_on_0 9 rfl rfl)
abbrev cX0_count : ByteArray := prog_1_method_88_code
def yX0_count : MethodName := ⟨RX0, "count", "(I)I"⟩
def dkwX0_count_6 : List UInt8 := [184, 0, 13, 153, 0, 15, 42, 180, 0, 87, 27, 16, 10, 100, 46, 167, 0, 5, 16, 247, 172]
abbrev dktX0_count_6 : List UInt8 := dkwX0_count_6 ++ []
def dkwX0_count_5 : List UInt8 := [182, 1, 170, 172, 42, 180, 0, 206, 172, 42, 180, 0, 96, 172, 27, 133, 20, 1, 173, 20, 1, 175]
abbrev dktX0_count_5 : List UInt8 := dkwX0_count_5 ++ dktX0_count_6
def dkwX0_count_4 : List UInt8 := [180, 1, 74, 172, 42, 180, 0, 69, 180, 1, 41, 172, 42, 180, 0, 69, 2, 182, 0, 137, 172, 42]
abbrev dktX0_count_4 : List UInt8 := dkwX0_count_4 ++ dktX0_count_5
def dkwX0_count_3 : List UInt8 := [42, 180, 0, 69, 180, 0, 179, 42, 180, 0, 69, 180, 0, 182, 184, 1, 167, 100, 172, 42, 180, 0, 69]
abbrev dktX0_count_3 : List UInt8 := dkwX0_count_3 ++ dktX0_count_4
def dkwX0_count_2 : List UInt8 := [42, 180, 0, 69, 180, 0, 189, 172, 42, 180, 0, 69, 180, 0, 151, 172, 42, 180, 0, 69, 180, 0, 179, 172]
abbrev dktX0_count_2 : List UInt8 := dkwX0_count_2 ++ dktX0_count_3
def dkwX0_count_1 : List UInt8 := [170, 0, 0, 0, 0, 0, 138, 0, 0, 0, 0, 0, 0, 0, 9, 0, 0, 0, 55, 0, 0, 0, 63, 0, 0, 0, 71, 0, 0, 0, 79, 0, 0, 0, 98, 0, 0, 0, 106, 0, 0, 0, 114, 0, 0, 0, 123, 0, 0, 0, 128, 0, 0, 0, 133]
abbrev dktX0_count_1 : List UInt8 := dkwX0_count_1 ++ dktX0_count_2
def dkwX0_count_0 : List UInt8 := [27]
abbrev dktX0_count_0 : List UInt8 := dkwX0_count_0 ++ dktX0_count_1
theorem dksX0_count_0 : cX0_count.data.toList.drop 0 = dktX0_count_0 := by decide +kernel
theorem dksX0_count_1 : cX0_count.data.toList.drop 1 = dktX0_count_1 := dk_seg dksX0_count_0 1 rfl rfl
theorem dksX0_count_2 : cX0_count.data.toList.drop 56 = dktX0_count_2 := dk_seg dksX0_count_1 55 rfl rfl
theorem dksX0_count_3 : cX0_count.data.toList.drop 80 = dktX0_count_3 := dk_seg dksX0_count_2 24 rfl rfl
theorem dksX0_count_4 : cX0_count.data.toList.drop 103 = dktX0_count_4 := dk_seg dksX0_count_3 23 rfl rfl
theorem dksX0_count_5 : cX0_count.data.toList.drop 125 = dktX0_count_5 := dk_seg dksX0_count_4 22 rfl rfl
theorem dksX0_count_6 : cX0_count.data.toList.drop 147 = dktX0_count_6 := dk_seg dksX0_count_5 22 rfl rfl
theorem dX0_count_0 : decode cX0_count 0 = .ok (.iload_n 1, 1) := dk_27 (dk_at dksX0_count_0 0 rfl rfl)
theorem dX0_count_1 : decode cX0_count 1 = .ok (.tableswitch 138 0 9 #[55, 63, 71, 79, 98, 106, 114, 123, 128, 133], 55) := by decide +kernel
theorem dX0_count_56 : decode cX0_count 56 = .ok (.aload_n 0, 1) := dk_42 (dk_at dksX0_count_2 0 rfl rfl)
theorem dX0_count_57 : decode cX0_count 57 = .ok (.getfield 69, 3) := dk_180 0 69 (dk_at dksX0_count_2 1 rfl rfl)
theorem dX0_count_60 : decode cX0_count 60 = .ok (.getfield 189, 3) := dk_180 0 189 (dk_at dksX0_count_2 4 rfl rfl)
theorem dX0_count_63 : decode cX0_count 63 = .ok (.ireturn, 1) := dk_172 (dk_at dksX0_count_2 7 rfl rfl)
theorem dX0_count_64 : decode cX0_count 64 = .ok (.aload_n 0, 1) := dk_42 (dk_at dksX0_count_2 8 rfl rfl)
theorem dX0_count_65 : decode cX0_count 65 = .ok (.getfield 69, 3) := dk_180 0 69 (dk_at dksX0_count_2 9 rfl rfl)
theorem dX0_count_68 : decode cX0_count 68 = .ok (.getfield 151, 3) := dk_180 0 151 (dk_at dksX0_count_2 12 rfl rfl)
theorem dX0_count_71 : decode cX0_count 71 = .ok (.ireturn, 1) := dk_172 (dk_at dksX0_count_2 15 rfl rfl)
theorem dX0_count_72 : decode cX0_count 72 = .ok (.aload_n 0, 1) := dk_42 (dk_at dksX0_count_2 16 rfl rfl)
theorem dX0_count_73 : decode cX0_count 73 = .ok (.getfield 69, 3) := dk_180 0 69 (dk_at dksX0_count_2 17 rfl rfl)
theorem dX0_count_76 : decode cX0_count 76 = .ok (.getfield 179, 3) := dk_180 0 179 (dk_at dksX0_count_2 20 rfl rfl)
theorem dX0_count_79 : decode cX0_count 79 = .ok (.ireturn, 1) := dk_172 (dk_at dksX0_count_2 23 rfl rfl)
theorem dX0_count_80 : decode cX0_count 80 = .ok (.aload_n 0, 1) := dk_42 (dk_at dksX0_count_3 0 rfl rfl)
theorem dX0_count_81 : decode cX0_count 81 = .ok (.getfield 69, 3) := dk_180 0 69 (dk_at dksX0_count_3 1 rfl rfl)
theorem dX0_count_84 : decode cX0_count 84 = .ok (.getfield 179, 3) := dk_180 0 179 (dk_at dksX0_count_3 4 rfl rfl)
theorem dX0_count_87 : decode cX0_count 87 = .ok (.aload_n 0, 1) := dk_42 (dk_at dksX0_count_3 7 rfl rfl)
theorem dX0_count_88 : decode cX0_count 88 = .ok (.getfield 69, 3) := dk_180 0 69 (dk_at dksX0_count_3 8 rfl rfl)
theorem dX0_count_91 : decode cX0_count 91 = .ok (.getfield 182, 3) := dk_180 0 182 (dk_at dksX0_count_3 11 rfl rfl)
theorem dX0_count_94 : decode cX0_count 94 = .ok (.invokestatic 423, 3) := dk_184 1 167 (dk_at dksX0_count_3 14 rfl rfl)
theorem dX0_count_97 : decode cX0_count 97 = .ok (.isub, 1) := dk_100 (dk_at dksX0_count_3 17 rfl rfl)
theorem dX0_count_98 : decode cX0_count 98 = .ok (.ireturn, 1) := dk_172 (dk_at dksX0_count_3 18 rfl rfl)
theorem dX0_count_99 : decode cX0_count 99 = .ok (.aload_n 0, 1) := dk_42 (dk_at dksX0_count_3 19 rfl rfl)
theorem dX0_count_100 : decode cX0_count 100 = .ok (.getfield 69, 3) := dk_180 0 69 (dk_at dksX0_count_3 20 rfl rfl)
theorem dX0_count_103 : decode cX0_count 103 = .ok (.getfield 330, 3) := dk_180 1 74 (dk_at dksX0_count_4 0 rfl rfl)
theorem dX0_count_106 : decode cX0_count 106 = .ok (.ireturn, 1) := dk_172 (dk_at dksX0_count_4 3 rfl rfl)
theorem dX0_count_107 : decode cX0_count 107 = .ok (.aload_n 0, 1) := dk_42 (dk_at dksX0_count_4 4 rfl rfl)
theorem dX0_count_108 : decode cX0_count 108 = .ok (.getfield 69, 3) := dk_180 0 69 (dk_at dksX0_count_4 5 rfl rfl)
theorem dX0_count_111 : decode cX0_count 111 = .ok (.getfield 297, 3) := dk_180 1 41 (dk_at dksX0_count_4 8 rfl rfl)
theorem dX0_count_114 : decode cX0_count 114 = .ok (.ireturn, 1) := dk_172 (dk_at dksX0_count_4 11 rfl rfl)
theorem dX0_count_115 : decode cX0_count 115 = .ok (.aload_n 0, 1) := dk_42 (dk_at dksX0_count_4 12 rfl rfl)
theorem dX0_count_116 : decode cX0_count 116 = .ok (.getfield 69, 3) := dk_180 0 69 (dk_at dksX0_count_4 13 rfl rfl)
theorem dX0_count_119 : decode cX0_count 119 = .ok (.iconst (-1), 1) := dk_2 (dk_at dksX0_count_4 16 rfl rfl)
theorem dX0_count_120 : decode cX0_count 120 = .ok (.invokevirtual 137, 3) := dk_182 0 137 (dk_at dksX0_count_4 17 rfl rfl)
theorem dX0_count_123 : decode cX0_count 123 = .ok (.ireturn, 1) := dk_172 (dk_at dksX0_count_4 20 rfl rfl)
theorem dX0_count_124 : decode cX0_count 124 = .ok (.aload_n 0, 1) := dk_42 (dk_at dksX0_count_4 21 rfl rfl)
theorem dX0_count_125 : decode cX0_count 125 = .ok (.invokevirtual 426, 3) := dk_182 1 170 (dk_at dksX0_count_5 0 rfl rfl)
theorem dX0_count_128 : decode cX0_count 128 = .ok (.ireturn, 1) := dk_172 (dk_at dksX0_count_5 3 rfl rfl)
theorem dX0_count_129 : decode cX0_count 129 = .ok (.aload_n 0, 1) := dk_42 (dk_at dksX0_count_5 4 rfl rfl)
theorem dX0_count_130 : decode cX0_count 130 = .ok (.getfield 206, 3) := dk_180 0 206 (dk_at dksX0_count_5 5 rfl rfl)
theorem dX0_count_133 : decode cX0_count 133 = .ok (.ireturn, 1) := dk_172 (dk_at dksX0_count_5 8 rfl rfl)
theorem dX0_count_134 : decode cX0_count 134 = .ok (.aload_n 0, 1) := dk_42 (dk_at dksX0_count_5 9 rfl rfl)
theorem dX0_count_135 : decode cX0_count 135 = .ok (.getfield 96, 3) := dk_180 0 96 (dk_at dksX0_count_5 10 rfl rfl)
theorem dX0_count_138 : decode cX0_count 138 = .ok (.ireturn, 1) := dk_172 (dk_at dksX0_count_5 13 rfl rfl)
theorem dX0_count_139 : decode cX0_count 139 = .ok (.iload_n 1, 1) := dk_27 (dk_at dksX0_count_5 14 rfl rfl)
theorem dX0_count_140 : decode cX0_count 140 = .ok (.i2l, 1) := dk_133 (dk_at dksX0_count_5 15 rfl rfl)
theorem dX0_count_141 : decode cX0_count 141 = .ok (.ldc2_w 429, 3) := dk_20 1 173 (dk_at dksX0_count_5 16 rfl rfl)
theorem dX0_count_144 : decode cX0_count 144 = .ok (.ldc2_w 431, 3) := dk_20 1 175 (dk_at dksX0_count_5 19 rfl rfl)
theorem dX0_count_147 : decode cX0_count 147 = .ok (.invokestatic 13, 3) := dk_184 0 13 (dk_at dksX0_count_6 0 rfl rfl)
theorem dX0_count_150 : decode cX0_count 150 = .ok (.ifCond .eq 15, 3) := dk_153 0 15 (dk_at dksX0_count_6 3 rfl rfl)
theorem dX0_count_153 : decode cX0_count 153 = .ok (.aload_n 0, 1) := dk_42 (dk_at dksX0_count_6 6 rfl rfl)
theorem dX0_count_154 : decode cX0_count 154 = .ok (.getfield 87, 3) := dk_180 0 87 (dk_at dksX0_count_6 7 rfl rfl)
theorem dX0_count_157 : decode cX0_count 157 = .ok (.iload_n 1, 1) := dk_27 (dk_at dksX0_count_6 10 rfl rfl)
theorem dX0_count_158 : decode cX0_count 158 = .ok (.bipush 10, 2) := dk_16 10 (dk_at dksX0_count_6 11 rfl rfl)
theorem dX0_count_160 : decode cX0_count 160 = .ok (.isub, 1) := dk_100 (dk_at dksX0_count_6 13 rfl rfl)
theorem dX0_count_161 : decode cX0_count 161 = .ok (.iaload, 1) := dk_46 (dk_at dksX0_count_6 14 rfl rfl)
theorem dX0_count_162 : decode cX0_count 162 = .ok (.goto 5, 3) := dk_167 0 5 (dk_at dksX0_count_6 15 rfl rfl)
theorem dX0_count_165 : decode cX0_count 165 = .ok (.bipush (-9), 2) := dk_16 247 (dk_at dksX0_count_6 18 rfl rfl)
theorem dX0_count_167 : decode cX0_count 167 = .ok (.ireturn, 1) := dk_172 (dk_at dksX0_count_6 20 rfl rfl)
abbrev cX0_ones : ByteArray := prog_1_method_6_code
def yX0_ones : MethodName := ⟨RX0, "ones", "(I)I"⟩
def dkwX0_ones_0 : List UInt8 := [3, 60, 26, 61, 28, 153, 0, 15, 132, 1, 1, 28, 28, 4, 100, 126, 61, 167, 255, 243, 27, 172]
abbrev dktX0_ones_0 : List UInt8 := dkwX0_ones_0 ++ []
theorem dksX0_ones_0 : cX0_ones.data.toList.drop 0 = dktX0_ones_0 := by decide +kernel
theorem dX0_ones_0 : decode cX0_ones 0 = .ok (.iconst 0, 1) := dk_3 (dk_at dksX0_ones_0 0 rfl rfl)
theorem dX0_ones_1 : decode cX0_ones 1 = .ok (.istore_n 1, 1) := dk_60 (dk_at dksX0_ones_0 1 rfl rfl)
theorem dX0_ones_2 : decode cX0_ones 2 = .ok (.iload_n 0, 1) := dk_26 (dk_at dksX0_ones_0 2 rfl rfl)
theorem dX0_ones_3 : decode cX0_ones 3 = .ok (.istore_n 2, 1) := dk_61 (dk_at dksX0_ones_0 3 rfl rfl)
theorem dX0_ones_4 : decode cX0_ones 4 = .ok (.iload_n 2, 1) := dk_28 (dk_at dksX0_ones_0 4 rfl rfl)
theorem dX0_ones_5 : decode cX0_ones 5 = .ok (.ifCond .eq 15, 3) := dk_153 0 15 (dk_at dksX0_ones_0 5 rfl rfl)
theorem dX0_ones_8 : decode cX0_ones 8 = .ok (.iinc 1 1, 3) := dk_132 1 1 (dk_at dksX0_ones_0 8 rfl rfl)
theorem dX0_ones_11 : decode cX0_ones 11 = .ok (.iload_n 2, 1) := dk_28 (dk_at dksX0_ones_0 11 rfl rfl)
theorem dX0_ones_12 : decode cX0_ones 12 = .ok (.iload_n 2, 1) := dk_28 (dk_at dksX0_ones_0 12 rfl rfl)
theorem dX0_ones_13 : decode cX0_ones 13 = .ok (.iconst 1, 1) := dk_4 (dk_at dksX0_ones_0 13 rfl rfl)
theorem dX0_ones_14 : decode cX0_ones 14 = .ok (.isub, 1) := dk_100 (dk_at dksX0_ones_0 14 rfl rfl)
theorem dX0_ones_15 : decode cX0_ones 15 = .ok (.iand, 1) := dk_126 (dk_at dksX0_ones_0 15 rfl rfl)
theorem dX0_ones_16 : decode cX0_ones 16 = .ok (.istore_n 2, 1) := dk_61 (dk_at dksX0_ones_0 16 rfl rfl)
theorem dX0_ones_17 : decode cX0_ones 17 = .ok (.goto (-13), 3) := dk_167 255 243 (dk_at dksX0_ones_0 17 rfl rfl)
theorem dX0_ones_20 : decode cX0_ones 20 = .ok (.iload_n 1, 1) := dk_27 (dk_at dksX0_ones_0 20 rfl rfl)
theorem dX0_ones_21 : decode cX0_ones 21 = .ok (.ireturn, 1) := dk_172 (dk_at dksX0_ones_0 21 rfl rfl)
abbrev cX0_strengthOfAll : ByteArray := prog_1_method_57_code
def yX0_strengthOfAll : MethodName := ⟨RX0, "strengthOfAll", "()I"⟩
def dkwX0_strengthOfAll_1 : List UInt8 := [46, 96, 60, 132, 2, 1, 167, 255, 230, 27, 172]
abbrev dktX0_strengthOfAll_1 : List UInt8 := dkwX0_strengthOfAll_1 ++ []
def dkwX0_strengthOfAll_0 : List UInt8 := [3, 60, 3, 61, 28, 42, 180, 0, 69, 180, 0, 189, 162, 0, 21, 27, 42, 180, 0, 69, 180, 1, 18, 28]
abbrev dktX0_strengthOfAll_0 : List UInt8 := dkwX0_strengthOfAll_0 ++ dktX0_strengthOfAll_1
theorem dksX0_strengthOfAll_0 : cX0_strengthOfAll.data.toList.drop 0 = dktX0_strengthOfAll_0 := by decide +kernel
theorem dksX0_strengthOfAll_1 : cX0_strengthOfAll.data.toList.drop 24 = dktX0_strengthOfAll_1 := dk_seg dksX0_strengthOfAll_0 24 rfl rfl
theorem dX0_strengthOfAll_0 : decode cX0_strengthOfAll 0 = .ok (.iconst 0, 1) := dk_3 (dk_at dksX0_strengthOfAll_0 0 rfl rfl)
theorem dX0_strengthOfAll_1 : decode cX0_strengthOfAll 1 = .ok (.istore_n 1, 1) := dk_60 (dk_at dksX0_strengthOfAll_0 1 rfl rfl)
theorem dX0_strengthOfAll_2 : decode cX0_strengthOfAll 2 = .ok (.iconst 0, 1) := dk_3 (dk_at dksX0_strengthOfAll_0 2 rfl rfl)
theorem dX0_strengthOfAll_3 : decode cX0_strengthOfAll 3 = .ok (.istore_n 2, 1) := dk_61 (dk_at dksX0_strengthOfAll_0 3 rfl rfl)
theorem dX0_strengthOfAll_4 : decode cX0_strengthOfAll 4 = .ok (.iload_n 2, 1) := dk_28 (dk_at dksX0_strengthOfAll_0 4 rfl rfl)
theorem dX0_strengthOfAll_5 : decode cX0_strengthOfAll 5 = .ok (.aload_n 0, 1) := dk_42 (dk_at dksX0_strengthOfAll_0 5 rfl rfl)
theorem dX0_strengthOfAll_6 : decode cX0_strengthOfAll 6 = .ok (.getfield 69, 3) := dk_180 0 69 (dk_at dksX0_strengthOfAll_0 6 rfl rfl)
theorem dX0_strengthOfAll_9 : decode cX0_strengthOfAll 9 = .ok (.getfield 189, 3) := dk_180 0 189 (dk_at dksX0_strengthOfAll_0 9 rfl rfl)
theorem dX0_strengthOfAll_12 : decode cX0_strengthOfAll 12 = .ok (.if_icmp .ge 21, 3) := dk_162 0 21 (dk_at dksX0_strengthOfAll_0 12 rfl rfl)
theorem dX0_strengthOfAll_15 : decode cX0_strengthOfAll 15 = .ok (.iload_n 1, 1) := dk_27 (dk_at dksX0_strengthOfAll_0 15 rfl rfl)
theorem dX0_strengthOfAll_16 : decode cX0_strengthOfAll 16 = .ok (.aload_n 0, 1) := dk_42 (dk_at dksX0_strengthOfAll_0 16 rfl rfl)
theorem dX0_strengthOfAll_17 : decode cX0_strengthOfAll 17 = .ok (.getfield 69, 3) := dk_180 0 69 (dk_at dksX0_strengthOfAll_0 17 rfl rfl)
theorem dX0_strengthOfAll_20 : decode cX0_strengthOfAll 20 = .ok (.getfield 274, 3) := dk_180 1 18 (dk_at dksX0_strengthOfAll_0 20 rfl rfl)
theorem dX0_strengthOfAll_23 : decode cX0_strengthOfAll 23 = .ok (.iload_n 2, 1) := dk_28 (dk_at dksX0_strengthOfAll_0 23 rfl rfl)
theorem dX0_strengthOfAll_24 : decode cX0_strengthOfAll 24 = .ok (.iaload, 1) := dk_46 (dk_at dksX0_strengthOfAll_1 0 rfl rfl)
theorem dX0_strengthOfAll_25 : decode cX0_strengthOfAll 25 = .ok (.iadd, 1) := dk_96 (dk_at dksX0_strengthOfAll_1 1 rfl rfl)
theorem dX0_strengthOfAll_26 : decode cX0_strengthOfAll 26 = .ok (.istore_n 1, 1) := dk_60 (dk_at dksX0_strengthOfAll_1 2 rfl rfl)
theorem dX0_strengthOfAll_27 : decode cX0_strengthOfAll 27 = .ok (.iinc 2 1, 3) := dk_132 2 1 (dk_at dksX0_strengthOfAll_1 3 rfl rfl)
theorem dX0_strengthOfAll_30 : decode cX0_strengthOfAll 30 = .ok (.goto (-26), 3) := dk_167 255 230 (dk_at dksX0_strengthOfAll_1 6 rfl rfl)
theorem dX0_strengthOfAll_33 : decode cX0_strengthOfAll 33 = .ok (.iload_n 1, 1) := dk_27 (dk_at dksX0_strengthOfAll_1 9 rfl rfl)
theorem dX0_strengthOfAll_34 : decode cX0_strengthOfAll 34 = .ok (.ireturn, 1) := dk_172 (dk_at dksX0_strengthOfAll_1 10 rfl rfl)
theorem q95 : (Jvm.Cond.initialized "SongThatStays") ∈ lw_all := lw_g (lw_at lw_m1 1 rfl) rfl
theorem q128 : (Jvm.Cond.instantiable "SongThatStays" (10 : Nat)) ∈ lw_all := lw_g (lw_at lw_m1 34 rfl) rfl
theorem q130 : (Jvm.Cond.instanceMethod ({ cls := "SongThatStays", name := "<init>", desc := "()V" } : Jvm.MethodName)) ∈ lw_all := lw_g (lw_at lw_m1 36 rfl) rfl
theorem q131 : (Jvm.Cond.code ({ cls := "SongThatStays", name := "<init>", desc := "()V" } : Jvm.MethodName) prog_1_method_8_code (1 : Nat) (Option.none : Option Jvm.ClassFile.FieldType)) ∈ lw_all := lw_g (lw_at lw_m1 37 rfl) rfl
theorem q132 : (Jvm.Cond.methodLink "SongThatStays" (37 : Nat) ({ cls := "java/lang/Object", name := "<init>", desc := "()V" } : Jvm.MethodName)) ∈ lw_all := lw_g (lw_at lw_m1 38 rfl) rfl
theorem q135 : (Jvm.Cond.classLink "SongThatStays" (42 : Nat) "SongThatStays$Kind") ∈ lw_all := lw_g (lw_at lw_m1 41 rfl) rfl
theorem q137 : (Jvm.Cond.classLink "SongThatStays" (44 : Nat) "SongThatStays$Head") ∈ lw_all := lw_g (lw_at lw_m1 43 rfl) rfl
theorem q139 : (Jvm.Cond.methodLinkNest "SongThatStays" (46 : Nat) ({ cls := "SongThatStays$Head", name := "<init>", desc := "()V" } : Jvm.MethodName) "SongThatStays") ∈ lw_tbl := lw_at lw_m1 45 rfl
theorem q147 : (Jvm.Cond.classLink "SongThatStays" (47 : Nat) "SongThatStays$Whistler") ∈ lw_all := lw_g (lw_at lw_m1 53 rfl) rfl
theorem q149 : (Jvm.Cond.methodLinkNest "SongThatStays" (49 : Nat) ({ cls := "SongThatStays$Whistler", name := "<init>", desc := "()V" } : Jvm.MethodName) "SongThatStays") ∈ lw_tbl := lw_at lw_m1 55 rfl
theorem q154 : (Jvm.Cond.classLink "SongThatStays" (50 : Nat) "SongThatStays$Deaf") ∈ lw_all := lw_g (lw_at lw_m1 60 rfl) rfl
theorem q156 : (Jvm.Cond.methodLinkNest "SongThatStays" (52 : Nat) ({ cls := "SongThatStays$Deaf", name := "<init>", desc := "()V" } : Jvm.MethodName) "SongThatStays") ∈ lw_tbl := lw_at lw_m1 62 rfl
theorem q161 : (Jvm.Cond.classLink "SongThatStays" (53 : Nat) "SongThatStays$Tired") ∈ lw_all := lw_g (lw_at lw_m1 67 rfl) rfl
theorem q163 : (Jvm.Cond.methodLinkNest "SongThatStays" (55 : Nat) ({ cls := "SongThatStays$Tired", name := "<init>", desc := "()V" } : Jvm.MethodName) "SongThatStays") ∈ lw_tbl := lw_at lw_m1 69 rfl
theorem q168 : (Jvm.Cond.classLink "SongThatStays" (56 : Nat) "SongThatStays$Busy") ∈ lw_all := lw_g (lw_at lw_m1 74 rfl) rfl
theorem q170 : (Jvm.Cond.methodLinkNest "SongThatStays" (58 : Nat) ({ cls := "SongThatStays$Busy", name := "<init>", desc := "()V" } : Jvm.MethodName) "SongThatStays") ∈ lw_tbl := lw_at lw_m1 76 rfl
theorem q175 : (Jvm.Cond.classLink "SongThatStays" (59 : Nat) "SongThatStays$Young") ∈ lw_all := lw_g (lw_at lw_m1 81 rfl) rfl
theorem q177 : (Jvm.Cond.methodLinkNest "SongThatStays" (61 : Nat) ({ cls := "SongThatStays$Young", name := "<init>", desc := "()V" } : Jvm.MethodName) "SongThatStays") ∈ lw_tbl := lw_at lw_m1 83 rfl
theorem q182 : (Jvm.Cond.classLink "SongThatStays" (66 : Nat) "SongThatStays$Office") ∈ lw_all := lw_g (lw_at lw_m1 88 rfl) rfl
theorem q184 : (Jvm.Cond.methodLinkNest "SongThatStays" (68 : Nat) ({ cls := "SongThatStays$Office", name := "<init>", desc := "()V" } : Jvm.MethodName) "SongThatStays") ∈ lw_tbl := lw_at lw_m1 90 rfl
theorem q193 : (Jvm.Cond.fieldLinkNest "SongThatStays" (179 : Nat) "SongThatStays$Office" "doors" "I" "SongThatStays") ∈ lw_tbl := lw_at lw_m1 99 rfl
theorem q200 : (Jvm.Cond.fieldLinkNest "SongThatStays" (182 : Nat) "SongThatStays$Office" "shut" "I" "SongThatStays") ∈ lw_tbl := lw_at lw_m1 106 rfl
theorem q204 : (Jvm.Cond.fieldLinkNest "SongThatStays" (151 : Nat) "SongThatStays$Office" "songs" "I" "SongThatStays") ∈ lw_tbl := lw_at lw_m1 110 rfl
theorem q207 : (Jvm.Cond.fieldLinkNest "SongThatStays" (195 : Nat) "SongThatStays$Office" "song" "[LSongThatStays$Song;" "SongThatStays") ∈ lw_tbl := lw_at lw_m1 113 rfl
theorem q211 : (Jvm.Cond.fieldLinkNest "SongThatStays" (189 : Nat) "SongThatStays$Office" "heads" "I" "SongThatStays") ∈ lw_tbl := lw_at lw_m1 117 rfl
theorem q214 : (Jvm.Cond.fieldLinkNest "SongThatStays" (268 : Nat) "SongThatStays$Office" "kind" "[LSongThatStays$Kind;" "SongThatStays") ∈ lw_tbl := lw_at lw_m1 120 rfl
theorem q217 : (Jvm.Cond.fieldLinkNest "SongThatStays" (192 : Nat) "SongThatStays$Office" "rooms" "[I" "SongThatStays") ∈ lw_tbl := lw_at lw_m1 123 rfl
theorem q220 : (Jvm.Cond.fieldLinkNest "SongThatStays" (271 : Nat) "SongThatStays$Office" "resists" "[I" "SongThatStays") ∈ lw_tbl := lw_at lw_m1 126 rfl
theorem q222 : (Jvm.Cond.fieldLinkNest "SongThatStays" (130 : Nat) "SongThatStays$Office" "holds" "[I" "SongThatStays") ∈ lw_tbl := lw_at lw_m1 128 rfl
theorem q224 : (Jvm.Cond.fieldLinkNest "SongThatStays" (274 : Nat) "SongThatStays$Office" "strengths" "[I" "SongThatStays") ∈ lw_tbl := lw_at lw_m1 130 rfl
theorem q227 : (Jvm.Cond.fieldLinkNest "SongThatStays" (277 : Nat) "SongThatStays$Office" "gums" "[I" "SongThatStays") ∈ lw_tbl := lw_at lw_m1 133 rfl
theorem q229 : (Jvm.Cond.fieldLinkNest "SongThatStays" (330 : Nat) "SongThatStays$Office" "hour" "I" "SongThatStays") ∈ lw_tbl := lw_at lw_m1 135 rfl
theorem q232 : (Jvm.Cond.fieldLinkNest "SongThatStays" (297 : Nat) "SongThatStays$Office" "loud" "I" "SongThatStays") ∈ lw_tbl := lw_at lw_m1 138 rfl
theorem q236 : (Jvm.Cond.fieldLinkNest "SongThatStays" (160 : Nat) "SongThatStays$Office" "givers" "[I" "SongThatStays") ∈ lw_tbl := lw_at lw_m1 142 rfl
theorem q238 : (Jvm.Cond.fieldLinkNest "SongThatStays" (157 : Nat) "SongThatStays$Office" "firsts" "[I" "SongThatStays") ∈ lw_tbl := lw_at lw_m1 144 rfl
theorem q282 : (Jvm.Cond.fieldLink "SongThatStays" (62 : Nat) "SongThatStays" "kinds" "[LSongThatStays$Kind;") ∈ lw_all := lw_g (lw_at lw_m1 188 rfl) rfl
theorem q284 : (Jvm.Cond.fieldLink "SongThatStays" (69 : Nat) "SongThatStays" "office" "LSongThatStays$Office;") ∈ lw_all := lw_g (lw_at lw_m1 190 rfl) rfl
theorem q285 : (Jvm.Cond.fieldLink "SongThatStays" (73 : Nat) "SongThatStays" "mind" "LSongThatStays$Office;") ∈ lw_all := lw_g (lw_at lw_m1 191 rfl) rfl
theorem q286 : (Jvm.Cond.fieldLink "SongThatStays" (76 : Nat) "SongThatStays" "imaged" "LSongThatStays$Office;") ∈ lw_all := lw_g (lw_at lw_m1 192 rfl) rfl
theorem q287 : (Jvm.Cond.fieldLink "SongThatStays" (416 : Nat) "SongThatStays" "hasImage" "Z") ∈ lw_all := lw_g (lw_at lw_m1 193 rfl) rfl
theorem q288 : (Jvm.Cond.fieldLink "SongThatStays" (79 : Nat) "SongThatStays" "row" "[B") ∈ lw_all := lw_g (lw_at lw_m1 194 rfl) rfl
theorem q289 : (Jvm.Cond.fieldLink "SongThatStays" (206 : Nat) "SongThatStays" "rowMany" "I") ∈ lw_all := lw_g (lw_at lw_m1 195 rfl) rfl
theorem q291 : (Jvm.Cond.fieldLink "SongThatStays" (83 : Nat) "SongThatStays" "letters" "[C") ∈ lw_all := lw_g (lw_at lw_m1 197 rfl) rfl
theorem q293 : (Jvm.Cond.fieldLink "SongThatStays" (96 : Nat) "SongThatStays" "letterMany" "I") ∈ lw_all := lw_g (lw_at lw_m1 199 rfl) rfl
theorem q294 : (Jvm.Cond.fieldLink "SongThatStays" (87 : Nat) "SongThatStays" "refused" "[I") ∈ lw_all := lw_g (lw_at lw_m1 200 rfl) rfl
theorem q295 : (Jvm.Cond.laysFinal "SongThatStays" "SongThatStays" "kinds" "[LSongThatStays$Kind;") ∈ lw_all := lw_g (lw_at lw_m1 201 rfl) rfl
theorem q296 : (Jvm.Cond.soleField "SongThatStays" "kinds") ∈ lw_all := lw_g (lw_at lw_m1 202 rfl) rfl
theorem q297 : (Jvm.Cond.laysFinal "SongThatStays" "SongThatStays" "office" "LSongThatStays$Office;") ∈ lw_all := lw_g (lw_at lw_m1 203 rfl) rfl
theorem q298 : (Jvm.Cond.soleField "SongThatStays" "office") ∈ lw_all := lw_g (lw_at lw_m1 204 rfl) rfl
theorem q299 : (Jvm.Cond.laysFinal "SongThatStays" "SongThatStays" "mind" "LSongThatStays$Office;") ∈ lw_all := lw_g (lw_at lw_m1 205 rfl) rfl
theorem q300 : (Jvm.Cond.soleField "SongThatStays" "mind") ∈ lw_all := lw_g (lw_at lw_m1 206 rfl) rfl
theorem q301 : (Jvm.Cond.laysFinal "SongThatStays" "SongThatStays" "imaged" "LSongThatStays$Office;") ∈ lw_all := lw_g (lw_at lw_m1 207 rfl) rfl
theorem q302 : (Jvm.Cond.soleField "SongThatStays" "imaged") ∈ lw_all := lw_g (lw_at lw_m1 208 rfl) rfl
theorem q303 : (Jvm.Cond.lays "SongThatStays" "SongThatStays" "hasImage" "Z") ∈ lw_all := lw_g (lw_at lw_m1 209 rfl) rfl
theorem q304 : (Jvm.Cond.soleField "SongThatStays" "hasImage") ∈ lw_all := lw_g (lw_at lw_m1 210 rfl) rfl
theorem q305 : (Jvm.Cond.laysFinal "SongThatStays" "SongThatStays" "row" "[B") ∈ lw_all := lw_g (lw_at lw_m1 211 rfl) rfl
theorem q306 : (Jvm.Cond.soleField "SongThatStays" "row") ∈ lw_all := lw_g (lw_at lw_m1 212 rfl) rfl
theorem q307 : (Jvm.Cond.lays "SongThatStays" "SongThatStays" "rowMany" "I") ∈ lw_all := lw_g (lw_at lw_m1 213 rfl) rfl
theorem q308 : (Jvm.Cond.soleField "SongThatStays" "rowMany") ∈ lw_all := lw_g (lw_at lw_m1 214 rfl) rfl
theorem q309 : (Jvm.Cond.laysFinal "SongThatStays" "SongThatStays" "letters" "[C") ∈ lw_all := lw_g (lw_at lw_m1 215 rfl) rfl
theorem q310 : (Jvm.Cond.soleField "SongThatStays" "letters") ∈ lw_all := lw_g (lw_at lw_m1 216 rfl) rfl
theorem q311 : (Jvm.Cond.lays "SongThatStays" "SongThatStays" "letterMany" "I") ∈ lw_all := lw_g (lw_at lw_m1 217 rfl) rfl
theorem q312 : (Jvm.Cond.soleField "SongThatStays" "letterMany") ∈ lw_all := lw_g (lw_at lw_m1 218 rfl) rfl
theorem q313 : (Jvm.Cond.laysFinal "SongThatStays" "SongThatStays" "refused" "[I") ∈ lw_all := lw_g (lw_at lw_m1 219 rfl) rfl
theorem q314 : (Jvm.Cond.soleField "SongThatStays" "refused") ∈ lw_all := lw_g (lw_at lw_m1 220 rfl) rfl
theorem q315 : (Jvm.Cond.superclass "SongThatStays" "java/lang/Object") ∈ lw_all := lw_g (lw_at lw_m1 221 rfl) rfl
theorem q319 : (Jvm.Cond.instanceMethod ({ cls := "SongThatStays", name := "letter", desc := "(I)I" } : Jvm.MethodName)) ∈ lw_all := lw_g (lw_at lw_m1 225 rfl) rfl
theorem q320 : (Jvm.Cond.selects "SongThatStays" ({ cls := "SongThatStays", name := "letter", desc := "(I)I" } : Jvm.MethodName) ({ cls := "SongThatStays", name := "letter", desc := "(I)I" } : Jvm.MethodName)) ∈ lw_all := lw_g (lw_at lw_m1 226 rfl) rfl
theorem q321 : (Jvm.Cond.code ({ cls := "SongThatStays", name := "letter", desc := "(I)I" } : Jvm.MethodName) prog_1_method_58_code (2 : Nat) (Option.some Jvm.ClassFile.FieldType.int)) ∈ lw_all := lw_g (lw_at lw_m1 227 rfl) rfl
theorem q322 : (Jvm.Cond.methodLink "SongThatStays" (420 : Nat) ({ cls := "SongThatStays", name := "act", desc := "(IIII)I" } : Jvm.MethodName)) ∈ lw_all := lw_g (lw_at lw_m1 228 rfl) rfl
theorem q323 : (Jvm.Cond.privateMethod ({ cls := "SongThatStays", name := "act", desc := "(IIII)I" } : Jvm.MethodName)) ∈ lw_tbl := lw_at lw_m1 229 rfl
theorem q324 : (Jvm.Cond.instanceMethod ({ cls := "SongThatStays", name := "act", desc := "(IIII)I" } : Jvm.MethodName)) ∈ lw_all := lw_g (lw_at lw_m1 230 rfl) rfl
theorem q325 : (Jvm.Cond.codeWith ({ cls := "SongThatStays", name := "act", desc := "(IIII)I" } : Jvm.MethodName) prog_1_method_28_code (6 : Nat) (Option.some Jvm.ClassFile.FieldType.int) [((0 : Nat), (43 : Nat), (44 : Nat), (223 : Nat))]) ∈ lw_all := lw_g (lw_at lw_m1 231 rfl) rfl
theorem q326 : (Jvm.Cond.classLink "SongThatStays" (223 : Nat) "SongThatStays$Refusal") ∈ lw_all := lw_g (lw_at lw_m1 232 rfl) rfl
theorem q327 : (Jvm.Cond.methodLink "SongThatStays" (212 : Nat) ({ cls := "SongThatStays", name := "ofOffice", desc := "(III)I" } : Jvm.MethodName)) ∈ lw_all := lw_g (lw_at lw_m1 233 rfl) rfl
theorem q328 : (Jvm.Cond.privateMethod ({ cls := "SongThatStays", name := "ofOffice", desc := "(III)I" } : Jvm.MethodName)) ∈ lw_tbl := lw_at lw_m1 234 rfl
theorem q329 : (Jvm.Cond.instanceMethod ({ cls := "SongThatStays", name := "ofOffice", desc := "(III)I" } : Jvm.MethodName)) ∈ lw_all := lw_g (lw_at lw_m1 235 rfl) rfl
theorem q330 : (Jvm.Cond.code ({ cls := "SongThatStays", name := "ofOffice", desc := "(III)I" } : Jvm.MethodName) prog_1_method_43_code (4 : Nat) (Option.some Jvm.ClassFile.FieldType.int)) ∈ lw_all := lw_g (lw_at lw_m1 236 rfl) rfl
theorem q331 : (Jvm.Cond.methodLink "SongThatStays" (300 : Nat) ({ cls := "SongThatStays", name := "letterIt", desc := "(I)I" } : Jvm.MethodName)) ∈ lw_all := lw_g (lw_at lw_m1 237 rfl) rfl
theorem q332 : (Jvm.Cond.privateMethod ({ cls := "SongThatStays", name := "letterIt", desc := "(I)I" } : Jvm.MethodName)) ∈ lw_tbl := lw_at lw_m1 238 rfl
theorem q333 : (Jvm.Cond.instanceMethod ({ cls := "SongThatStays", name := "letterIt", desc := "(I)I" } : Jvm.MethodName)) ∈ lw_all := lw_g (lw_at lw_m1 239 rfl) rfl
theorem q334 : (Jvm.Cond.code ({ cls := "SongThatStays", name := "letterIt", desc := "(I)I" } : Jvm.MethodName) prog_1_method_35_code (2 : Nat) (Option.some Jvm.ClassFile.FieldType.int)) ∈ lw_all := lw_g (lw_at lw_m2 0 rfl) rfl
theorem q335 : (Jvm.Cond.constantLong "SongThatStays" (242 : Nat) (255 : Int64)) ∈ lw_all := lw_g (lw_at lw_m2 1 rfl) rfl
theorem q336 : (Jvm.Cond.methodLink "SongThatStays" (238 : Nat) ({ cls := "SongThatStays", name := "within", desc := "(JJJ)V" } : Jvm.MethodName)) ∈ lw_all := lw_g (lw_at lw_m2 2 rfl) rfl
theorem q337 : (Jvm.Cond.static ({ cls := "SongThatStays", name := "within", desc := "(JJJ)V" } : Jvm.MethodName)) ∈ lw_all := lw_g (lw_at lw_m2 3 rfl) rfl
theorem q338 : (Jvm.Cond.code ({ cls := "SongThatStays", name := "within", desc := "(JJJ)V" } : Jvm.MethodName) prog_1_method_3_code (6 : Nat) (Option.none : Option Jvm.ClassFile.FieldType)) ∈ lw_all := lw_g (lw_at lw_m2 4 rfl) rfl
theorem q339 : (Jvm.Cond.methodLink "SongThatStays" (9 : Nat) ({ cls := "SongThatStays", name := "must", desc := "(ZI)V" } : Jvm.MethodName)) ∈ lw_all := lw_g (lw_at lw_m2 5 rfl) rfl
theorem q340 : (Jvm.Cond.static ({ cls := "SongThatStays", name := "must", desc := "(ZI)V" } : Jvm.MethodName)) ∈ lw_all := lw_g (lw_at lw_m2 6 rfl) rfl
theorem q341 : (Jvm.Cond.code ({ cls := "SongThatStays", name := "must", desc := "(ZI)V" } : Jvm.MethodName) prog_1_method_2_code (2 : Nat) (Option.none : Option Jvm.ClassFile.FieldType)) ∈ lw_all := lw_g (lw_at lw_m2 7 rfl) rfl
theorem q342 : (Jvm.Cond.classLink "SongThatStays" (1 : Nat) "SongThatStays$Refused") ∈ lw_all := lw_g (lw_at lw_m2 8 rfl) rfl
theorem q383 : (Jvm.Cond.methodLink "SongThatStays" (3 : Nat) ({ cls := "SongThatStays$Refused", name := "<init>", desc := "(I)V" } : Jvm.MethodName)) ∈ lw_all := lw_g (lw_at lw_m2 49 rfl) rfl
theorem q411 : (Jvm.Cond.methodLink "SongThatStays" (303 : Nat) ({ cls := "SongThatStays", name := "readOffice", desc := "()I" } : Jvm.MethodName)) ∈ lw_all := lw_g (lw_at lw_m2 77 rfl) rfl
theorem q412 : (Jvm.Cond.privateMethod ({ cls := "SongThatStays", name := "readOffice", desc := "()I" } : Jvm.MethodName)) ∈ lw_tbl := lw_at lw_m2 78 rfl
theorem q413 : (Jvm.Cond.instanceMethod ({ cls := "SongThatStays", name := "readOffice", desc := "()I" } : Jvm.MethodName)) ∈ lw_all := lw_g (lw_at lw_m2 79 rfl) rfl
theorem q414 : (Jvm.Cond.code ({ cls := "SongThatStays", name := "readOffice", desc := "()I" } : Jvm.MethodName) prog_1_method_9_code (5 : Nat) (Option.some Jvm.ClassFile.FieldType.int)) ∈ lw_all := lw_g (lw_at lw_m2 80 rfl) rfl
theorem q415 : (Jvm.Cond.classLink "SongThatStays" (91 : Nat) "SongThatStays$Reader") ∈ lw_all := lw_g (lw_at lw_m2 81 rfl) rfl
theorem q417 : (Jvm.Cond.methodLinkNest "SongThatStays" (93 : Nat) ({ cls := "SongThatStays$Reader", name := "<init>", desc := "(LSongThatStays;)V" } : Jvm.MethodName) "SongThatStays") ∈ lw_tbl := lw_at lw_m2 83 rfl
theorem q422 : (Jvm.Cond.fieldLinkNest "SongThatStays" (109 : Nat) "SongThatStays$Reader" "size" "I" "SongThatStays") ∈ lw_tbl := lw_at lw_m2 88 rfl
theorem q424 : (Jvm.Cond.fieldLinkNest "SongThatStays" (106 : Nat) "SongThatStays$Reader" "at" "I" "SongThatStays") ∈ lw_tbl := lw_at lw_m2 90 rfl
theorem q433 : (Jvm.Cond.classLink "SongThatStays" (100 : Nat) "SongThatStays$Told") ∈ lw_all := lw_g (lw_at lw_m2 99 rfl) rfl
theorem q435 : (Jvm.Cond.methodLink "SongThatStays" (102 : Nat) ({ cls := "SongThatStays$Reader", name := "statement", desc := "()LSongThatStays$Told;" } : Jvm.MethodName)) ∈ lw_all := lw_g (lw_at lw_m2 101 rfl) rfl
theorem q482 : (Jvm.Cond.static ({ cls := "SongThatStays", name := "in", desc := "(JJJ)Z" } : Jvm.MethodName)) ∈ lw_all := lw_g (lw_at lw_m2 148 rfl) rfl
theorem q483 : (Jvm.Cond.code ({ cls := "SongThatStays", name := "in", desc := "(JJJ)Z" } : Jvm.MethodName) prog_1_method_1_code (6 : Nat) (Option.some Jvm.ClassFile.FieldType.boolean)) ∈ lw_all := lw_g (lw_at lw_m2 149 rfl) rfl
theorem q492 : (Jvm.Cond.fieldLink "SongThatStays" (122 : Nat) "SongThatStays$Told" "start" "I") ∈ lw_all := lw_g (lw_at lw_m2 158 rfl) rfl
theorem q586 : (Jvm.Cond.methodLink "SongThatStays" (112 : Nat) ({ cls := "SongThatStays$Office", name := "set", desc := "(LSongThatStays$Office;)V" } : Jvm.MethodName)) ∈ lw_all := lw_g (lw_at lw_m3 12 rfl) rfl
theorem q593 : (Jvm.Cond.methodLink "SongThatStays" (116 : Nat) ({ cls := "SongThatStays$Told", name := "comes", desc := "(LSongThatStays$Office;)Z" } : Jvm.MethodName)) ∈ lw_all := lw_g (lw_at lw_m3 19 rfl) rfl
theorem q668 : (Jvm.Cond.static ({ cls := "SongThatStays", name := "songOf", desc := "(III)LSongThatStays$Song;" } : Jvm.MethodName)) ∈ lw_all := lw_g (lw_at lw_m3 94 rfl) rfl
theorem q669 : (Jvm.Cond.code ({ cls := "SongThatStays", name := "songOf", desc := "(III)LSongThatStays$Song;" } : Jvm.MethodName) prog_1_method_7_code (3 : Nat) (Option.some (Jvm.ClassFile.FieldType.object "SongThatStays$Song"))) ∈ lw_all := lw_g (lw_at lw_m3 95 rfl) rfl
theorem q670 : (Jvm.Cond.classLink "SongThatStays" (17 : Nat) "SongThatStays$Plain") ∈ lw_all := lw_g (lw_at lw_m3 96 rfl) rfl
theorem q672 : (Jvm.Cond.methodLink "SongThatStays" (19 : Nat) ({ cls := "SongThatStays$Plain", name := "<init>", desc := "(II)V" } : Jvm.MethodName)) ∈ lw_all := lw_g (lw_at lw_m3 98 rfl) rfl
theorem q683 : (Jvm.Cond.fieldLink "SongThatStays" (254 : Nat) "SongThatStays$Song" "pull" "I") ∈ lw_all := lw_g (lw_at lw_m3 109 rfl) rfl
theorem q687 : (Jvm.Cond.fieldLink "SongThatStays" (257 : Nat) "SongThatStays$Song" "length" "I") ∈ lw_all := lw_g (lw_at lw_m3 113 rfl) rfl
theorem q693 : (Jvm.Cond.classLink "SongThatStays" (22 : Nat) "SongThatStays$Looping") ∈ lw_all := lw_g (lw_at lw_m3 119 rfl) rfl
theorem q695 : (Jvm.Cond.methodLink "SongThatStays" (24 : Nat) ({ cls := "SongThatStays$Looping", name := "<init>", desc := "(II)V" } : Jvm.MethodName)) ∈ lw_all := lw_g (lw_at lw_m3 121 rfl) rfl
theorem q702 : (Jvm.Cond.classLink "SongThatStays" (25 : Nat) "SongThatStays$Quick") ∈ lw_all := lw_g (lw_at lw_m3 128 rfl) rfl
theorem q704 : (Jvm.Cond.methodLink "SongThatStays" (27 : Nat) ({ cls := "SongThatStays$Quick", name := "<init>", desc := "(II)V" } : Jvm.MethodName)) ∈ lw_all := lw_g (lw_at lw_m3 130 rfl) rfl
theorem q710 : (Jvm.Cond.classLink "SongThatStays" (28 : Nat) "SongThatStays$Cued") ∈ lw_all := lw_g (lw_at lw_m3 136 rfl) rfl
theorem q712 : (Jvm.Cond.methodLink "SongThatStays" (30 : Nat) ({ cls := "SongThatStays$Cued", name := "<init>", desc := "(II)V" } : Jvm.MethodName)) ∈ lw_all := lw_g (lw_at lw_m3 138 rfl) rfl
theorem q719 : (Jvm.Cond.classLink "SongThatStays" (31 : Nat) "SongThatStays$Jingle") ∈ lw_all := lw_g (lw_at lw_m3 145 rfl) rfl
theorem q721 : (Jvm.Cond.methodLink "SongThatStays" (33 : Nat) ({ cls := "SongThatStays$Jingle", name := "<init>", desc := "(II)V" } : Jvm.MethodName)) ∈ lw_all := lw_g (lw_at lw_m3 147 rfl) rfl
theorem q727 : (Jvm.Cond.classLink "SongThatStays" (34 : Nat) "SongThatStays$Hymn") ∈ lw_all := lw_g (lw_at lw_m3 153 rfl) rfl
theorem q729 : (Jvm.Cond.methodLink "SongThatStays" (36 : Nat) ({ cls := "SongThatStays$Hymn", name := "<init>", desc := "(II)V" } : Jvm.MethodName)) ∈ lw_all := lw_g (lw_at lw_m3 155 rfl) rfl
theorem q736 : (Jvm.Cond.classLink "SongThatStays" (120 : Nat) "SongThatStays$Fault") ∈ lw_all := lw_g (lw_at lw_m3 162 rfl) rfl
theorem q737 : (Jvm.Cond.methodLink "SongThatStays" (125 : Nat) ({ cls := "SongThatStays$Fault", name := "<init>", desc := "(I)V" } : Jvm.MethodName)) ∈ lw_all := lw_g (lw_at lw_m3 163 rfl) rfl
theorem q738 : (Jvm.Cond.methodLink "SongThatStays" (306 : Nat) ({ cls := "SongThatStays", name := "songTold", desc := "(II)I" } : Jvm.MethodName)) ∈ lw_all := lw_g (lw_at lw_m3 164 rfl) rfl
theorem q739 : (Jvm.Cond.privateMethod ({ cls := "SongThatStays", name := "songTold", desc := "(II)I" } : Jvm.MethodName)) ∈ lw_tbl := lw_at lw_m3 165 rfl
theorem q740 : (Jvm.Cond.instanceMethod ({ cls := "SongThatStays", name := "songTold", desc := "(II)I" } : Jvm.MethodName)) ∈ lw_all := lw_g (lw_at lw_m3 166 rfl) rfl
theorem q741 : (Jvm.Cond.code ({ cls := "SongThatStays", name := "songTold", desc := "(II)I" } : Jvm.MethodName) prog_1_method_36_code (4 : Nat) (Option.some Jvm.ClassFile.FieldType.int)) ∈ lw_all := lw_g (lw_at lw_m3 167 rfl) rfl
theorem q742 : (Jvm.Cond.methodLink "SongThatStays" (244 : Nat) ({ cls := "SongThatStays", name := "mustBeSong", desc := "(I)V" } : Jvm.MethodName)) ∈ lw_all := lw_g (lw_at lw_m3 168 rfl) rfl
theorem q743 : (Jvm.Cond.privateMethod ({ cls := "SongThatStays", name := "mustBeSong", desc := "(I)V" } : Jvm.MethodName)) ∈ lw_tbl := lw_at lw_m3 169 rfl
theorem q744 : (Jvm.Cond.instanceMethod ({ cls := "SongThatStays", name := "mustBeSong", desc := "(I)V" } : Jvm.MethodName)) ∈ lw_all := lw_g (lw_at lw_m3 170 rfl) rfl
theorem q745 : (Jvm.Cond.code ({ cls := "SongThatStays", name := "mustBeSong", desc := "(I)V" } : Jvm.MethodName) prog_1_method_30_code (2 : Nat) (Option.none : Option Jvm.ClassFile.FieldType)) ∈ lw_all := lw_g (lw_at lw_m3 171 rfl) rfl
theorem q746 : (Jvm.Cond.methodLink "SongThatStays" (231 : Nat) ({ cls := "SongThatStays", name := "mustBe", desc := "(II)V" } : Jvm.MethodName)) ∈ lw_all := lw_g (lw_at lw_m3 172 rfl) rfl
theorem q747 : (Jvm.Cond.static ({ cls := "SongThatStays", name := "mustBe", desc := "(II)V" } : Jvm.MethodName)) ∈ lw_all := lw_g (lw_at lw_m3 173 rfl) rfl
theorem q748 : (Jvm.Cond.code ({ cls := "SongThatStays", name := "mustBe", desc := "(II)V" } : Jvm.MethodName) prog_1_method_4_code (2 : Nat) (Option.none : Option Jvm.ClassFile.FieldType)) ∈ lw_all := lw_g (lw_at lw_m3 174 rfl) rfl
theorem q749 : (Jvm.Cond.methodLink "SongThatStays" (13 : Nat) ({ cls := "SongThatStays", name := "in", desc := "(JJJ)Z" } : Jvm.MethodName)) ∈ lw_all := lw_g (lw_at lw_m3 175 rfl) rfl
theorem q750 : (Jvm.Cond.constantLong "SongThatStays" (247 : Nat) (4 : Int64)) ∈ lw_all := lw_g (lw_at lw_m3 176 rfl) rfl
theorem q751 : (Jvm.Cond.methodLink "SongThatStays" (249 : Nat) ({ cls := "SongThatStays$Song", name := "kind", desc := "()I" } : Jvm.MethodName)) ∈ lw_all := lw_g (lw_at lw_m3 177 rfl) rfl
theorem q772 : (Jvm.Cond.methodLink "SongThatStays" (260 : Nat) ({ cls := "SongThatStays$Song", name := "fresh", desc := "()I" } : Jvm.MethodName)) ∈ lw_all := lw_g (lw_at lw_m3 198 rfl) rfl
theorem q773 : (Jvm.Cond.methodLink "SongThatStays" (137 : Nat) ({ cls := "SongThatStays$Office", name := "have", desc := "(I)I" } : Jvm.MethodName)) ∈ lw_all := lw_g (lw_at lw_m3 199 rfl) rfl
theorem q777 : (Jvm.Cond.methodLink "SongThatStays" (309 : Nat) ({ cls := "SongThatStays", name := "headTold", desc := "(II)I" } : Jvm.MethodName)) ∈ lw_all := lw_g (lw_at lw_m3 203 rfl) rfl
theorem q778 : (Jvm.Cond.privateMethod ({ cls := "SongThatStays", name := "headTold", desc := "(II)I" } : Jvm.MethodName)) ∈ lw_tbl := lw_at lw_m3 204 rfl
theorem q779 : (Jvm.Cond.instanceMethod ({ cls := "SongThatStays", name := "headTold", desc := "(II)I" } : Jvm.MethodName)) ∈ lw_all := lw_g (lw_at lw_m3 205 rfl) rfl
theorem q780 : (Jvm.Cond.code ({ cls := "SongThatStays", name := "headTold", desc := "(II)I" } : Jvm.MethodName) prog_1_method_37_code (3 : Nat) (Option.some Jvm.ClassFile.FieldType.int)) ∈ lw_all := lw_g (lw_at lw_m3 206 rfl) rfl
theorem q781 : (Jvm.Cond.methodLink "SongThatStays" (263 : Nat) ({ cls := "SongThatStays", name := "mustBeHead", desc := "(I)V" } : Jvm.MethodName)) ∈ lw_all := lw_g (lw_at lw_m3 207 rfl) rfl
theorem q782 : (Jvm.Cond.privateMethod ({ cls := "SongThatStays", name := "mustBeHead", desc := "(I)V" } : Jvm.MethodName)) ∈ lw_tbl := lw_at lw_m3 208 rfl
theorem q783 : (Jvm.Cond.instanceMethod ({ cls := "SongThatStays", name := "mustBeHead", desc := "(I)V" } : Jvm.MethodName)) ∈ lw_all := lw_g (lw_at lw_m3 209 rfl) rfl
theorem q784 : (Jvm.Cond.code ({ cls := "SongThatStays", name := "mustBeHead", desc := "(I)V" } : Jvm.MethodName) prog_1_method_29_code (2 : Nat) (Option.none : Option Jvm.ClassFile.FieldType)) ∈ lw_all := lw_g (lw_at lw_m3 210 rfl) rfl
theorem q785 : (Jvm.Cond.constantLong "SongThatStays" (266 : Nat) (7 : Int64)) ∈ lw_all := lw_g (lw_at lw_m3 211 rfl) rfl
theorem q786 : (Jvm.Cond.methodLink "SongThatStays" (270 : Nat) ({ cls := "SongThatStays$Kind", name := "kind", desc := "()I" } : Jvm.MethodName)) ∈ lw_all := lw_g (lw_at lw_m3 212 rfl) rfl
theorem q807 : (Jvm.Cond.methodLink "SongThatStays" (280 : Nat) ({ cls := "SongThatStays$Office", name := "bar", desc := "(I)I" } : Jvm.MethodName)) ∈ lw_all := lw_g (lw_at lw_m3 233 rfl) rfl
theorem q832 : (Jvm.Cond.methodLink "SongThatStays" (283 : Nat) ({ cls := "SongThatStays$Office", name := "hums", desc := "(I)Z" } : Jvm.MethodName)) ∈ lw_all := lw_g (lw_at lw_m4 18 rfl) rfl
theorem q855 : (Jvm.Cond.methodLink "SongThatStays" (312 : Nat) ({ cls := "SongThatStays", name := "nearTold", desc := "(I)I" } : Jvm.MethodName)) ∈ lw_all := lw_g (lw_at lw_m4 41 rfl) rfl
theorem q856 : (Jvm.Cond.privateMethod ({ cls := "SongThatStays", name := "nearTold", desc := "(I)I" } : Jvm.MethodName)) ∈ lw_tbl := lw_at lw_m4 42 rfl
theorem q857 : (Jvm.Cond.instanceMethod ({ cls := "SongThatStays", name := "nearTold", desc := "(I)I" } : Jvm.MethodName)) ∈ lw_all := lw_g (lw_at lw_m4 43 rfl) rfl
theorem q858 : (Jvm.Cond.code ({ cls := "SongThatStays", name := "nearTold", desc := "(I)I" } : Jvm.MethodName) prog_1_method_38_code (4 : Nat) (Option.some Jvm.ClassFile.FieldType.int)) ∈ lw_all := lw_g (lw_at lw_m4 44 rfl) rfl
theorem q859 : (Jvm.Cond.methodLink "SongThatStays" (287 : Nat) ({ cls := "SongThatStays$Office", name := "areNear", desc := "(II)Z" } : Jvm.MethodName)) ∈ lw_all := lw_g (lw_at lw_m4 45 rfl) rfl
theorem q868 : (Jvm.Cond.static ({ cls := "SongThatStays", name := "has", desc := "(II)Z" } : Jvm.MethodName)) ∈ lw_all := lw_g (lw_at lw_m4 54 rfl) rfl
theorem q869 : (Jvm.Cond.code ({ cls := "SongThatStays", name := "has", desc := "(II)Z" } : Jvm.MethodName) prog_1_method_5_code (2 : Nat) (Option.some Jvm.ClassFile.FieldType.boolean)) ∈ lw_all := lw_g (lw_at lw_m4 55 rfl) rfl
theorem q870 : (Jvm.Cond.methodLink "SongThatStays" (185 : Nat) ({ cls := "SongThatStays", name := "has", desc := "(II)Z" } : Jvm.MethodName)) ∈ lw_all := lw_g (lw_at lw_m4 56 rfl) rfl
theorem q871 : (Jvm.Cond.methodLink "SongThatStays" (315 : Nat) ({ cls := "SongThatStays", name := "goIt", desc := "(II)I" } : Jvm.MethodName)) ∈ lw_all := lw_g (lw_at lw_m4 57 rfl) rfl
theorem q872 : (Jvm.Cond.privateMethod ({ cls := "SongThatStays", name := "goIt", desc := "(II)I" } : Jvm.MethodName)) ∈ lw_tbl := lw_at lw_m4 58 rfl
theorem q873 : (Jvm.Cond.instanceMethod ({ cls := "SongThatStays", name := "goIt", desc := "(II)I" } : Jvm.MethodName)) ∈ lw_all := lw_g (lw_at lw_m4 59 rfl) rfl
theorem q874 : (Jvm.Cond.code ({ cls := "SongThatStays", name := "goIt", desc := "(II)I" } : Jvm.MethodName) prog_1_method_39_code (4 : Nat) (Option.some Jvm.ClassFile.FieldType.int)) ∈ lw_all := lw_g (lw_at lw_m4 60 rfl) rfl
theorem q875 : (Jvm.Cond.methodLink "SongThatStays" (318 : Nat) ({ cls := "SongThatStays", name := "getIt", desc := "(II)I" } : Jvm.MethodName)) ∈ lw_all := lw_g (lw_at lw_m4 61 rfl) rfl
theorem q876 : (Jvm.Cond.privateMethod ({ cls := "SongThatStays", name := "getIt", desc := "(II)I" } : Jvm.MethodName)) ∈ lw_tbl := lw_at lw_m4 62 rfl
theorem q877 : (Jvm.Cond.instanceMethod ({ cls := "SongThatStays", name := "getIt", desc := "(II)I" } : Jvm.MethodName)) ∈ lw_all := lw_g (lw_at lw_m4 63 rfl) rfl
theorem q878 : (Jvm.Cond.code ({ cls := "SongThatStays", name := "getIt", desc := "(II)I" } : Jvm.MethodName) prog_1_method_40_code (4 : Nat) (Option.some Jvm.ClassFile.FieldType.int)) ∈ lw_all := lw_g (lw_at lw_m4 64 rfl) rfl
theorem q879 : (Jvm.Cond.methodLink "SongThatStays" (290 : Nat) ({ cls := "SongThatStays", name := "mustBeSongOrNone", desc := "(I)V" } : Jvm.MethodName)) ∈ lw_all := lw_g (lw_at lw_m4 65 rfl) rfl
theorem q880 : (Jvm.Cond.privateMethod ({ cls := "SongThatStays", name := "mustBeSongOrNone", desc := "(I)V" } : Jvm.MethodName)) ∈ lw_tbl := lw_at lw_m4 66 rfl
theorem q881 : (Jvm.Cond.instanceMethod ({ cls := "SongThatStays", name := "mustBeSongOrNone", desc := "(I)V" } : Jvm.MethodName)) ∈ lw_all := lw_g (lw_at lw_m4 67 rfl) rfl
theorem q882 : (Jvm.Cond.code ({ cls := "SongThatStays", name := "mustBeSongOrNone", desc := "(I)V" } : Jvm.MethodName) prog_1_method_31_code (2 : Nat) (Option.none : Option Jvm.ClassFile.FieldType)) ∈ lw_all := lw_g (lw_at lw_m4 68 rfl) rfl
theorem q883 : (Jvm.Cond.constantLong "SongThatStays" (234 : Nat) (-1 : Int64)) ∈ lw_all := lw_g (lw_at lw_m4 69 rfl) rfl
theorem q884 : (Jvm.Cond.methodLink "SongThatStays" (176 : Nat) ({ cls := "SongThatStays$Office", name := "get", desc := "(II)V" } : Jvm.MethodName)) ∈ lw_all := lw_g (lw_at lw_m4 70 rfl) rfl
theorem q885 : (Jvm.Cond.methodLink "SongThatStays" (321 : Nat) ({ cls := "SongThatStays", name := "ofOfficeToo", desc := "(III)I" } : Jvm.MethodName)) ∈ lw_all := lw_g (lw_at lw_m4 71 rfl) rfl
theorem q886 : (Jvm.Cond.privateMethod ({ cls := "SongThatStays", name := "ofOfficeToo", desc := "(III)I" } : Jvm.MethodName)) ∈ lw_tbl := lw_at lw_m4 72 rfl
theorem q887 : (Jvm.Cond.instanceMethod ({ cls := "SongThatStays", name := "ofOfficeToo", desc := "(III)I" } : Jvm.MethodName)) ∈ lw_all := lw_g (lw_at lw_m4 73 rfl) rfl
theorem q888 : (Jvm.Cond.code ({ cls := "SongThatStays", name := "ofOfficeToo", desc := "(III)I" } : Jvm.MethodName) prog_1_method_44_code (4 : Nat) (Option.some Jvm.ClassFile.FieldType.int)) ∈ lw_all := lw_g (lw_at lw_m4 74 rfl) rfl
theorem q889 : (Jvm.Cond.methodLink "SongThatStays" (324 : Nat) ({ cls := "SongThatStays", name := "remedyIt", desc := "(II)I" } : Jvm.MethodName)) ∈ lw_all := lw_g (lw_at lw_m4 75 rfl) rfl
theorem q890 : (Jvm.Cond.privateMethod ({ cls := "SongThatStays", name := "remedyIt", desc := "(II)I" } : Jvm.MethodName)) ∈ lw_tbl := lw_at lw_m4 76 rfl
theorem q891 : (Jvm.Cond.instanceMethod ({ cls := "SongThatStays", name := "remedyIt", desc := "(II)I" } : Jvm.MethodName)) ∈ lw_all := lw_g (lw_at lw_m4 77 rfl) rfl
theorem q892 : (Jvm.Cond.code ({ cls := "SongThatStays", name := "remedyIt", desc := "(II)I" } : Jvm.MethodName) prog_1_method_41_code (3 : Nat) (Option.some Jvm.ClassFile.FieldType.int)) ∈ lw_all := lw_g (lw_at lw_m4 78 rfl) rfl
theorem q893 : (Jvm.Cond.constantLong "SongThatStays" (293 : Nat) (2 : Int64)) ∈ lw_all := lw_g (lw_at lw_m4 79 rfl) rfl
theorem q894 : (Jvm.Cond.methodLink "SongThatStays" (163 : Nat) ({ cls := "SongThatStays$Office", name := "remedy", desc := "(II)V" } : Jvm.MethodName)) ∈ lw_all := lw_g (lw_at lw_m4 80 rfl) rfl
theorem q905 : (Jvm.Cond.methodLink "SongThatStays" (327 : Nat) ({ cls := "SongThatStays", name := "loudTold", desc := "(I)I" } : Jvm.MethodName)) ∈ lw_all := lw_g (lw_at lw_m4 91 rfl) rfl
theorem q906 : (Jvm.Cond.privateMethod ({ cls := "SongThatStays", name := "loudTold", desc := "(I)I" } : Jvm.MethodName)) ∈ lw_tbl := lw_at lw_m4 92 rfl
theorem q907 : (Jvm.Cond.instanceMethod ({ cls := "SongThatStays", name := "loudTold", desc := "(I)I" } : Jvm.MethodName)) ∈ lw_all := lw_g (lw_at lw_m4 93 rfl) rfl
theorem q908 : (Jvm.Cond.code ({ cls := "SongThatStays", name := "loudTold", desc := "(I)I" } : Jvm.MethodName) prog_1_method_42_code (3 : Nat) (Option.some Jvm.ClassFile.FieldType.int)) ∈ lw_all := lw_g (lw_at lw_m4 94 rfl) rfl
theorem q909 : (Jvm.Cond.constantLong "SongThatStays" (295 : Nat) (20 : Int64)) ∈ lw_all := lw_g (lw_at lw_m4 95 rfl) rfl
theorem q910 : (Jvm.Cond.methodLink "SongThatStays" (133 : Nat) ({ cls := "SongThatStays$Office", name := "hourOn", desc := "()I" } : Jvm.MethodName)) ∈ lw_all := lw_g (lw_at lw_m4 96 rfl) rfl
theorem q956 : (Jvm.Cond.methodLink "SongThatStays" (216 : Nat) ({ cls := "SongThatStays", name := "ofHours", desc := "(IIII)I" } : Jvm.MethodName)) ∈ lw_all := lw_g (lw_at lw_m4 142 rfl) rfl
theorem q957 : (Jvm.Cond.privateMethod ({ cls := "SongThatStays", name := "ofHours", desc := "(IIII)I" } : Jvm.MethodName)) ∈ lw_tbl := lw_at lw_m4 143 rfl
theorem q958 : (Jvm.Cond.instanceMethod ({ cls := "SongThatStays", name := "ofHours", desc := "(IIII)I" } : Jvm.MethodName)) ∈ lw_all := lw_g (lw_at lw_m4 144 rfl) rfl
theorem q959 : (Jvm.Cond.code ({ cls := "SongThatStays", name := "ofHours", desc := "(IIII)I" } : Jvm.MethodName) prog_1_method_52_code (5 : Nat) (Option.some Jvm.ClassFile.FieldType.int)) ∈ lw_all := lw_g (lw_at lw_m4 145 rfl) rfl
theorem q960 : (Jvm.Cond.methodLink "SongThatStays" (358 : Nat) ({ cls := "SongThatStays", name := "holdTold", desc := "(III)I" } : Jvm.MethodName)) ∈ lw_all := lw_g (lw_at lw_m4 146 rfl) rfl
theorem q961 : (Jvm.Cond.privateMethod ({ cls := "SongThatStays", name := "holdTold", desc := "(III)I" } : Jvm.MethodName)) ∈ lw_tbl := lw_at lw_m4 147 rfl
theorem q962 : (Jvm.Cond.instanceMethod ({ cls := "SongThatStays", name := "holdTold", desc := "(III)I" } : Jvm.MethodName)) ∈ lw_all := lw_g (lw_at lw_m4 148 rfl) rfl
theorem q963 : (Jvm.Cond.code ({ cls := "SongThatStays", name := "holdTold", desc := "(III)I" } : Jvm.MethodName) prog_1_method_45_code (5 : Nat) (Option.some Jvm.ClassFile.FieldType.int)) ∈ lw_all := lw_g (lw_at lw_m4 149 rfl) rfl
theorem q964 : (Jvm.Cond.methodLink "SongThatStays" (333 : Nat) ({ cls := "SongThatStays", name := "mustBeHours", desc := "(I)V" } : Jvm.MethodName)) ∈ lw_all := lw_g (lw_at lw_m4 150 rfl) rfl
theorem q965 : (Jvm.Cond.static ({ cls := "SongThatStays", name := "mustBeHours", desc := "(I)V" } : Jvm.MethodName)) ∈ lw_all := lw_g (lw_at lw_m4 151 rfl) rfl
theorem q966 : (Jvm.Cond.code ({ cls := "SongThatStays", name := "mustBeHours", desc := "(I)V" } : Jvm.MethodName) prog_1_method_32_code (1 : Nat) (Option.none : Option Jvm.ClassFile.FieldType)) ∈ lw_all := lw_g (lw_at lw_m4 152 rfl) rfl
theorem q967 : (Jvm.Cond.constantLong "SongThatStays" (236 : Nat) (60 : Int64)) ∈ lw_all := lw_g (lw_at lw_m4 153 rfl) rfl
theorem q968 : (Jvm.Cond.methodLink "SongThatStays" (336 : Nat) ({ cls := "SongThatStays", name := "mustBeBit", desc := "(I)V" } : Jvm.MethodName)) ∈ lw_all := lw_g (lw_at lw_m4 154 rfl) rfl
theorem q969 : (Jvm.Cond.static ({ cls := "SongThatStays", name := "mustBeBit", desc := "(I)V" } : Jvm.MethodName)) ∈ lw_all := lw_g (lw_at lw_m4 155 rfl) rfl
theorem q970 : (Jvm.Cond.code ({ cls := "SongThatStays", name := "mustBeBit", desc := "(I)V" } : Jvm.MethodName) prog_1_method_33_code (1 : Nat) (Option.none : Option Jvm.ClassFile.FieldType)) ∈ lw_all := lw_g (lw_at lw_m4 156 rfl) rfl
theorem q971 : (Jvm.Cond.methodLink "SongThatStays" (126 : Nat) ({ cls := "SongThatStays", name := "openMind", desc := "()LSongThatStays$Office;" } : Jvm.MethodName)) ∈ lw_all := lw_g (lw_at lw_m4 157 rfl) rfl
theorem q972 : (Jvm.Cond.privateMethod ({ cls := "SongThatStays", name := "openMind", desc := "()LSongThatStays$Office;" } : Jvm.MethodName)) ∈ lw_tbl := lw_at lw_m4 158 rfl
theorem q973 : (Jvm.Cond.instanceMethod ({ cls := "SongThatStays", name := "openMind", desc := "()LSongThatStays$Office;" } : Jvm.MethodName)) ∈ lw_all := lw_g (lw_at lw_m4 159 rfl) rfl
theorem q974 : (Jvm.Cond.code ({ cls := "SongThatStays", name := "openMind", desc := "()LSongThatStays$Office;" } : Jvm.MethodName) prog_1_method_10_code (1 : Nat) (Option.some (Jvm.ClassFile.FieldType.object "SongThatStays$Office"))) ∈ lw_all := lw_g (lw_at lw_m4 160 rfl) rfl
theorem q975 : (Jvm.Cond.methodLink "SongThatStays" (147 : Nat) ({ cls := "SongThatStays$Office", name := "hoursOn", desc := "(I)LSongThatStays$Office;" } : Jvm.MethodName)) ∈ lw_all := lw_g (lw_at lw_m4 161 rfl) rfl
theorem q980 : (Jvm.Cond.methodLink "SongThatStays" (361 : Nat) ({ cls := "SongThatStays", name := "haveTold", desc := "(II)I" } : Jvm.MethodName)) ∈ lw_all := lw_g (lw_at lw_m4 166 rfl) rfl
theorem q981 : (Jvm.Cond.privateMethod ({ cls := "SongThatStays", name := "haveTold", desc := "(II)I" } : Jvm.MethodName)) ∈ lw_tbl := lw_at lw_m4 167 rfl
theorem q982 : (Jvm.Cond.instanceMethod ({ cls := "SongThatStays", name := "haveTold", desc := "(II)I" } : Jvm.MethodName)) ∈ lw_all := lw_g (lw_at lw_m4 168 rfl) rfl
theorem q983 : (Jvm.Cond.code ({ cls := "SongThatStays", name := "haveTold", desc := "(II)I" } : Jvm.MethodName) prog_1_method_46_code (3 : Nat) (Option.some Jvm.ClassFile.FieldType.int)) ∈ lw_all := lw_g (lw_at lw_m4 169 rfl) rfl
theorem q984 : (Jvm.Cond.methodLink "SongThatStays" (364 : Nat) ({ cls := "SongThatStays", name := "takesTold", desc := "(II)I" } : Jvm.MethodName)) ∈ lw_all := lw_g (lw_at lw_m4 170 rfl) rfl
theorem q985 : (Jvm.Cond.privateMethod ({ cls := "SongThatStays", name := "takesTold", desc := "(II)I" } : Jvm.MethodName)) ∈ lw_tbl := lw_at lw_m4 171 rfl
theorem q986 : (Jvm.Cond.instanceMethod ({ cls := "SongThatStays", name := "takesTold", desc := "(II)I" } : Jvm.MethodName)) ∈ lw_all := lw_g (lw_at lw_m4 172 rfl) rfl
theorem q987 : (Jvm.Cond.code ({ cls := "SongThatStays", name := "takesTold", desc := "(II)I" } : Jvm.MethodName) prog_1_method_47_code (3 : Nat) (Option.some Jvm.ClassFile.FieldType.int)) ∈ lw_all := lw_g (lw_at lw_m4 173 rfl) rfl
theorem q988 : (Jvm.Cond.methodLink "SongThatStays" (339 : Nat) ({ cls := "SongThatStays", name := "firstTaken", desc := "(II)I" } : Jvm.MethodName)) ∈ lw_all := lw_g (lw_at lw_m4 174 rfl) rfl
theorem q989 : (Jvm.Cond.privateMethod ({ cls := "SongThatStays", name := "firstTaken", desc := "(II)I" } : Jvm.MethodName)) ∈ lw_tbl := lw_at lw_m4 175 rfl
theorem q990 : (Jvm.Cond.instanceMethod ({ cls := "SongThatStays", name := "firstTaken", desc := "(II)I" } : Jvm.MethodName)) ∈ lw_all := lw_g (lw_at lw_m4 176 rfl) rfl
theorem q991 : (Jvm.Cond.code ({ cls := "SongThatStays", name := "firstTaken", desc := "(II)I" } : Jvm.MethodName) prog_1_method_11_code (5 : Nat) (Option.some Jvm.ClassFile.FieldType.int)) ∈ lw_all := lw_g (lw_at lw_m4 177 rfl) rfl
theorem q992 : (Jvm.Cond.methodLink "SongThatStays" (367 : Nat) ({ cls := "SongThatStays", name := "stillBehind", desc := "()I" } : Jvm.MethodName)) ∈ lw_all := lw_g (lw_at lw_m4 178 rfl) rfl
theorem q993 : (Jvm.Cond.privateMethod ({ cls := "SongThatStays", name := "stillBehind", desc := "()I" } : Jvm.MethodName)) ∈ lw_tbl := lw_at lw_m4 179 rfl
theorem q994 : (Jvm.Cond.instanceMethod ({ cls := "SongThatStays", name := "stillBehind", desc := "()I" } : Jvm.MethodName)) ∈ lw_all := lw_g (lw_at lw_m4 180 rfl) rfl
theorem q995 : (Jvm.Cond.code ({ cls := "SongThatStays", name := "stillBehind", desc := "()I" } : Jvm.MethodName) prog_1_method_12_code (3 : Nat) (Option.some Jvm.ClassFile.FieldType.int)) ∈ lw_all := lw_g (lw_at lw_m4 181 rfl) rfl
theorem q996 : (Jvm.Cond.methodLink "SongThatStays" (370 : Nat) ({ cls := "SongThatStays", name := "mostAsked", desc := "(III)I" } : Jvm.MethodName)) ∈ lw_all := lw_g (lw_at lw_m4 182 rfl) rfl
theorem q997 : (Jvm.Cond.privateMethod ({ cls := "SongThatStays", name := "mostAsked", desc := "(III)I" } : Jvm.MethodName)) ∈ lw_tbl := lw_at lw_m4 183 rfl
theorem q998 : (Jvm.Cond.instanceMethod ({ cls := "SongThatStays", name := "mostAsked", desc := "(III)I" } : Jvm.MethodName)) ∈ lw_all := lw_g (lw_at lw_m4 184 rfl) rfl
theorem q999 : (Jvm.Cond.code ({ cls := "SongThatStays", name := "mostAsked", desc := "(III)I" } : Jvm.MethodName) prog_1_method_48_code (4 : Nat) (Option.some Jvm.ClassFile.FieldType.int)) ∈ lw_all := lw_g (lw_at lw_m4 185 rfl) rfl
theorem q1000 : (Jvm.Cond.methodLink "SongThatStays" (342 : Nat) ({ cls := "SongThatStays", name := "mostTold", desc := "(III)I" } : Jvm.MethodName)) ∈ lw_all := lw_g (lw_at lw_m4 186 rfl) rfl
theorem q1001 : (Jvm.Cond.privateMethod ({ cls := "SongThatStays", name := "mostTold", desc := "(III)I" } : Jvm.MethodName)) ∈ lw_tbl := lw_at lw_m4 187 rfl
theorem q1002 : (Jvm.Cond.instanceMethod ({ cls := "SongThatStays", name := "mostTold", desc := "(III)I" } : Jvm.MethodName)) ∈ lw_all := lw_g (lw_at lw_m4 188 rfl) rfl
theorem q1003 : (Jvm.Cond.code ({ cls := "SongThatStays", name := "mostTold", desc := "(III)I" } : Jvm.MethodName) prog_1_method_13_code (8 : Nat) (Option.some Jvm.ClassFile.FieldType.int)) ∈ lw_all := lw_g (lw_at lw_m4 189 rfl) rfl
theorem q1004 : (Jvm.Cond.methodLink "SongThatStays" (141 : Nat) ({ cls := "java/lang/Math", name := "max", desc := "(II)I" } : Jvm.MethodName)) ∈ lw_all := lw_g (lw_at lw_m4 190 rfl) rfl
theorem q1005 : (Jvm.Cond.methodLink "SongThatStays" (373 : Nat) ({ cls := "SongThatStays", name := "lastsBehind", desc := "(I)I" } : Jvm.MethodName)) ∈ lw_all := lw_g (lw_at lw_m4 191 rfl) rfl
theorem q1006 : (Jvm.Cond.privateMethod ({ cls := "SongThatStays", name := "lastsBehind", desc := "(I)I" } : Jvm.MethodName)) ∈ lw_tbl := lw_at lw_m4 192 rfl
theorem q1007 : (Jvm.Cond.instanceMethod ({ cls := "SongThatStays", name := "lastsBehind", desc := "(I)I" } : Jvm.MethodName)) ∈ lw_all := lw_g (lw_at lw_m4 193 rfl) rfl
theorem q1008 : (Jvm.Cond.code ({ cls := "SongThatStays", name := "lastsBehind", desc := "(I)I" } : Jvm.MethodName) prog_1_method_14_code (5 : Nat) (Option.some Jvm.ClassFile.FieldType.int)) ∈ lw_all := lw_g (lw_at lw_m4 194 rfl) rfl
theorem q1009 : (Jvm.Cond.methodLink "SongThatStays" (376 : Nat) ({ cls := "SongThatStays", name := "fromAsked", desc := "(IIZ)I" } : Jvm.MethodName)) ∈ lw_all := lw_g (lw_at lw_m4 195 rfl) rfl
theorem q1010 : (Jvm.Cond.privateMethod ({ cls := "SongThatStays", name := "fromAsked", desc := "(IIZ)I" } : Jvm.MethodName)) ∈ lw_tbl := lw_at lw_m4 196 rfl
theorem q1011 : (Jvm.Cond.instanceMethod ({ cls := "SongThatStays", name := "fromAsked", desc := "(IIZ)I" } : Jvm.MethodName)) ∈ lw_all := lw_g (lw_at lw_m4 197 rfl) rfl
theorem q1012 : (Jvm.Cond.code ({ cls := "SongThatStays", name := "fromAsked", desc := "(IIZ)I" } : Jvm.MethodName) prog_1_method_49_code (4 : Nat) (Option.some Jvm.ClassFile.FieldType.int)) ∈ lw_all := lw_g (lw_at lw_m4 198 rfl) rfl
theorem q1013 : (Jvm.Cond.methodLink "SongThatStays" (345 : Nat) ({ cls := "SongThatStays", name := "fromTold", desc := "(IIZ)I" } : Jvm.MethodName)) ∈ lw_all := lw_g (lw_at lw_m4 199 rfl) rfl
theorem q1014 : (Jvm.Cond.privateMethod ({ cls := "SongThatStays", name := "fromTold", desc := "(IIZ)I" } : Jvm.MethodName)) ∈ lw_tbl := lw_at lw_m4 200 rfl
theorem q1015 : (Jvm.Cond.instanceMethod ({ cls := "SongThatStays", name := "fromTold", desc := "(IIZ)I" } : Jvm.MethodName)) ∈ lw_all := lw_g (lw_at lw_m4 201 rfl) rfl
theorem q1016 : (Jvm.Cond.code ({ cls := "SongThatStays", name := "fromTold", desc := "(IIZ)I" } : Jvm.MethodName) prog_1_method_15_code (5 : Nat) (Option.some Jvm.ClassFile.FieldType.int)) ∈ lw_all := lw_g (lw_at lw_m4 202 rfl) rfl
theorem q1017 : (Jvm.Cond.methodLink "SongThatStays" (154 : Nat) ({ cls := "SongThatStays$Office", name := "beginTrace", desc := "()LSongThatStays$Office;" } : Jvm.MethodName)) ∈ lw_all := lw_g (lw_at lw_m4 203 rfl) rfl
theorem q1021 : (Jvm.Cond.methodLink "SongThatStays" (379 : Nat) ({ cls := "SongThatStays", name := "ridAsked", desc := "(II)I" } : Jvm.MethodName)) ∈ lw_all := lw_g (lw_at lw_m4 207 rfl) rfl
theorem q1022 : (Jvm.Cond.privateMethod ({ cls := "SongThatStays", name := "ridAsked", desc := "(II)I" } : Jvm.MethodName)) ∈ lw_tbl := lw_at lw_m4 208 rfl
theorem q1023 : (Jvm.Cond.instanceMethod ({ cls := "SongThatStays", name := "ridAsked", desc := "(II)I" } : Jvm.MethodName)) ∈ lw_all := lw_g (lw_at lw_m4 209 rfl) rfl
theorem q1024 : (Jvm.Cond.code ({ cls := "SongThatStays", name := "ridAsked", desc := "(II)I" } : Jvm.MethodName) prog_1_method_50_code (3 : Nat) (Option.some Jvm.ClassFile.FieldType.int)) ∈ lw_all := lw_g (lw_at lw_m4 210 rfl) rfl
theorem q1025 : (Jvm.Cond.methodLink "SongThatStays" (349 : Nat) ({ cls := "SongThatStays", name := "mustHaveSong", desc := "(I)V" } : Jvm.MethodName)) ∈ lw_all := lw_g (lw_at lw_m4 211 rfl) rfl
theorem q1026 : (Jvm.Cond.privateMethod ({ cls := "SongThatStays", name := "mustHaveSong", desc := "(I)V" } : Jvm.MethodName)) ∈ lw_tbl := lw_at lw_m4 212 rfl
theorem q1027 : (Jvm.Cond.instanceMethod ({ cls := "SongThatStays", name := "mustHaveSong", desc := "(I)V" } : Jvm.MethodName)) ∈ lw_all := lw_g (lw_at lw_m4 213 rfl) rfl
theorem q1028 : (Jvm.Cond.code ({ cls := "SongThatStays", name := "mustHaveSong", desc := "(I)V" } : Jvm.MethodName) prog_1_method_34_code (2 : Nat) (Option.none : Option Jvm.ClassFile.FieldType)) ∈ lw_all := lw_g (lw_at lw_m4 214 rfl) rfl
theorem q1029 : (Jvm.Cond.methodLink "SongThatStays" (352 : Nat) ({ cls := "SongThatStays", name := "ridTold", desc := "(II)I" } : Jvm.MethodName)) ∈ lw_all := lw_g (lw_at lw_m4 215 rfl) rfl
theorem q1030 : (Jvm.Cond.privateMethod ({ cls := "SongThatStays", name := "ridTold", desc := "(II)I" } : Jvm.MethodName)) ∈ lw_tbl := lw_at lw_m4 216 rfl
theorem q1031 : (Jvm.Cond.instanceMethod ({ cls := "SongThatStays", name := "ridTold", desc := "(II)I" } : Jvm.MethodName)) ∈ lw_all := lw_g (lw_at lw_m4 217 rfl) rfl
theorem q1032 : (Jvm.Cond.code ({ cls := "SongThatStays", name := "ridTold", desc := "(II)I" } : Jvm.MethodName) prog_1_method_18_code (7 : Nat) (Option.some Jvm.ClassFile.FieldType.int)) ∈ lw_all := lw_g (lw_at lw_m4 218 rfl) rfl
theorem q1033 : (Jvm.Cond.methodLink "SongThatStays" (170 : Nat) ({ cls := "SongThatStays", name := "freeBy", desc := "(II)I" } : Jvm.MethodName)) ∈ lw_all := lw_g (lw_at lw_m4 219 rfl) rfl
theorem q1034 : (Jvm.Cond.privateMethod ({ cls := "SongThatStays", name := "freeBy", desc := "(II)I" } : Jvm.MethodName)) ∈ lw_tbl := lw_at lw_m4 220 rfl
theorem q1035 : (Jvm.Cond.instanceMethod ({ cls := "SongThatStays", name := "freeBy", desc := "(II)I" } : Jvm.MethodName)) ∈ lw_all := lw_g (lw_at lw_m4 221 rfl) rfl
theorem q1036 : (Jvm.Cond.code ({ cls := "SongThatStays", name := "freeBy", desc := "(II)I" } : Jvm.MethodName) prog_1_method_17_code (4 : Nat) (Option.some Jvm.ClassFile.FieldType.int)) ∈ lw_all := lw_g (lw_at lw_m4 222 rfl) rfl
theorem q1037 : (Jvm.Cond.methodLink "SongThatStays" (166 : Nat) ({ cls := "SongThatStays", name := "freeIn", desc := "(LSongThatStays$Office;I)I" } : Jvm.MethodName)) ∈ lw_all := lw_g (lw_at lw_m4 223 rfl) rfl
theorem q1038 : (Jvm.Cond.static ({ cls := "SongThatStays", name := "freeIn", desc := "(LSongThatStays$Office;I)I" } : Jvm.MethodName)) ∈ lw_all := lw_g (lw_at lw_m4 224 rfl) rfl
theorem q1039 : (Jvm.Cond.code ({ cls := "SongThatStays", name := "freeIn", desc := "(LSongThatStays$Office;I)I" } : Jvm.MethodName) prog_1_method_16_code (3 : Nat) (Option.some Jvm.ClassFile.FieldType.int)) ∈ lw_all := lw_g (lw_at lw_m4 225 rfl) rfl
theorem q1040 : (Jvm.Cond.methodLink "SongThatStays" (173 : Nat) ({ cls := "java/lang/Math", name := "min", desc := "(II)I" } : Jvm.MethodName)) ∈ lw_all := lw_g (lw_at lw_m4 226 rfl) rfl
theorem q1041 : (Jvm.Cond.methodLink "SongThatStays" (382 : Nat) ({ cls := "SongThatStays", name := "insteadTold", desc := "(I)I" } : Jvm.MethodName)) ∈ lw_all := lw_g (lw_at lw_m4 227 rfl) rfl
theorem q1042 : (Jvm.Cond.privateMethod ({ cls := "SongThatStays", name := "insteadTold", desc := "(I)I" } : Jvm.MethodName)) ∈ lw_tbl := lw_at lw_m4 228 rfl
theorem q1043 : (Jvm.Cond.instanceMethod ({ cls := "SongThatStays", name := "insteadTold", desc := "(I)I" } : Jvm.MethodName)) ∈ lw_all := lw_g (lw_at lw_m4 229 rfl) rfl
theorem q1044 : (Jvm.Cond.code ({ cls := "SongThatStays", name := "insteadTold", desc := "(I)I" } : Jvm.MethodName) prog_1_method_51_code (2 : Nat) (Option.some Jvm.ClassFile.FieldType.int)) ∈ lw_all := lw_g (lw_at lw_m4 230 rfl) rfl
theorem q1045 : (Jvm.Cond.methodLink "SongThatStays" (355 : Nat) ({ cls := "SongThatStays", name := "songInstead", desc := "(I)I" } : Jvm.MethodName)) ∈ lw_all := lw_g (lw_at lw_m4 231 rfl) rfl
theorem q1046 : (Jvm.Cond.privateMethod ({ cls := "SongThatStays", name := "songInstead", desc := "(I)I" } : Jvm.MethodName)) ∈ lw_tbl := lw_at lw_m4 232 rfl
theorem q1047 : (Jvm.Cond.instanceMethod ({ cls := "SongThatStays", name := "songInstead", desc := "(I)I" } : Jvm.MethodName)) ∈ lw_all := lw_g (lw_at lw_m4 233 rfl) rfl
theorem q1048 : (Jvm.Cond.code ({ cls := "SongThatStays", name := "songInstead", desc := "(I)I" } : Jvm.MethodName) prog_1_method_19_code (8 : Nat) (Option.some Jvm.ClassFile.FieldType.int)) ∈ lw_all := lw_g (lw_at lw_m4 234 rfl) rfl
theorem q1049 : (Jvm.Cond.methodLink "SongThatStays" (220 : Nat) ({ cls := "SongThatStays", name := "ofRest", desc := "(IIII)I" } : Jvm.MethodName)) ∈ lw_all := lw_g (lw_at lw_m4 235 rfl) rfl
theorem q1050 : (Jvm.Cond.privateMethod ({ cls := "SongThatStays", name := "ofRest", desc := "(IIII)I" } : Jvm.MethodName)) ∈ lw_tbl := lw_at lw_m4 236 rfl
theorem q1051 : (Jvm.Cond.instanceMethod ({ cls := "SongThatStays", name := "ofRest", desc := "(IIII)I" } : Jvm.MethodName)) ∈ lw_all := lw_g (lw_at lw_m4 237 rfl) rfl
theorem q1052 : (Jvm.Cond.code ({ cls := "SongThatStays", name := "ofRest", desc := "(IIII)I" } : Jvm.MethodName) prog_1_method_55_code (5 : Nat) (Option.some Jvm.ClassFile.FieldType.int)) ∈ lw_all := lw_g (lw_at lw_m4 238 rfl) rfl
theorem q1053 : (Jvm.Cond.methodLink "SongThatStays" (391 : Nat) ({ cls := "SongThatStays", name := "bestShut", desc := "(I)I" } : Jvm.MethodName)) ∈ lw_all := lw_g (lw_at lw_m4 239 rfl) rfl
theorem q1054 : (Jvm.Cond.privateMethod ({ cls := "SongThatStays", name := "bestShut", desc := "(I)I" } : Jvm.MethodName)) ∈ lw_tbl := lw_at lw_m5 0 rfl
theorem q1055 : (Jvm.Cond.instanceMethod ({ cls := "SongThatStays", name := "bestShut", desc := "(I)I" } : Jvm.MethodName)) ∈ lw_all := lw_g (lw_at lw_m5 1 rfl) rfl
theorem q1056 : (Jvm.Cond.code ({ cls := "SongThatStays", name := "bestShut", desc := "(I)I" } : Jvm.MethodName) prog_1_method_20_code (7 : Nat) (Option.some Jvm.ClassFile.FieldType.int)) ∈ lw_all := lw_g (lw_at lw_m5 2 rfl) rfl
theorem q1057 : (Jvm.Cond.methodLink "SongThatStays" (394 : Nat) ({ cls := "SongThatStays", name := "bestSeats", desc := "(I)I" } : Jvm.MethodName)) ∈ lw_all := lw_g (lw_at lw_m5 3 rfl) rfl
theorem q1058 : (Jvm.Cond.privateMethod ({ cls := "SongThatStays", name := "bestSeats", desc := "(I)I" } : Jvm.MethodName)) ∈ lw_tbl := lw_at lw_m5 4 rfl
theorem q1059 : (Jvm.Cond.instanceMethod ({ cls := "SongThatStays", name := "bestSeats", desc := "(I)I" } : Jvm.MethodName)) ∈ lw_all := lw_g (lw_at lw_m5 5 rfl) rfl
theorem q1060 : (Jvm.Cond.code ({ cls := "SongThatStays", name := "bestSeats", desc := "(I)I" } : Jvm.MethodName) prog_1_method_21_code (8 : Nat) (Option.some Jvm.ClassFile.FieldType.int)) ∈ lw_all := lw_g (lw_at lw_m5 6 rfl) rfl
theorem q1061 : (Jvm.Cond.methodLink "SongThatStays" (397 : Nat) ({ cls := "SongThatStays", name := "writeAsked", desc := "(III)I" } : Jvm.MethodName)) ∈ lw_all := lw_g (lw_at lw_m5 7 rfl) rfl
theorem q1062 : (Jvm.Cond.privateMethod ({ cls := "SongThatStays", name := "writeAsked", desc := "(III)I" } : Jvm.MethodName)) ∈ lw_tbl := lw_at lw_m5 8 rfl
theorem q1063 : (Jvm.Cond.instanceMethod ({ cls := "SongThatStays", name := "writeAsked", desc := "(III)I" } : Jvm.MethodName)) ∈ lw_all := lw_g (lw_at lw_m5 9 rfl) rfl
theorem q1064 : (Jvm.Cond.code ({ cls := "SongThatStays", name := "writeAsked", desc := "(III)I" } : Jvm.MethodName) prog_1_method_53_code (4 : Nat) (Option.some Jvm.ClassFile.FieldType.int)) ∈ lw_all := lw_g (lw_at lw_m5 10 rfl) rfl
theorem q1065 : (Jvm.Cond.methodLink "SongThatStays" (385 : Nat) ({ cls := "SongThatStays", name := "writeTold", desc := "(III)I" } : Jvm.MethodName)) ∈ lw_all := lw_g (lw_at lw_m5 11 rfl) rfl
theorem q1066 : (Jvm.Cond.privateMethod ({ cls := "SongThatStays", name := "writeTold", desc := "(III)I" } : Jvm.MethodName)) ∈ lw_tbl := lw_at lw_m5 12 rfl
theorem q1067 : (Jvm.Cond.instanceMethod ({ cls := "SongThatStays", name := "writeTold", desc := "(III)I" } : Jvm.MethodName)) ∈ lw_all := lw_g (lw_at lw_m5 13 rfl) rfl
theorem q1068 : (Jvm.Cond.code ({ cls := "SongThatStays", name := "writeTold", desc := "(III)I" } : Jvm.MethodName) prog_1_method_22_code (11 : Nat) (Option.some Jvm.ClassFile.FieldType.int)) ∈ lw_all := lw_g (lw_at lw_m5 14 rfl) rfl
theorem q1069 : (Jvm.Cond.methodLink "SongThatStays" (199 : Nat) ({ cls := "SongThatStays", name := "songOf", desc := "(III)LSongThatStays$Song;" } : Jvm.MethodName)) ∈ lw_all := lw_g (lw_at lw_m5 15 rfl) rfl
theorem q1070 : (Jvm.Cond.constantLong "SongThatStays" (400 : Nat) (9 : Int64)) ∈ lw_all := lw_g (lw_at lw_m5 16 rfl) rfl
theorem q1071 : (Jvm.Cond.methodLink "SongThatStays" (402 : Nat) ({ cls := "SongThatStays", name := "otherwiseAsked", desc := "(II)I" } : Jvm.MethodName)) ∈ lw_all := lw_g (lw_at lw_m5 17 rfl) rfl
theorem q1072 : (Jvm.Cond.privateMethod ({ cls := "SongThatStays", name := "otherwiseAsked", desc := "(II)I" } : Jvm.MethodName)) ∈ lw_tbl := lw_at lw_m5 18 rfl
theorem q1073 : (Jvm.Cond.instanceMethod ({ cls := "SongThatStays", name := "otherwiseAsked", desc := "(II)I" } : Jvm.MethodName)) ∈ lw_all := lw_g (lw_at lw_m5 19 rfl) rfl
theorem q1074 : (Jvm.Cond.code ({ cls := "SongThatStays", name := "otherwiseAsked", desc := "(II)I" } : Jvm.MethodName) prog_1_method_54_code (3 : Nat) (Option.some Jvm.ClassFile.FieldType.int)) ∈ lw_all := lw_g (lw_at lw_m5 20 rfl) rfl
theorem q1075 : (Jvm.Cond.methodLink "SongThatStays" (388 : Nat) ({ cls := "SongThatStays", name := "otherwiseTold", desc := "(II)I" } : Jvm.MethodName)) ∈ lw_all := lw_g (lw_at lw_m5 21 rfl) rfl
theorem q1076 : (Jvm.Cond.privateMethod ({ cls := "SongThatStays", name := "otherwiseTold", desc := "(II)I" } : Jvm.MethodName)) ∈ lw_tbl := lw_at lw_m5 22 rfl
theorem q1077 : (Jvm.Cond.instanceMethod ({ cls := "SongThatStays", name := "otherwiseTold", desc := "(II)I" } : Jvm.MethodName)) ∈ lw_all := lw_g (lw_at lw_m5 23 rfl) rfl
theorem q1078 : (Jvm.Cond.code ({ cls := "SongThatStays", name := "otherwiseTold", desc := "(II)I" } : Jvm.MethodName) prog_1_method_24_code (11 : Nat) (Option.some Jvm.ClassFile.FieldType.int)) ∈ lw_all := lw_g (lw_at lw_m5 24 rfl) rfl
theorem q1079 : (Jvm.Cond.methodLink "SongThatStays" (203 : Nat) ({ cls := "SongThatStays", name := "isAsTold", desc := "(LSongThatStays$Office;)Z" } : Jvm.MethodName)) ∈ lw_all := lw_g (lw_at lw_m5 25 rfl) rfl
theorem q1080 : (Jvm.Cond.privateMethod ({ cls := "SongThatStays", name := "isAsTold", desc := "(LSongThatStays$Office;)Z" } : Jvm.MethodName)) ∈ lw_tbl := lw_at lw_m5 26 rfl
theorem q1081 : (Jvm.Cond.instanceMethod ({ cls := "SongThatStays", name := "isAsTold", desc := "(LSongThatStays$Office;)Z" } : Jvm.MethodName)) ∈ lw_all := lw_g (lw_at lw_m5 27 rfl) rfl
theorem q1082 : (Jvm.Cond.code ({ cls := "SongThatStays", name := "isAsTold", desc := "(LSongThatStays$Office;)Z" } : Jvm.MethodName) prog_1_method_23_code (4 : Nat) (Option.some Jvm.ClassFile.FieldType.boolean)) ∈ lw_all := lw_g (lw_at lw_m5 28 rfl) rfl
theorem q1083 : (Jvm.Cond.methodLink "SongThatStays" (405 : Nat) ({ cls := "SongThatStays", name := "judgeRow", desc := "()I" } : Jvm.MethodName)) ∈ lw_all := lw_g (lw_at lw_m5 29 rfl) rfl
theorem q1084 : (Jvm.Cond.privateMethod ({ cls := "SongThatStays", name := "judgeRow", desc := "()I" } : Jvm.MethodName)) ∈ lw_tbl := lw_at lw_m5 30 rfl
theorem q1085 : (Jvm.Cond.instanceMethod ({ cls := "SongThatStays", name := "judgeRow", desc := "()I" } : Jvm.MethodName)) ∈ lw_all := lw_g (lw_at lw_m5 31 rfl) rfl
theorem q1086 : (Jvm.Cond.code ({ cls := "SongThatStays", name := "judgeRow", desc := "()I" } : Jvm.MethodName) prog_1_method_25_code (4 : Nat) (Option.some Jvm.ClassFile.FieldType.int)) ∈ lw_all := lw_g (lw_at lw_m5 32 rfl) rfl
theorem q1087 : (Jvm.Cond.methodLink "SongThatStays" (408 : Nat) ({ cls := "SongThatStays", name := "ofLast", desc := "(III)I" } : Jvm.MethodName)) ∈ lw_all := lw_g (lw_at lw_m5 33 rfl) rfl
theorem q1088 : (Jvm.Cond.privateMethod ({ cls := "SongThatStays", name := "ofLast", desc := "(III)I" } : Jvm.MethodName)) ∈ lw_tbl := lw_at lw_m5 34 rfl
theorem q1089 : (Jvm.Cond.instanceMethod ({ cls := "SongThatStays", name := "ofLast", desc := "(III)I" } : Jvm.MethodName)) ∈ lw_all := lw_g (lw_at lw_m5 35 rfl) rfl
theorem q1090 : (Jvm.Cond.code ({ cls := "SongThatStays", name := "ofLast", desc := "(III)I" } : Jvm.MethodName) prog_1_method_56_code (4 : Nat) (Option.some Jvm.ClassFile.FieldType.int)) ∈ lw_all := lw_g (lw_at lw_m5 36 rfl) rfl
theorem q1091 : (Jvm.Cond.constantLong "SongThatStays" (411 : Nat) (40 : Int64)) ∈ lw_all := lw_g (lw_at lw_m5 37 rfl) rfl
theorem q1092 : (Jvm.Cond.methodLink "SongThatStays" (413 : Nat) ({ cls := "SongThatStays", name := "bySeeds", desc := "(II)I" } : Jvm.MethodName)) ∈ lw_all := lw_g (lw_at lw_m5 38 rfl) rfl
theorem q1093 : (Jvm.Cond.privateMethod ({ cls := "SongThatStays", name := "bySeeds", desc := "(II)I" } : Jvm.MethodName)) ∈ lw_tbl := lw_at lw_m5 39 rfl
theorem q1094 : (Jvm.Cond.instanceMethod ({ cls := "SongThatStays", name := "bySeeds", desc := "(II)I" } : Jvm.MethodName)) ∈ lw_all := lw_g (lw_at lw_m5 40 rfl) rfl
theorem q1095 : (Jvm.Cond.code ({ cls := "SongThatStays", name := "bySeeds", desc := "(II)I" } : Jvm.MethodName) prog_1_method_26_code (7 : Nat) (Option.some Jvm.ClassFile.FieldType.int)) ∈ lw_all := lw_g (lw_at lw_m5 41 rfl) rfl
theorem q1096 : (Jvm.Cond.constant "SongThatStays" (209 : Nat) (1664525 : Int32)) ∈ lw_all := lw_g (lw_at lw_m5 42 rfl) rfl
theorem q1097 : (Jvm.Cond.constant "SongThatStays" (210 : Nat) (1013904223 : Int32)) ∈ lw_all := lw_g (lw_at lw_m5 43 rfl) rfl
theorem q1098 : (Jvm.Cond.constant "SongThatStays" (211 : Nat) (2147483647 : Int32)) ∈ lw_all := lw_g (lw_at lw_m5 44 rfl) rfl
theorem q1099 : (Jvm.Cond.methodLink "SongThatStays" (225 : Nat) ({ cls := "SongThatStays$Refusal", name := "number", desc := "()I" } : Jvm.MethodName)) ∈ lw_all := lw_g (lw_at lw_m5 45 rfl) rfl
theorem q1108 : (Jvm.Cond.methodLink "SongThatStays" (228 : Nat) ({ cls := "SongThatStays", name := "refuse", desc := "(I)I" } : Jvm.MethodName)) ∈ lw_all := lw_g (lw_at lw_m5 54 rfl) rfl
theorem q1109 : (Jvm.Cond.privateMethod ({ cls := "SongThatStays", name := "refuse", desc := "(I)I" } : Jvm.MethodName)) ∈ lw_tbl := lw_at lw_m5 55 rfl
theorem q1110 : (Jvm.Cond.instanceMethod ({ cls := "SongThatStays", name := "refuse", desc := "(I)I" } : Jvm.MethodName)) ∈ lw_all := lw_g (lw_at lw_m5 56 rfl) rfl
theorem q1111 : (Jvm.Cond.code ({ cls := "SongThatStays", name := "refuse", desc := "(I)I" } : Jvm.MethodName) prog_1_method_27_code (2 : Nat) (Option.some Jvm.ClassFile.FieldType.int)) ∈ lw_all := lw_g (lw_at lw_m5 57 rfl) rfl
theorem q1113 : (Jvm.Cond.instanceMethod ({ cls := "SongThatStays", name := "office", desc := "()I" } : Jvm.MethodName)) ∈ lw_all := lw_g (lw_at lw_m5 59 rfl) rfl
theorem q1114 : (Jvm.Cond.selects "SongThatStays" ({ cls := "SongThatStays", name := "office", desc := "()I" } : Jvm.MethodName) ({ cls := "SongThatStays", name := "office", desc := "()I" } : Jvm.MethodName)) ∈ lw_all := lw_g (lw_at lw_m5 60 rfl) rfl
theorem q1115 : (Jvm.Cond.code ({ cls := "SongThatStays", name := "office", desc := "()I" } : Jvm.MethodName) prog_1_method_59_code (1 : Nat) (Option.some Jvm.ClassFile.FieldType.int)) ∈ lw_all := lw_g (lw_at lw_m5 61 rfl) rfl
theorem q1117 : (Jvm.Cond.instanceMethod ({ cls := "SongThatStays", name := "song", desc := "(II)I" } : Jvm.MethodName)) ∈ lw_all := lw_g (lw_at lw_m5 63 rfl) rfl
theorem q1118 : (Jvm.Cond.selects "SongThatStays" ({ cls := "SongThatStays", name := "song", desc := "(II)I" } : Jvm.MethodName) ({ cls := "SongThatStays", name := "song", desc := "(II)I" } : Jvm.MethodName)) ∈ lw_all := lw_g (lw_at lw_m5 64 rfl) rfl
theorem q1119 : (Jvm.Cond.code ({ cls := "SongThatStays", name := "song", desc := "(II)I" } : Jvm.MethodName) prog_1_method_60_code (3 : Nat) (Option.some Jvm.ClassFile.FieldType.int)) ∈ lw_all := lw_g (lw_at lw_m5 65 rfl) rfl
theorem q1121 : (Jvm.Cond.instanceMethod ({ cls := "SongThatStays", name := "head", desc := "(II)I" } : Jvm.MethodName)) ∈ lw_all := lw_g (lw_at lw_m5 67 rfl) rfl
theorem q1122 : (Jvm.Cond.selects "SongThatStays" ({ cls := "SongThatStays", name := "head", desc := "(II)I" } : Jvm.MethodName) ({ cls := "SongThatStays", name := "head", desc := "(II)I" } : Jvm.MethodName)) ∈ lw_all := lw_g (lw_at lw_m5 68 rfl) rfl
theorem q1123 : (Jvm.Cond.code ({ cls := "SongThatStays", name := "head", desc := "(II)I" } : Jvm.MethodName) prog_1_method_61_code (3 : Nat) (Option.some Jvm.ClassFile.FieldType.int)) ∈ lw_all := lw_g (lw_at lw_m5 69 rfl) rfl
theorem q1125 : (Jvm.Cond.instanceMethod ({ cls := "SongThatStays", name := "near", desc := "(I)I" } : Jvm.MethodName)) ∈ lw_all := lw_g (lw_at lw_m5 71 rfl) rfl
theorem q1126 : (Jvm.Cond.selects "SongThatStays" ({ cls := "SongThatStays", name := "near", desc := "(I)I" } : Jvm.MethodName) ({ cls := "SongThatStays", name := "near", desc := "(I)I" } : Jvm.MethodName)) ∈ lw_all := lw_g (lw_at lw_m5 72 rfl) rfl
theorem q1127 : (Jvm.Cond.code ({ cls := "SongThatStays", name := "near", desc := "(I)I" } : Jvm.MethodName) prog_1_method_62_code (2 : Nat) (Option.some Jvm.ClassFile.FieldType.int)) ∈ lw_all := lw_g (lw_at lw_m5 73 rfl) rfl
theorem q1129 : (Jvm.Cond.instanceMethod ({ cls := "SongThatStays", name := "door", desc := "(I)I" } : Jvm.MethodName)) ∈ lw_all := lw_g (lw_at lw_m5 75 rfl) rfl
theorem q1130 : (Jvm.Cond.selects "SongThatStays" ({ cls := "SongThatStays", name := "door", desc := "(I)I" } : Jvm.MethodName) ({ cls := "SongThatStays", name := "door", desc := "(I)I" } : Jvm.MethodName)) ∈ lw_all := lw_g (lw_at lw_m5 76 rfl) rfl
theorem q1131 : (Jvm.Cond.code ({ cls := "SongThatStays", name := "door", desc := "(I)I" } : Jvm.MethodName) prog_1_method_63_code (2 : Nat) (Option.some Jvm.ClassFile.FieldType.int)) ∈ lw_all := lw_g (lw_at lw_m5 77 rfl) rfl
theorem q1133 : (Jvm.Cond.instanceMethod ({ cls := "SongThatStays", name := "go", desc := "(II)I" } : Jvm.MethodName)) ∈ lw_all := lw_g (lw_at lw_m5 79 rfl) rfl
theorem q1134 : (Jvm.Cond.selects "SongThatStays" ({ cls := "SongThatStays", name := "go", desc := "(II)I" } : Jvm.MethodName) ({ cls := "SongThatStays", name := "go", desc := "(II)I" } : Jvm.MethodName)) ∈ lw_all := lw_g (lw_at lw_m5 80 rfl) rfl
theorem q1135 : (Jvm.Cond.code ({ cls := "SongThatStays", name := "go", desc := "(II)I" } : Jvm.MethodName) prog_1_method_64_code (3 : Nat) (Option.some Jvm.ClassFile.FieldType.int)) ∈ lw_all := lw_g (lw_at lw_m5 81 rfl) rfl
theorem q1137 : (Jvm.Cond.instanceMethod ({ cls := "SongThatStays", name := "get", desc := "(II)I" } : Jvm.MethodName)) ∈ lw_all := lw_g (lw_at lw_m5 83 rfl) rfl
theorem q1138 : (Jvm.Cond.selects "SongThatStays" ({ cls := "SongThatStays", name := "get", desc := "(II)I" } : Jvm.MethodName) ({ cls := "SongThatStays", name := "get", desc := "(II)I" } : Jvm.MethodName)) ∈ lw_all := lw_g (lw_at lw_m5 84 rfl) rfl
theorem q1139 : (Jvm.Cond.code ({ cls := "SongThatStays", name := "get", desc := "(II)I" } : Jvm.MethodName) prog_1_method_65_code (3 : Nat) (Option.some Jvm.ClassFile.FieldType.int)) ∈ lw_all := lw_g (lw_at lw_m5 85 rfl) rfl
theorem q1141 : (Jvm.Cond.instanceMethod ({ cls := "SongThatStays", name := "remedy", desc := "(II)I" } : Jvm.MethodName)) ∈ lw_all := lw_g (lw_at lw_m5 87 rfl) rfl
theorem q1142 : (Jvm.Cond.selects "SongThatStays" ({ cls := "SongThatStays", name := "remedy", desc := "(II)I" } : Jvm.MethodName) ({ cls := "SongThatStays", name := "remedy", desc := "(II)I" } : Jvm.MethodName)) ∈ lw_all := lw_g (lw_at lw_m5 88 rfl) rfl
theorem q1143 : (Jvm.Cond.code ({ cls := "SongThatStays", name := "remedy", desc := "(II)I" } : Jvm.MethodName) prog_1_method_66_code (3 : Nat) (Option.some Jvm.ClassFile.FieldType.int)) ∈ lw_all := lw_g (lw_at lw_m5 89 rfl) rfl
theorem q1145 : (Jvm.Cond.instanceMethod ({ cls := "SongThatStays", name := "loud", desc := "(I)I" } : Jvm.MethodName)) ∈ lw_all := lw_g (lw_at lw_m5 91 rfl) rfl
theorem q1146 : (Jvm.Cond.selects "SongThatStays" ({ cls := "SongThatStays", name := "loud", desc := "(I)I" } : Jvm.MethodName) ({ cls := "SongThatStays", name := "loud", desc := "(I)I" } : Jvm.MethodName)) ∈ lw_all := lw_g (lw_at lw_m5 92 rfl) rfl
theorem q1147 : (Jvm.Cond.code ({ cls := "SongThatStays", name := "loud", desc := "(I)I" } : Jvm.MethodName) prog_1_method_67_code (2 : Nat) (Option.some Jvm.ClassFile.FieldType.int)) ∈ lw_all := lw_g (lw_at lw_m5 93 rfl) rfl
theorem q1149 : (Jvm.Cond.instanceMethod ({ cls := "SongThatStays", name := "hour", desc := "()I" } : Jvm.MethodName)) ∈ lw_all := lw_g (lw_at lw_m5 95 rfl) rfl
theorem q1150 : (Jvm.Cond.selects "SongThatStays" ({ cls := "SongThatStays", name := "hour", desc := "()I" } : Jvm.MethodName) ({ cls := "SongThatStays", name := "hour", desc := "()I" } : Jvm.MethodName)) ∈ lw_all := lw_g (lw_at lw_m5 96 rfl) rfl
theorem q1151 : (Jvm.Cond.code ({ cls := "SongThatStays", name := "hour", desc := "()I" } : Jvm.MethodName) prog_1_method_68_code (1 : Nat) (Option.some Jvm.ClassFile.FieldType.int)) ∈ lw_all := lw_g (lw_at lw_m5 97 rfl) rfl
theorem q1153 : (Jvm.Cond.instanceMethod ({ cls := "SongThatStays", name := "hold", desc := "(III)I" } : Jvm.MethodName)) ∈ lw_all := lw_g (lw_at lw_m5 99 rfl) rfl
theorem q1154 : (Jvm.Cond.selects "SongThatStays" ({ cls := "SongThatStays", name := "hold", desc := "(III)I" } : Jvm.MethodName) ({ cls := "SongThatStays", name := "hold", desc := "(III)I" } : Jvm.MethodName)) ∈ lw_all := lw_g (lw_at lw_m5 100 rfl) rfl
theorem q1155 : (Jvm.Cond.code ({ cls := "SongThatStays", name := "hold", desc := "(III)I" } : Jvm.MethodName) prog_1_method_69_code (4 : Nat) (Option.some Jvm.ClassFile.FieldType.int)) ∈ lw_all := lw_g (lw_at lw_m5 101 rfl) rfl
theorem q1157 : (Jvm.Cond.instanceMethod ({ cls := "SongThatStays", name := "have", desc := "(II)I" } : Jvm.MethodName)) ∈ lw_all := lw_g (lw_at lw_m5 103 rfl) rfl
theorem q1158 : (Jvm.Cond.selects "SongThatStays" ({ cls := "SongThatStays", name := "have", desc := "(II)I" } : Jvm.MethodName) ({ cls := "SongThatStays", name := "have", desc := "(II)I" } : Jvm.MethodName)) ∈ lw_all := lw_g (lw_at lw_m5 104 rfl) rfl
theorem q1159 : (Jvm.Cond.code ({ cls := "SongThatStays", name := "have", desc := "(II)I" } : Jvm.MethodName) prog_1_method_70_code (3 : Nat) (Option.some Jvm.ClassFile.FieldType.int)) ∈ lw_all := lw_g (lw_at lw_m5 105 rfl) rfl
theorem q1161 : (Jvm.Cond.instanceMethod ({ cls := "SongThatStays", name := "takes", desc := "(II)I" } : Jvm.MethodName)) ∈ lw_all := lw_g (lw_at lw_m5 107 rfl) rfl
theorem q1162 : (Jvm.Cond.selects "SongThatStays" ({ cls := "SongThatStays", name := "takes", desc := "(II)I" } : Jvm.MethodName) ({ cls := "SongThatStays", name := "takes", desc := "(II)I" } : Jvm.MethodName)) ∈ lw_all := lw_g (lw_at lw_m5 108 rfl) rfl
theorem q1163 : (Jvm.Cond.code ({ cls := "SongThatStays", name := "takes", desc := "(II)I" } : Jvm.MethodName) prog_1_method_71_code (3 : Nat) (Option.some Jvm.ClassFile.FieldType.int)) ∈ lw_all := lw_g (lw_at lw_m5 109 rfl) rfl
theorem q1165 : (Jvm.Cond.instanceMethod ({ cls := "SongThatStays", name := "still", desc := "()I" } : Jvm.MethodName)) ∈ lw_all := lw_g (lw_at lw_m5 111 rfl) rfl
theorem q1166 : (Jvm.Cond.selects "SongThatStays" ({ cls := "SongThatStays", name := "still", desc := "()I" } : Jvm.MethodName) ({ cls := "SongThatStays", name := "still", desc := "()I" } : Jvm.MethodName)) ∈ lw_all := lw_g (lw_at lw_m5 112 rfl) rfl
theorem q1167 : (Jvm.Cond.code ({ cls := "SongThatStays", name := "still", desc := "()I" } : Jvm.MethodName) prog_1_method_72_code (1 : Nat) (Option.some Jvm.ClassFile.FieldType.int)) ∈ lw_all := lw_g (lw_at lw_m5 113 rfl) rfl
theorem q1169 : (Jvm.Cond.instanceMethod ({ cls := "SongThatStays", name := "most", desc := "(III)I" } : Jvm.MethodName)) ∈ lw_all := lw_g (lw_at lw_m5 115 rfl) rfl
theorem q1170 : (Jvm.Cond.selects "SongThatStays" ({ cls := "SongThatStays", name := "most", desc := "(III)I" } : Jvm.MethodName) ({ cls := "SongThatStays", name := "most", desc := "(III)I" } : Jvm.MethodName)) ∈ lw_all := lw_g (lw_at lw_m5 116 rfl) rfl
theorem q1171 : (Jvm.Cond.code ({ cls := "SongThatStays", name := "most", desc := "(III)I" } : Jvm.MethodName) prog_1_method_73_code (4 : Nat) (Option.some Jvm.ClassFile.FieldType.int)) ∈ lw_all := lw_g (lw_at lw_m5 117 rfl) rfl
theorem q1173 : (Jvm.Cond.instanceMethod ({ cls := "SongThatStays", name := "lasts", desc := "(I)I" } : Jvm.MethodName)) ∈ lw_all := lw_g (lw_at lw_m5 119 rfl) rfl
theorem q1174 : (Jvm.Cond.selects "SongThatStays" ({ cls := "SongThatStays", name := "lasts", desc := "(I)I" } : Jvm.MethodName) ({ cls := "SongThatStays", name := "lasts", desc := "(I)I" } : Jvm.MethodName)) ∈ lw_all := lw_g (lw_at lw_m5 120 rfl) rfl
theorem q1175 : (Jvm.Cond.code ({ cls := "SongThatStays", name := "lasts", desc := "(I)I" } : Jvm.MethodName) prog_1_method_74_code (2 : Nat) (Option.some Jvm.ClassFile.FieldType.int)) ∈ lw_all := lw_g (lw_at lw_m5 121 rfl) rfl
theorem q1177 : (Jvm.Cond.instanceMethod ({ cls := "SongThatStays", name := "from", desc := "(II)I" } : Jvm.MethodName)) ∈ lw_all := lw_g (lw_at lw_m5 123 rfl) rfl
theorem q1178 : (Jvm.Cond.selects "SongThatStays" ({ cls := "SongThatStays", name := "from", desc := "(II)I" } : Jvm.MethodName) ({ cls := "SongThatStays", name := "from", desc := "(II)I" } : Jvm.MethodName)) ∈ lw_all := lw_g (lw_at lw_m5 124 rfl) rfl
theorem q1179 : (Jvm.Cond.code ({ cls := "SongThatStays", name := "from", desc := "(II)I" } : Jvm.MethodName) prog_1_method_75_code (3 : Nat) (Option.some Jvm.ClassFile.FieldType.int)) ∈ lw_all := lw_g (lw_at lw_m5 125 rfl) rfl
theorem q1181 : (Jvm.Cond.instanceMethod ({ cls := "SongThatStays", name := "first", desc := "(II)I" } : Jvm.MethodName)) ∈ lw_all := lw_g (lw_at lw_m5 127 rfl) rfl
theorem q1182 : (Jvm.Cond.selects "SongThatStays" ({ cls := "SongThatStays", name := "first", desc := "(II)I" } : Jvm.MethodName) ({ cls := "SongThatStays", name := "first", desc := "(II)I" } : Jvm.MethodName)) ∈ lw_all := lw_g (lw_at lw_m5 128 rfl) rfl
theorem q1183 : (Jvm.Cond.code ({ cls := "SongThatStays", name := "first", desc := "(II)I" } : Jvm.MethodName) prog_1_method_76_code (3 : Nat) (Option.some Jvm.ClassFile.FieldType.int)) ∈ lw_all := lw_g (lw_at lw_m5 129 rfl) rfl
theorem q1185 : (Jvm.Cond.instanceMethod ({ cls := "SongThatStays", name := "rid", desc := "(II)I" } : Jvm.MethodName)) ∈ lw_all := lw_g (lw_at lw_m5 131 rfl) rfl
theorem q1186 : (Jvm.Cond.selects "SongThatStays" ({ cls := "SongThatStays", name := "rid", desc := "(II)I" } : Jvm.MethodName) ({ cls := "SongThatStays", name := "rid", desc := "(II)I" } : Jvm.MethodName)) ∈ lw_all := lw_g (lw_at lw_m5 132 rfl) rfl
theorem q1187 : (Jvm.Cond.code ({ cls := "SongThatStays", name := "rid", desc := "(II)I" } : Jvm.MethodName) prog_1_method_77_code (3 : Nat) (Option.some Jvm.ClassFile.FieldType.int)) ∈ lw_all := lw_g (lw_at lw_m5 133 rfl) rfl
theorem q1189 : (Jvm.Cond.instanceMethod ({ cls := "SongThatStays", name := "instead", desc := "(I)I" } : Jvm.MethodName)) ∈ lw_all := lw_g (lw_at lw_m5 135 rfl) rfl
theorem q1190 : (Jvm.Cond.selects "SongThatStays" ({ cls := "SongThatStays", name := "instead", desc := "(I)I" } : Jvm.MethodName) ({ cls := "SongThatStays", name := "instead", desc := "(I)I" } : Jvm.MethodName)) ∈ lw_all := lw_g (lw_at lw_m5 136 rfl) rfl
theorem q1191 : (Jvm.Cond.code ({ cls := "SongThatStays", name := "instead", desc := "(I)I" } : Jvm.MethodName) prog_1_method_78_code (2 : Nat) (Option.some Jvm.ClassFile.FieldType.int)) ∈ lw_all := lw_g (lw_at lw_m5 137 rfl) rfl
theorem q1193 : (Jvm.Cond.instanceMethod ({ cls := "SongThatStays", name := "shut", desc := "(I)I" } : Jvm.MethodName)) ∈ lw_all := lw_g (lw_at lw_m5 139 rfl) rfl
theorem q1194 : (Jvm.Cond.selects "SongThatStays" ({ cls := "SongThatStays", name := "shut", desc := "(I)I" } : Jvm.MethodName) ({ cls := "SongThatStays", name := "shut", desc := "(I)I" } : Jvm.MethodName)) ∈ lw_all := lw_g (lw_at lw_m5 140 rfl) rfl
theorem q1195 : (Jvm.Cond.code ({ cls := "SongThatStays", name := "shut", desc := "(I)I" } : Jvm.MethodName) prog_1_method_79_code (2 : Nat) (Option.some Jvm.ClassFile.FieldType.int)) ∈ lw_all := lw_g (lw_at lw_m5 141 rfl) rfl
theorem q1197 : (Jvm.Cond.instanceMethod ({ cls := "SongThatStays", name := "seats", desc := "(I)I" } : Jvm.MethodName)) ∈ lw_all := lw_g (lw_at lw_m5 143 rfl) rfl
theorem q1198 : (Jvm.Cond.selects "SongThatStays" ({ cls := "SongThatStays", name := "seats", desc := "(I)I" } : Jvm.MethodName) ({ cls := "SongThatStays", name := "seats", desc := "(I)I" } : Jvm.MethodName)) ∈ lw_all := lw_g (lw_at lw_m5 144 rfl) rfl
theorem q1199 : (Jvm.Cond.code ({ cls := "SongThatStays", name := "seats", desc := "(I)I" } : Jvm.MethodName) prog_1_method_80_code (2 : Nat) (Option.some Jvm.ClassFile.FieldType.int)) ∈ lw_all := lw_g (lw_at lw_m5 145 rfl) rfl
theorem q1201 : (Jvm.Cond.instanceMethod ({ cls := "SongThatStays", name := "write", desc := "(III)I" } : Jvm.MethodName)) ∈ lw_all := lw_g (lw_at lw_m5 147 rfl) rfl
theorem q1202 : (Jvm.Cond.selects "SongThatStays" ({ cls := "SongThatStays", name := "write", desc := "(III)I" } : Jvm.MethodName) ({ cls := "SongThatStays", name := "write", desc := "(III)I" } : Jvm.MethodName)) ∈ lw_all := lw_g (lw_at lw_m5 148 rfl) rfl
theorem q1203 : (Jvm.Cond.code ({ cls := "SongThatStays", name := "write", desc := "(III)I" } : Jvm.MethodName) prog_1_method_81_code (4 : Nat) (Option.some Jvm.ClassFile.FieldType.int)) ∈ lw_all := lw_g (lw_at lw_m5 149 rfl) rfl
theorem q1205 : (Jvm.Cond.instanceMethod ({ cls := "SongThatStays", name := "row", desc := "(I)I" } : Jvm.MethodName)) ∈ lw_all := lw_g (lw_at lw_m5 151 rfl) rfl
theorem q1206 : (Jvm.Cond.selects "SongThatStays" ({ cls := "SongThatStays", name := "row", desc := "(I)I" } : Jvm.MethodName) ({ cls := "SongThatStays", name := "row", desc := "(I)I" } : Jvm.MethodName)) ∈ lw_all := lw_g (lw_at lw_m5 152 rfl) rfl
theorem q1207 : (Jvm.Cond.code ({ cls := "SongThatStays", name := "row", desc := "(I)I" } : Jvm.MethodName) prog_1_method_82_code (2 : Nat) (Option.some Jvm.ClassFile.FieldType.int)) ∈ lw_all := lw_g (lw_at lw_m5 153 rfl) rfl
theorem q1209 : (Jvm.Cond.instanceMethod ({ cls := "SongThatStays", name := "otherwise", desc := "(II)I" } : Jvm.MethodName)) ∈ lw_all := lw_g (lw_at lw_m5 155 rfl) rfl
theorem q1210 : (Jvm.Cond.selects "SongThatStays" ({ cls := "SongThatStays", name := "otherwise", desc := "(II)I" } : Jvm.MethodName) ({ cls := "SongThatStays", name := "otherwise", desc := "(II)I" } : Jvm.MethodName)) ∈ lw_all := lw_g (lw_at lw_m5 156 rfl) rfl
theorem q1211 : (Jvm.Cond.code ({ cls := "SongThatStays", name := "otherwise", desc := "(II)I" } : Jvm.MethodName) prog_1_method_83_code (3 : Nat) (Option.some Jvm.ClassFile.FieldType.int)) ∈ lw_all := lw_g (lw_at lw_m5 157 rfl) rfl
theorem q1213 : (Jvm.Cond.instanceMethod ({ cls := "SongThatStays", name := "judge", desc := "()I" } : Jvm.MethodName)) ∈ lw_all := lw_g (lw_at lw_m5 159 rfl) rfl
theorem q1214 : (Jvm.Cond.selects "SongThatStays" ({ cls := "SongThatStays", name := "judge", desc := "()I" } : Jvm.MethodName) ({ cls := "SongThatStays", name := "judge", desc := "()I" } : Jvm.MethodName)) ∈ lw_all := lw_g (lw_at lw_m5 160 rfl) rfl
theorem q1215 : (Jvm.Cond.code ({ cls := "SongThatStays", name := "judge", desc := "()I" } : Jvm.MethodName) prog_1_method_84_code (1 : Nat) (Option.some Jvm.ClassFile.FieldType.int)) ∈ lw_all := lw_g (lw_at lw_m5 161 rfl) rfl
theorem q1217 : (Jvm.Cond.instanceMethod ({ cls := "SongThatStays", name := "seeds", desc := "(II)I" } : Jvm.MethodName)) ∈ lw_all := lw_g (lw_at lw_m5 163 rfl) rfl
theorem q1218 : (Jvm.Cond.selects "SongThatStays" ({ cls := "SongThatStays", name := "seeds", desc := "(II)I" } : Jvm.MethodName) ({ cls := "SongThatStays", name := "seeds", desc := "(II)I" } : Jvm.MethodName)) ∈ lw_all := lw_g (lw_at lw_m5 164 rfl) rfl
theorem q1219 : (Jvm.Cond.code ({ cls := "SongThatStays", name := "seeds", desc := "(II)I" } : Jvm.MethodName) prog_1_method_85_code (3 : Nat) (Option.some Jvm.ClassFile.FieldType.int)) ∈ lw_all := lw_g (lw_at lw_m5 165 rfl) rfl
theorem q1221 : (Jvm.Cond.instanceMethod ({ cls := "SongThatStays", name := "image", desc := "()I" } : Jvm.MethodName)) ∈ lw_all := lw_g (lw_at lw_m5 167 rfl) rfl
theorem q1222 : (Jvm.Cond.selects "SongThatStays" ({ cls := "SongThatStays", name := "image", desc := "()I" } : Jvm.MethodName) ({ cls := "SongThatStays", name := "image", desc := "()I" } : Jvm.MethodName)) ∈ lw_all := lw_g (lw_at lw_m5 168 rfl) rfl
theorem q1223 : (Jvm.Cond.code ({ cls := "SongThatStays", name := "image", desc := "()I" } : Jvm.MethodName) prog_1_method_86_code (1 : Nat) (Option.some Jvm.ClassFile.FieldType.int)) ∈ lw_all := lw_g (lw_at lw_m5 169 rfl) rfl
theorem q1225 : (Jvm.Cond.instanceMethod ({ cls := "SongThatStays", name := "on", desc := "()I" } : Jvm.MethodName)) ∈ lw_all := lw_g (lw_at lw_m5 171 rfl) rfl
theorem q1226 : (Jvm.Cond.selects "SongThatStays" ({ cls := "SongThatStays", name := "on", desc := "()I" } : Jvm.MethodName) ({ cls := "SongThatStays", name := "on", desc := "()I" } : Jvm.MethodName)) ∈ lw_all := lw_g (lw_at lw_m5 172 rfl) rfl
theorem q1227 : (Jvm.Cond.code ({ cls := "SongThatStays", name := "on", desc := "()I" } : Jvm.MethodName) prog_1_method_87_code (1 : Nat) (Option.some Jvm.ClassFile.FieldType.int)) ∈ lw_all := lw_g (lw_at lw_m5 173 rfl) rfl
theorem q1229 : (Jvm.Cond.instanceMethod ({ cls := "SongThatStays", name := "count", desc := "(I)I" } : Jvm.MethodName)) ∈ lw_all := lw_g (lw_at lw_m5 175 rfl) rfl
theorem q1230 : (Jvm.Cond.selects "SongThatStays" ({ cls := "SongThatStays", name := "count", desc := "(I)I" } : Jvm.MethodName) ({ cls := "SongThatStays", name := "count", desc := "(I)I" } : Jvm.MethodName)) ∈ lw_all := lw_g (lw_at lw_m5 176 rfl) rfl
theorem q1231 : (Jvm.Cond.code ({ cls := "SongThatStays", name := "count", desc := "(I)I" } : Jvm.MethodName) prog_1_method_88_code (2 : Nat) (Option.some Jvm.ClassFile.FieldType.int)) ∈ lw_all := lw_g (lw_at lw_m5 177 rfl) rfl
theorem q1232 : (Jvm.Cond.methodLink "SongThatStays" (423 : Nat) ({ cls := "SongThatStays", name := "ones", desc := "(I)I" } : Jvm.MethodName)) ∈ lw_all := lw_g (lw_at lw_m5 178 rfl) rfl
theorem q1233 : (Jvm.Cond.static ({ cls := "SongThatStays", name := "ones", desc := "(I)I" } : Jvm.MethodName)) ∈ lw_all := lw_g (lw_at lw_m5 179 rfl) rfl
theorem q1234 : (Jvm.Cond.code ({ cls := "SongThatStays", name := "ones", desc := "(I)I" } : Jvm.MethodName) prog_1_method_6_code (3 : Nat) (Option.some Jvm.ClassFile.FieldType.int)) ∈ lw_all := lw_g (lw_at lw_m5 180 rfl) rfl
theorem q1235 : (Jvm.Cond.methodLink "SongThatStays" (426 : Nat) ({ cls := "SongThatStays", name := "strengthOfAll", desc := "()I" } : Jvm.MethodName)) ∈ lw_all := lw_g (lw_at lw_m5 181 rfl) rfl
theorem q1236 : (Jvm.Cond.privateMethod ({ cls := "SongThatStays", name := "strengthOfAll", desc := "()I" } : Jvm.MethodName)) ∈ lw_tbl := lw_at lw_m5 182 rfl
theorem q1237 : (Jvm.Cond.instanceMethod ({ cls := "SongThatStays", name := "strengthOfAll", desc := "()I" } : Jvm.MethodName)) ∈ lw_all := lw_g (lw_at lw_m5 183 rfl) rfl
theorem q1238 : (Jvm.Cond.code ({ cls := "SongThatStays", name := "strengthOfAll", desc := "()I" } : Jvm.MethodName) prog_1_method_57_code (3 : Nat) (Option.some Jvm.ClassFile.FieldType.int)) ∈ lw_all := lw_g (lw_at lw_m5 184 rfl) rfl
theorem q1239 : (Jvm.Cond.constantLong "SongThatStays" (429 : Nat) (11 : Int64)) ∈ lw_all := lw_g (lw_at lw_m5 185 rfl) rfl
theorem q1240 : (Jvm.Cond.constantLong "SongThatStays" (431 : Nat) (16 : Int64)) ∈ lw_all := lw_g (lw_at lw_m5 186 rfl) rfl
theorem in_X0 : ∀ w ∈ wsX00, w ∈ lw_all := lw_in wsX00 [295, 297, 299, 301, 303, 305, 307, 309, 311, 313] (by decide +kernel) (by decide +kernel)
