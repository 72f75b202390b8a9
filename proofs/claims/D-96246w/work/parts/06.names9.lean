/-! SongThatStaysModel -/
set_option maxRecDepth 100000
def RX9 : String := "SongThatStaysModel"
def TX9 : u_T := fun k => match k with
  | 0 => ("SongThatStaysModel", "refusals", "[I", true)
  | 1 => ("SongThatStaysModel", "s", "[I", true)
  | 2 => ("SongThatStaysModel", "image", "[I", true)
  | 3 => ("SongThatStaysModel", "read", "[I", true)
  | 4 => ("SongThatStaysModel", "mind", "[I", true)
  | 5 => ("SongThatStaysModel", "isImage", "Z", false)
  | 6 => ("SongThatStaysModel", "heard", "[I", true)
  | 7 => ("SongThatStaysModel", "by", "[I", true)
  | 8 => ("SongThatStaysModel", "from", "[I", true)
  | 9 => ("SongThatStaysModel", "origin", "[I", true)
  | 10 => ("SongThatStaysModel", "kept", "[I", true)
  | 11 => ("SongThatStaysModel", "tape", "[I", true)
  | 12 => ("SongThatStaysModel", "told", "[I", true)
  | 13 => ("SongThatStaysModel", "taped", "I", false)
  | 14 => ("SongThatStaysModel", "place", "I", false)
  | 15 => ("SongThatStaysModel", "row", "[I", true)
  | _ => ("SongThatStaysModel", "rowed", "I", false)
def tyX9 : Nat → FieldType := fun k => match k with
  | 0 => .array .int
  | 1 => .array .int
  | 2 => .array .int
  | 3 => .array .int
  | 4 => .array .int
  | 5 => .boolean
  | 6 => .array .int
  | 7 => .array .int
  | 8 => .array .int
  | 9 => .array .int
  | 10 => .array .int
  | 11 => .array .int
  | 12 => .array .int
  | 13 => .int
  | 14 => .int
  | 15 => .array .int
  | _ => .int
abbrev wsX90 : List Cond := u_ws RX9 TX9 17
set_option maxRecDepth 100000 in
theorem nmX9 : ∀ a, a < 17 → ∀ b, b < 17 → a ≠ b → (TX9 a).2.1 ≠ (TX9 b).2.1 := by decide +kernel
set_option maxRecDepth 100000 in
theorem tyX9_ok : ∀ k, k < 17 → parseFieldDescriptor (TX9 k).2.2.1 = some (tyX9 k) := by decide +kernel
abbrev cX9_init : ByteArray := prog_28_method_1_code
def yX9_init : MethodName := ⟨RX9, "<init>", "()V"⟩
def dkwX9_init_4 : List UInt8 := [188, 10, 181, 0, 43, 42, 16, 6, 188, 10, 181, 0, 46, 42, 180, 0, 13, 8, 16, 6, 79, 177]
abbrev dktX9_init_4 : List UInt8 := dkwX9_init_4 ++ []
def dkwX9_init_3 : List UInt8 := [188, 10, 181, 0, 34, 42, 16, 6, 188, 10, 181, 0, 37, 42, 16, 96, 188, 10, 181, 0, 40, 42, 6]
abbrev dktX9_init_3 : List UInt8 := dkwX9_init_3 ++ dktX9_init_4
def dkwX9_init_2 : List UInt8 := [188, 10, 181, 0, 25, 42, 16, 6, 188, 10, 181, 0, 28, 42, 16, 6, 188, 10, 181, 0, 31, 42, 16, 6]
abbrev dktX9_init_2 : List UInt8 := dkwX9_init_2 ++ dktX9_init_3
def dkwX9_init_1 : List UInt8 := [188, 10, 181, 0, 16, 42, 16, 73, 188, 10, 181, 0, 19, 42, 16, 73, 188, 10, 181, 0, 22, 42, 16, 6]
abbrev dktX9_init_1 : List UInt8 := dkwX9_init_1 ++ dktX9_init_2
def dkwX9_init_0 : List UInt8 := [42, 183, 0, 1, 42, 16, 7, 188, 10, 181, 0, 7, 42, 16, 73, 188, 10, 181, 0, 13, 42, 16, 73]
abbrev dktX9_init_0 : List UInt8 := dkwX9_init_0 ++ dktX9_init_1
theorem dksX9_init_0 : cX9_init.data.toList.drop 0 = dktX9_init_0 := by decide +kernel
theorem dksX9_init_1 : cX9_init.data.toList.drop 23 = dktX9_init_1 := dk_seg dksX9_init_0 23 rfl rfl
theorem dksX9_init_2 : cX9_init.data.toList.drop 47 = dktX9_init_2 := dk_seg dksX9_init_1 24 rfl rfl
theorem dksX9_init_3 : cX9_init.data.toList.drop 71 = dktX9_init_3 := dk_seg dksX9_init_2 24 rfl rfl
theorem dksX9_init_4 : cX9_init.data.toList.drop 94 = dktX9_init_4 := dk_seg dksX9_init_3 23 rfl rfl
theorem dX9_init_0 : decode cX9_init 0 = .ok (.aload_n 0, 1) := dk_42 (dk_at dksX9_init_0 0 rfl rfl)
theorem dX9_init_1 : decode cX9_init 1 = .ok (.invokespecial 1, 3) := dk_183 0 1 (dk_at dksX9_init_0 1 rfl rfl)
theorem dX9_init_4 : decode cX9_init 4 = .ok (.aload_n 0, 1) := dk_42 (dk_at dksX9_init_0 4 rfl rfl)
theorem dX9_init_5 : decode cX9_init 5 = .ok (.bipush 7, 2) := dk_16 7 (dk_at dksX9_init_0 5 rfl rfl)
theorem dX9_init_7 : decode cX9_init 7 = .ok (.newarray .int, 2) := dk_188_10 (dk_at dksX9_init_0 7 rfl rfl)
theorem dX9_init_9 : decode cX9_init 9 = .ok (.putfield 7, 3) := dk_181 0 7 (dk_at dksX9_init_0 9 rfl rfl)
theorem dX9_init_12 : decode cX9_init 12 = .ok (.aload_n 0, 1) := dk_42 (dk_at dksX9_init_0 12 rfl rfl)
theorem dX9_init_13 : decode cX9_init 13 = .ok (.bipush 73, 2) := dk_16 73 (dk_at dksX9_init_0 13 rfl rfl)
theorem dX9_init_15 : decode cX9_init 15 = .ok (.newarray .int, 2) := dk_188_10 (dk_at dksX9_init_0 15 rfl rfl)
theorem dX9_init_17 : decode cX9_init 17 = .ok (.putfield 13, 3) := dk_181 0 13 (dk_at dksX9_init_0 17 rfl rfl)
theorem dX9_init_20 : decode cX9_init 20 = .ok (.aload_n 0, 1) := dk_42 (dk_at dksX9_init_0 20 rfl rfl)
theorem dX9_init_21 : decode cX9_init 21 = .ok (.bipush 73, 2) := dk_16 73 (dk_at dksX9_init_0 21 rfl rfl)
theorem dX9_init_23 : decode cX9_init 23 = .ok (.newarray .int, 2) := dk_188_10 (dk_at dksX9_init_1 0 rfl rfl)
theorem dX9_init_25 : decode cX9_init 25 = .ok (.putfield 16, 3) := dk_181 0 16 (dk_at dksX9_init_1 2 rfl rfl)
theorem dX9_init_28 : decode cX9_init 28 = .ok (.aload_n 0, 1) := dk_42 (dk_at dksX9_init_1 5 rfl rfl)
theorem dX9_init_29 : decode cX9_init 29 = .ok (.bipush 73, 2) := dk_16 73 (dk_at dksX9_init_1 6 rfl rfl)
theorem dX9_init_31 : decode cX9_init 31 = .ok (.newarray .int, 2) := dk_188_10 (dk_at dksX9_init_1 8 rfl rfl)
theorem dX9_init_33 : decode cX9_init 33 = .ok (.putfield 19, 3) := dk_181 0 19 (dk_at dksX9_init_1 10 rfl rfl)
theorem dX9_init_36 : decode cX9_init 36 = .ok (.aload_n 0, 1) := dk_42 (dk_at dksX9_init_1 13 rfl rfl)
theorem dX9_init_37 : decode cX9_init 37 = .ok (.bipush 73, 2) := dk_16 73 (dk_at dksX9_init_1 14 rfl rfl)
theorem dX9_init_39 : decode cX9_init 39 = .ok (.newarray .int, 2) := dk_188_10 (dk_at dksX9_init_1 16 rfl rfl)
theorem dX9_init_41 : decode cX9_init 41 = .ok (.putfield 22, 3) := dk_181 0 22 (dk_at dksX9_init_1 18 rfl rfl)
theorem dX9_init_44 : decode cX9_init 44 = .ok (.aload_n 0, 1) := dk_42 (dk_at dksX9_init_1 21 rfl rfl)
theorem dX9_init_45 : decode cX9_init 45 = .ok (.bipush 6, 2) := dk_16 6 (dk_at dksX9_init_1 22 rfl rfl)
theorem dX9_init_47 : decode cX9_init 47 = .ok (.newarray .int, 2) := dk_188_10 (dk_at dksX9_init_2 0 rfl rfl)
theorem dX9_init_49 : decode cX9_init 49 = .ok (.putfield 25, 3) := dk_181 0 25 (dk_at dksX9_init_2 2 rfl rfl)
theorem dX9_init_52 : decode cX9_init 52 = .ok (.aload_n 0, 1) := dk_42 (dk_at dksX9_init_2 5 rfl rfl)
theorem dX9_init_53 : decode cX9_init 53 = .ok (.bipush 6, 2) := dk_16 6 (dk_at dksX9_init_2 6 rfl rfl)
theorem dX9_init_55 : decode cX9_init 55 = .ok (.newarray .int, 2) := dk_188_10 (dk_at dksX9_init_2 8 rfl rfl)
theorem dX9_init_57 : decode cX9_init 57 = .ok (.putfield 28, 3) := dk_181 0 28 (dk_at dksX9_init_2 10 rfl rfl)
theorem dX9_init_60 : decode cX9_init 60 = .ok (.aload_n 0, 1) := dk_42 (dk_at dksX9_init_2 13 rfl rfl)
theorem dX9_init_61 : decode cX9_init 61 = .ok (.bipush 6, 2) := dk_16 6 (dk_at dksX9_init_2 14 rfl rfl)
theorem dX9_init_63 : decode cX9_init 63 = .ok (.newarray .int, 2) := dk_188_10 (dk_at dksX9_init_2 16 rfl rfl)
theorem dX9_init_65 : decode cX9_init 65 = .ok (.putfield 31, 3) := dk_181 0 31 (dk_at dksX9_init_2 18 rfl rfl)
theorem dX9_init_68 : decode cX9_init 68 = .ok (.aload_n 0, 1) := dk_42 (dk_at dksX9_init_2 21 rfl rfl)
theorem dX9_init_69 : decode cX9_init 69 = .ok (.bipush 6, 2) := dk_16 6 (dk_at dksX9_init_2 22 rfl rfl)
theorem dX9_init_71 : decode cX9_init 71 = .ok (.newarray .int, 2) := dk_188_10 (dk_at dksX9_init_3 0 rfl rfl)
theorem dX9_init_73 : decode cX9_init 73 = .ok (.putfield 34, 3) := dk_181 0 34 (dk_at dksX9_init_3 2 rfl rfl)
theorem dX9_init_76 : decode cX9_init 76 = .ok (.aload_n 0, 1) := dk_42 (dk_at dksX9_init_3 5 rfl rfl)
theorem dX9_init_77 : decode cX9_init 77 = .ok (.bipush 6, 2) := dk_16 6 (dk_at dksX9_init_3 6 rfl rfl)
theorem dX9_init_79 : decode cX9_init 79 = .ok (.newarray .int, 2) := dk_188_10 (dk_at dksX9_init_3 8 rfl rfl)
theorem dX9_init_81 : decode cX9_init 81 = .ok (.putfield 37, 3) := dk_181 0 37 (dk_at dksX9_init_3 10 rfl rfl)
theorem dX9_init_84 : decode cX9_init 84 = .ok (.aload_n 0, 1) := dk_42 (dk_at dksX9_init_3 13 rfl rfl)
theorem dX9_init_85 : decode cX9_init 85 = .ok (.bipush 96, 2) := dk_16 96 (dk_at dksX9_init_3 14 rfl rfl)
theorem dX9_init_87 : decode cX9_init 87 = .ok (.newarray .int, 2) := dk_188_10 (dk_at dksX9_init_3 16 rfl rfl)
theorem dX9_init_89 : decode cX9_init 89 = .ok (.putfield 40, 3) := dk_181 0 40 (dk_at dksX9_init_3 18 rfl rfl)
theorem dX9_init_92 : decode cX9_init 92 = .ok (.aload_n 0, 1) := dk_42 (dk_at dksX9_init_3 21 rfl rfl)
theorem dX9_init_93 : decode cX9_init 93 = .ok (.iconst 3, 1) := dk_6 (dk_at dksX9_init_3 22 rfl rfl)
theorem dX9_init_94 : decode cX9_init 94 = .ok (.newarray .int, 2) := dk_188_10 (dk_at dksX9_init_4 0 rfl rfl)
theorem dX9_init_96 : decode cX9_init 96 = .ok (.putfield 43, 3) := dk_181 0 43 (dk_at dksX9_init_4 2 rfl rfl)
theorem dX9_init_99 : decode cX9_init 99 = .ok (.aload_n 0, 1) := dk_42 (dk_at dksX9_init_4 5 rfl rfl)
theorem dX9_init_100 : decode cX9_init 100 = .ok (.bipush 6, 2) := dk_16 6 (dk_at dksX9_init_4 6 rfl rfl)
theorem dX9_init_102 : decode cX9_init 102 = .ok (.newarray .int, 2) := dk_188_10 (dk_at dksX9_init_4 8 rfl rfl)
theorem dX9_init_104 : decode cX9_init 104 = .ok (.putfield 46, 3) := dk_181 0 46 (dk_at dksX9_init_4 10 rfl rfl)
theorem dX9_init_107 : decode cX9_init 107 = .ok (.aload_n 0, 1) := dk_42 (dk_at dksX9_init_4 13 rfl rfl)
theorem dX9_init_108 : decode cX9_init 108 = .ok (.getfield 13, 3) := dk_180 0 13 (dk_at dksX9_init_4 14 rfl rfl)
theorem dX9_init_111 : decode cX9_init 111 = .ok (.iconst 5, 1) := dk_8 (dk_at dksX9_init_4 17 rfl rfl)
theorem dX9_init_112 : decode cX9_init 112 = .ok (.bipush 6, 2) := dk_16 6 (dk_at dksX9_init_4 18 rfl rfl)
theorem dX9_init_114 : decode cX9_init 114 = .ok (.iastore, 1) := dk_79 (dk_at dksX9_init_4 20 rfl rfl)
theorem dX9_init_115 : decode cX9_init 115 = .ok (.return_, 1) := dk_177 (dk_at dksX9_init_4 21 rfl rfl)
abbrev cX9_letter : ByteArray := prog_28_method_26_code
def yX9_letter : MethodName := ⟨RX9, "letter", "(I)I"⟩
def dkwX9_letter_2 : List UInt8 := [180, 0, 116, 4, 96, 181, 0, 116, 42, 180, 0, 116, 172]
abbrev dktX9_letter_2 : List UInt8 := dkwX9_letter_2 ++ []
def dkwX9_letter_1 : List UInt8 := [61, 28, 153, 0, 9, 42, 28, 182, 0, 120, 172, 42, 180, 0, 40, 42, 180, 0, 116, 27, 79, 42, 89]
abbrev dktX9_letter_1 : List UInt8 := dkwX9_letter_1 ++ dktX9_letter_2
def dkwX9_letter_0 : List UInt8 := [27, 3, 17, 0, 255, 184, 0, 112, 61, 28, 154, 0, 15, 42, 180, 0, 116, 16, 96, 160, 0, 6, 16, 250]
abbrev dktX9_letter_0 : List UInt8 := dkwX9_letter_0 ++ dktX9_letter_1
theorem dksX9_letter_0 : cX9_letter.data.toList.drop 0 = dktX9_letter_0 := by decide +kernel
theorem dksX9_letter_1 : cX9_letter.data.toList.drop 24 = dktX9_letter_1 := dk_seg dksX9_letter_0 24 rfl rfl
theorem dksX9_letter_2 : cX9_letter.data.toList.drop 47 = dktX9_letter_2 := dk_seg dksX9_letter_1 23 rfl rfl
theorem dX9_letter_0 : decode cX9_letter 0 = .ok (.iload_n 1, 1) := dk_27 (dk_at dksX9_letter_0 0 rfl rfl)
theorem dX9_letter_1 : decode cX9_letter 1 = .ok (.iconst 0, 1) := dk_3 (dk_at dksX9_letter_0 1 rfl rfl)
theorem dX9_letter_2 : decode cX9_letter 2 = .ok (.sipush 255, 3) := dk_17 0 255 (dk_at dksX9_letter_0 2 rfl rfl)
theorem dX9_letter_5 : decode cX9_letter 5 = .ok (.invokestatic 112, 3) := dk_184 0 112 (dk_at dksX9_letter_0 5 rfl rfl)
theorem dX9_letter_8 : decode cX9_letter 8 = .ok (.istore_n 2, 1) := dk_61 (dk_at dksX9_letter_0 8 rfl rfl)
theorem dX9_letter_9 : decode cX9_letter 9 = .ok (.iload_n 2, 1) := dk_28 (dk_at dksX9_letter_0 9 rfl rfl)
theorem dX9_letter_10 : decode cX9_letter 10 = .ok (.ifCond .ne 15, 3) := dk_154 0 15 (dk_at dksX9_letter_0 10 rfl rfl)
theorem dX9_letter_13 : decode cX9_letter 13 = .ok (.aload_n 0, 1) := dk_42 (dk_at dksX9_letter_0 13 rfl rfl)
theorem dX9_letter_14 : decode cX9_letter 14 = .ok (.getfield 116, 3) := dk_180 0 116 (dk_at dksX9_letter_0 14 rfl rfl)
theorem dX9_letter_17 : decode cX9_letter 17 = .ok (.bipush 96, 2) := dk_16 96 (dk_at dksX9_letter_0 17 rfl rfl)
theorem dX9_letter_19 : decode cX9_letter 19 = .ok (.if_icmp .ne 6, 3) := dk_160 0 6 (dk_at dksX9_letter_0 19 rfl rfl)
theorem dX9_letter_22 : decode cX9_letter 22 = .ok (.bipush (-6), 2) := dk_16 250 (dk_at dksX9_letter_0 22 rfl rfl)
theorem dX9_letter_24 : decode cX9_letter 24 = .ok (.istore_n 2, 1) := dk_61 (dk_at dksX9_letter_1 0 rfl rfl)
theorem dX9_letter_25 : decode cX9_letter 25 = .ok (.iload_n 2, 1) := dk_28 (dk_at dksX9_letter_1 1 rfl rfl)
theorem dX9_letter_26 : decode cX9_letter 26 = .ok (.ifCond .eq 9, 3) := dk_153 0 9 (dk_at dksX9_letter_1 2 rfl rfl)
theorem dX9_letter_29 : decode cX9_letter 29 = .ok (.aload_n 0, 1) := dk_42 (dk_at dksX9_letter_1 5 rfl rfl)
theorem dX9_letter_30 : decode cX9_letter 30 = .ok (.iload_n 2, 1) := dk_28 (dk_at dksX9_letter_1 6 rfl rfl)
theorem dX9_letter_31 : decode cX9_letter 31 = .ok (.invokevirtual 120, 3) := dk_182 0 120 (dk_at dksX9_letter_1 7 rfl rfl)
theorem dX9_letter_34 : decode cX9_letter 34 = .ok (.ireturn, 1) := dk_172 (dk_at dksX9_letter_1 10 rfl rfl)
theorem dX9_letter_35 : decode cX9_letter 35 = .ok (.aload_n 0, 1) := dk_42 (dk_at dksX9_letter_1 11 rfl rfl)
theorem dX9_letter_36 : decode cX9_letter 36 = .ok (.getfield 40, 3) := dk_180 0 40 (dk_at dksX9_letter_1 12 rfl rfl)
theorem dX9_letter_39 : decode cX9_letter 39 = .ok (.aload_n 0, 1) := dk_42 (dk_at dksX9_letter_1 15 rfl rfl)
theorem dX9_letter_40 : decode cX9_letter 40 = .ok (.getfield 116, 3) := dk_180 0 116 (dk_at dksX9_letter_1 16 rfl rfl)
theorem dX9_letter_43 : decode cX9_letter 43 = .ok (.iload_n 1, 1) := dk_27 (dk_at dksX9_letter_1 19 rfl rfl)
theorem dX9_letter_44 : decode cX9_letter 44 = .ok (.iastore, 1) := dk_79 (dk_at dksX9_letter_1 20 rfl rfl)
theorem dX9_letter_45 : decode cX9_letter 45 = .ok (.aload_n 0, 1) := dk_42 (dk_at dksX9_letter_1 21 rfl rfl)
theorem dX9_letter_46 : decode cX9_letter 46 = .ok (.dup, 1) := dk_89 (dk_at dksX9_letter_1 22 rfl rfl)
theorem dX9_letter_47 : decode cX9_letter 47 = .ok (.getfield 116, 3) := dk_180 0 116 (dk_at dksX9_letter_2 0 rfl rfl)
theorem dX9_letter_50 : decode cX9_letter 50 = .ok (.iconst 1, 1) := dk_4 (dk_at dksX9_letter_2 3 rfl rfl)
theorem dX9_letter_51 : decode cX9_letter 51 = .ok (.iadd, 1) := dk_96 (dk_at dksX9_letter_2 4 rfl rfl)
theorem dX9_letter_52 : decode cX9_letter 52 = .ok (.putfield 116, 3) := dk_181 0 116 (dk_at dksX9_letter_2 5 rfl rfl)
theorem dX9_letter_55 : decode cX9_letter 55 = .ok (.aload_n 0, 1) := dk_42 (dk_at dksX9_letter_2 8 rfl rfl)
theorem dX9_letter_56 : decode cX9_letter 56 = .ok (.getfield 116, 3) := dk_180 0 116 (dk_at dksX9_letter_2 9 rfl rfl)
theorem dX9_letter_59 : decode cX9_letter 59 = .ok (.ireturn, 1) := dk_172 (dk_at dksX9_letter_2 12 rfl rfl)
abbrev cX9_within : ByteArray := prog_28_method_4_code
def yX9_within : MethodName := ⟨RX9, "within", "(III)I"⟩
def dkwX9_within_0 : List UInt8 := [26, 27, 162, 0, 8, 16, 252, 167, 0, 14, 26, 28, 164, 0, 8, 16, 250, 167, 0, 4, 3, 172]
abbrev dktX9_within_0 : List UInt8 := dkwX9_within_0 ++ []
theorem dksX9_within_0 : cX9_within.data.toList.drop 0 = dktX9_within_0 := by decide +kernel
theorem dX9_within_0 : decode cX9_within 0 = .ok (.iload_n 0, 1) := dk_26 (dk_at dksX9_within_0 0 rfl rfl)
theorem dX9_within_1 : decode cX9_within 1 = .ok (.iload_n 1, 1) := dk_27 (dk_at dksX9_within_0 1 rfl rfl)
theorem dX9_within_2 : decode cX9_within 2 = .ok (.if_icmp .ge 8, 3) := dk_162 0 8 (dk_at dksX9_within_0 2 rfl rfl)
theorem dX9_within_5 : decode cX9_within 5 = .ok (.bipush (-4), 2) := dk_16 252 (dk_at dksX9_within_0 5 rfl rfl)
theorem dX9_within_7 : decode cX9_within 7 = .ok (.goto 14, 3) := dk_167 0 14 (dk_at dksX9_within_0 7 rfl rfl)
theorem dX9_within_10 : decode cX9_within 10 = .ok (.iload_n 0, 1) := dk_26 (dk_at dksX9_within_0 10 rfl rfl)
theorem dX9_within_11 : decode cX9_within 11 = .ok (.iload_n 2, 1) := dk_28 (dk_at dksX9_within_0 11 rfl rfl)
theorem dX9_within_12 : decode cX9_within 12 = .ok (.if_icmp .le 8, 3) := dk_164 0 8 (dk_at dksX9_within_0 12 rfl rfl)
theorem dX9_within_15 : decode cX9_within 15 = .ok (.bipush (-6), 2) := dk_16 250 (dk_at dksX9_within_0 15 rfl rfl)
theorem dX9_within_17 : decode cX9_within 17 = .ok (.goto 4, 3) := dk_167 0 4 (dk_at dksX9_within_0 17 rfl rfl)
theorem dX9_within_20 : decode cX9_within 20 = .ok (.iconst 0, 1) := dk_3 (dk_at dksX9_within_0 20 rfl rfl)
theorem dX9_within_21 : decode cX9_within 21 = .ok (.ireturn, 1) := dk_172 (dk_at dksX9_within_0 21 rfl rfl)
abbrev cX9_refuse : ByteArray := prog_28_method_2_code
def yX9_refuse : MethodName := ⟨RX9, "refuse", "(I)I"⟩
def dkwX9_refuse_0 : List UInt8 := [42, 180, 0, 7, 27, 116, 92, 46, 4, 96, 79, 27, 172]
abbrev dktX9_refuse_0 : List UInt8 := dkwX9_refuse_0 ++ []
theorem dksX9_refuse_0 : cX9_refuse.data.toList.drop 0 = dktX9_refuse_0 := by decide +kernel
theorem dX9_refuse_0 : decode cX9_refuse 0 = .ok (.aload_n 0, 1) := dk_42 (dk_at dksX9_refuse_0 0 rfl rfl)
theorem dX9_refuse_1 : decode cX9_refuse 1 = .ok (.getfield 7, 3) := dk_180 0 7 (dk_at dksX9_refuse_0 1 rfl rfl)
theorem dX9_refuse_4 : decode cX9_refuse 4 = .ok (.iload_n 1, 1) := dk_27 (dk_at dksX9_refuse_0 4 rfl rfl)
theorem dX9_refuse_5 : decode cX9_refuse 5 = .ok (.ineg, 1) := dk_116 (dk_at dksX9_refuse_0 5 rfl rfl)
theorem dX9_refuse_6 : decode cX9_refuse 6 = .ok (.dup2, 1) := dk_92 (dk_at dksX9_refuse_0 6 rfl rfl)
theorem dX9_refuse_7 : decode cX9_refuse 7 = .ok (.iaload, 1) := dk_46 (dk_at dksX9_refuse_0 7 rfl rfl)
theorem dX9_refuse_8 : decode cX9_refuse 8 = .ok (.iconst 1, 1) := dk_4 (dk_at dksX9_refuse_0 8 rfl rfl)
theorem dX9_refuse_9 : decode cX9_refuse 9 = .ok (.iadd, 1) := dk_96 (dk_at dksX9_refuse_0 9 rfl rfl)
theorem dX9_refuse_10 : decode cX9_refuse 10 = .ok (.iastore, 1) := dk_79 (dk_at dksX9_refuse_0 10 rfl rfl)
theorem dX9_refuse_11 : decode cX9_refuse 11 = .ok (.iload_n 1, 1) := dk_27 (dk_at dksX9_refuse_0 11 rfl rfl)
theorem dX9_refuse_12 : decode cX9_refuse 12 = .ok (.ireturn, 1) := dk_172 (dk_at dksX9_refuse_0 12 rfl rfl)
abbrev cX9_office : ByteArray := prog_28_method_36_code
def yX9_office : MethodName := ⟨RX9, "office", "()I"⟩
def dkwX9_office_0 : List UInt8 := [42, 182, 0, 157, 60, 42, 3, 181, 0, 116, 27, 172]
abbrev dktX9_office_0 : List UInt8 := dkwX9_office_0 ++ []
theorem dksX9_office_0 : cX9_office.data.toList.drop 0 = dktX9_office_0 := by decide +kernel
theorem dX9_office_0 : decode cX9_office 0 = .ok (.aload_n 0, 1) := dk_42 (dk_at dksX9_office_0 0 rfl rfl)
theorem dX9_office_1 : decode cX9_office 1 = .ok (.invokevirtual 157, 3) := dk_182 0 157 (dk_at dksX9_office_0 1 rfl rfl)
theorem dX9_office_4 : decode cX9_office 4 = .ok (.istore_n 1, 1) := dk_60 (dk_at dksX9_office_0 4 rfl rfl)
theorem dX9_office_5 : decode cX9_office 5 = .ok (.aload_n 0, 1) := dk_42 (dk_at dksX9_office_0 5 rfl rfl)
theorem dX9_office_6 : decode cX9_office 6 = .ok (.iconst 0, 1) := dk_3 (dk_at dksX9_office_0 6 rfl rfl)
theorem dX9_office_7 : decode cX9_office 7 = .ok (.putfield 116, 3) := dk_181 0 116 (dk_at dksX9_office_0 7 rfl rfl)
theorem dX9_office_10 : decode cX9_office 10 = .ok (.iload_n 1, 1) := dk_27 (dk_at dksX9_office_0 10 rfl rfl)
theorem dX9_office_11 : decode cX9_office 11 = .ok (.ireturn, 1) := dk_172 (dk_at dksX9_office_0 11 rfl rfl)
abbrev cX9_reads : ByteArray := prog_28_method_35_code
def yX9_reads : MethodName := ⟨RX9, "reads", "()I"⟩
def dkwX9_reads_4 : List UInt8 := [180, 0, 13, 184, 0, 49, 17, 248, 48, 28, 100, 172, 167, 255, 204, 27, 172]
abbrev dktX9_reads_4 : List UInt8 := dkwX9_reads_4 ++ []
def dkwX9_reads_3 : List UInt8 := [42, 182, 0, 126, 62, 42, 182, 0, 150, 54, 4, 42, 29, 182, 0, 154, 154, 0, 20, 42, 180, 0, 19, 42]
abbrev dktX9_reads_3 : List UInt8 := dkwX9_reads_3 ++ dktX9_reads_4
def dkwX9_reads_2 : List UInt8 := [184, 0, 49, 42, 3, 181, 0, 123, 42, 180, 0, 123, 42, 180, 0, 116, 162, 0, 47, 42, 180, 0, 123, 61]
abbrev dktX9_reads_2 : List UInt8 := dkwX9_reads_2 ++ dktX9_reads_3
def dkwX9_reads_1 : List UInt8 := [132, 1, 1, 42, 180, 0, 123, 42, 180, 0, 116, 161, 255, 229, 42, 180, 0, 13, 42, 180, 0, 19]
abbrev dktX9_reads_1 : List UInt8 := dkwX9_reads_1 ++ dktX9_reads_2
def dkwX9_reads_0 : List UInt8 := [42, 3, 181, 0, 123, 3, 60, 42, 182, 0, 150, 154, 0, 12, 17, 252, 24, 42, 180, 0, 123, 100, 172]
abbrev dktX9_reads_0 : List UInt8 := dkwX9_reads_0 ++ dktX9_reads_1
theorem dksX9_reads_0 : cX9_reads.data.toList.drop 0 = dktX9_reads_0 := by decide +kernel
theorem dksX9_reads_1 : cX9_reads.data.toList.drop 23 = dktX9_reads_1 := dk_seg dksX9_reads_0 23 rfl rfl
theorem dksX9_reads_2 : cX9_reads.data.toList.drop 45 = dktX9_reads_2 := dk_seg dksX9_reads_1 22 rfl rfl
theorem dksX9_reads_3 : cX9_reads.data.toList.drop 69 = dktX9_reads_3 := dk_seg dksX9_reads_2 24 rfl rfl
theorem dksX9_reads_4 : cX9_reads.data.toList.drop 93 = dktX9_reads_4 := dk_seg dksX9_reads_3 24 rfl rfl
theorem dX9_reads_0 : decode cX9_reads 0 = .ok (.aload_n 0, 1) := dk_42 (dk_at dksX9_reads_0 0 rfl rfl)
theorem dX9_reads_1 : decode cX9_reads 1 = .ok (.iconst 0, 1) := dk_3 (dk_at dksX9_reads_0 1 rfl rfl)
theorem dX9_reads_2 : decode cX9_reads 2 = .ok (.putfield 123, 3) := dk_181 0 123 (dk_at dksX9_reads_0 2 rfl rfl)
theorem dX9_reads_5 : decode cX9_reads 5 = .ok (.iconst 0, 1) := dk_3 (dk_at dksX9_reads_0 5 rfl rfl)
theorem dX9_reads_6 : decode cX9_reads 6 = .ok (.istore_n 1, 1) := dk_60 (dk_at dksX9_reads_0 6 rfl rfl)
theorem dX9_reads_7 : decode cX9_reads 7 = .ok (.aload_n 0, 1) := dk_42 (dk_at dksX9_reads_0 7 rfl rfl)
theorem dX9_reads_8 : decode cX9_reads 8 = .ok (.invokevirtual 150, 3) := dk_182 0 150 (dk_at dksX9_reads_0 8 rfl rfl)
theorem dX9_reads_11 : decode cX9_reads 11 = .ok (.ifCond .ne 12, 3) := dk_154 0 12 (dk_at dksX9_reads_0 11 rfl rfl)
theorem dX9_reads_14 : decode cX9_reads 14 = .ok (.sipush (-1000), 3) := dk_17 252 24 (dk_at dksX9_reads_0 14 rfl rfl)
theorem dX9_reads_17 : decode cX9_reads 17 = .ok (.aload_n 0, 1) := dk_42 (dk_at dksX9_reads_0 17 rfl rfl)
theorem dX9_reads_18 : decode cX9_reads 18 = .ok (.getfield 123, 3) := dk_180 0 123 (dk_at dksX9_reads_0 18 rfl rfl)
theorem dX9_reads_21 : decode cX9_reads 21 = .ok (.isub, 1) := dk_100 (dk_at dksX9_reads_0 21 rfl rfl)
theorem dX9_reads_22 : decode cX9_reads 22 = .ok (.ireturn, 1) := dk_172 (dk_at dksX9_reads_0 22 rfl rfl)
theorem dX9_reads_23 : decode cX9_reads 23 = .ok (.iinc 1 1, 3) := dk_132 1 1 (dk_at dksX9_reads_1 0 rfl rfl)
theorem dX9_reads_26 : decode cX9_reads 26 = .ok (.aload_n 0, 1) := dk_42 (dk_at dksX9_reads_1 3 rfl rfl)
theorem dX9_reads_27 : decode cX9_reads 27 = .ok (.getfield 123, 3) := dk_180 0 123 (dk_at dksX9_reads_1 4 rfl rfl)
theorem dX9_reads_30 : decode cX9_reads 30 = .ok (.aload_n 0, 1) := dk_42 (dk_at dksX9_reads_1 7 rfl rfl)
theorem dX9_reads_31 : decode cX9_reads 31 = .ok (.getfield 116, 3) := dk_180 0 116 (dk_at dksX9_reads_1 8 rfl rfl)
theorem dX9_reads_34 : decode cX9_reads 34 = .ok (.if_icmp .lt (-27), 3) := dk_161 255 229 (dk_at dksX9_reads_1 11 rfl rfl)
theorem dX9_reads_37 : decode cX9_reads 37 = .ok (.aload_n 0, 1) := dk_42 (dk_at dksX9_reads_1 14 rfl rfl)
theorem dX9_reads_38 : decode cX9_reads 38 = .ok (.getfield 13, 3) := dk_180 0 13 (dk_at dksX9_reads_1 15 rfl rfl)
theorem dX9_reads_41 : decode cX9_reads 41 = .ok (.aload_n 0, 1) := dk_42 (dk_at dksX9_reads_1 18 rfl rfl)
theorem dX9_reads_42 : decode cX9_reads 42 = .ok (.getfield 19, 3) := dk_180 0 19 (dk_at dksX9_reads_1 19 rfl rfl)
theorem dX9_reads_45 : decode cX9_reads 45 = .ok (.invokestatic 49, 3) := dk_184 0 49 (dk_at dksX9_reads_2 0 rfl rfl)
theorem dX9_reads_48 : decode cX9_reads 48 = .ok (.aload_n 0, 1) := dk_42 (dk_at dksX9_reads_2 3 rfl rfl)
theorem dX9_reads_49 : decode cX9_reads 49 = .ok (.iconst 0, 1) := dk_3 (dk_at dksX9_reads_2 4 rfl rfl)
theorem dX9_reads_50 : decode cX9_reads 50 = .ok (.putfield 123, 3) := dk_181 0 123 (dk_at dksX9_reads_2 5 rfl rfl)
theorem dX9_reads_53 : decode cX9_reads 53 = .ok (.aload_n 0, 1) := dk_42 (dk_at dksX9_reads_2 8 rfl rfl)
theorem dX9_reads_54 : decode cX9_reads 54 = .ok (.getfield 123, 3) := dk_180 0 123 (dk_at dksX9_reads_2 9 rfl rfl)
theorem dX9_reads_57 : decode cX9_reads 57 = .ok (.aload_n 0, 1) := dk_42 (dk_at dksX9_reads_2 12 rfl rfl)
theorem dX9_reads_58 : decode cX9_reads 58 = .ok (.getfield 116, 3) := dk_180 0 116 (dk_at dksX9_reads_2 13 rfl rfl)
theorem dX9_reads_61 : decode cX9_reads 61 = .ok (.if_icmp .ge 47, 3) := dk_162 0 47 (dk_at dksX9_reads_2 16 rfl rfl)
theorem dX9_reads_64 : decode cX9_reads 64 = .ok (.aload_n 0, 1) := dk_42 (dk_at dksX9_reads_2 19 rfl rfl)
theorem dX9_reads_65 : decode cX9_reads 65 = .ok (.getfield 123, 3) := dk_180 0 123 (dk_at dksX9_reads_2 20 rfl rfl)
theorem dX9_reads_68 : decode cX9_reads 68 = .ok (.istore_n 2, 1) := dk_61 (dk_at dksX9_reads_2 23 rfl rfl)
theorem dX9_reads_69 : decode cX9_reads 69 = .ok (.aload_n 0, 1) := dk_42 (dk_at dksX9_reads_3 0 rfl rfl)
theorem dX9_reads_70 : decode cX9_reads 70 = .ok (.invokevirtual 126, 3) := dk_182 0 126 (dk_at dksX9_reads_3 1 rfl rfl)
theorem dX9_reads_73 : decode cX9_reads 73 = .ok (.istore_n 3, 1) := dk_62 (dk_at dksX9_reads_3 4 rfl rfl)
theorem dX9_reads_74 : decode cX9_reads 74 = .ok (.aload_n 0, 1) := dk_42 (dk_at dksX9_reads_3 5 rfl rfl)
theorem dX9_reads_75 : decode cX9_reads 75 = .ok (.invokevirtual 150, 3) := dk_182 0 150 (dk_at dksX9_reads_3 6 rfl rfl)
theorem dX9_reads_78 : decode cX9_reads 78 = .ok (.istore 4, 2) := dk_54 4 (dk_at dksX9_reads_3 9 rfl rfl)
theorem dX9_reads_80 : decode cX9_reads 80 = .ok (.aload_n 0, 1) := dk_42 (dk_at dksX9_reads_3 11 rfl rfl)
theorem dX9_reads_81 : decode cX9_reads 81 = .ok (.iload_n 3, 1) := dk_29 (dk_at dksX9_reads_3 12 rfl rfl)
theorem dX9_reads_82 : decode cX9_reads 82 = .ok (.invokevirtual 154, 3) := dk_182 0 154 (dk_at dksX9_reads_3 13 rfl rfl)
theorem dX9_reads_85 : decode cX9_reads 85 = .ok (.ifCond .ne 20, 3) := dk_154 0 20 (dk_at dksX9_reads_3 16 rfl rfl)
theorem dX9_reads_88 : decode cX9_reads 88 = .ok (.aload_n 0, 1) := dk_42 (dk_at dksX9_reads_3 19 rfl rfl)
theorem dX9_reads_89 : decode cX9_reads 89 = .ok (.getfield 19, 3) := dk_180 0 19 (dk_at dksX9_reads_3 20 rfl rfl)
theorem dX9_reads_92 : decode cX9_reads 92 = .ok (.aload_n 0, 1) := dk_42 (dk_at dksX9_reads_3 23 rfl rfl)
theorem dX9_reads_93 : decode cX9_reads 93 = .ok (.getfield 13, 3) := dk_180 0 13 (dk_at dksX9_reads_4 0 rfl rfl)
theorem dX9_reads_96 : decode cX9_reads 96 = .ok (.invokestatic 49, 3) := dk_184 0 49 (dk_at dksX9_reads_4 3 rfl rfl)
theorem dX9_reads_99 : decode cX9_reads 99 = .ok (.sipush (-2000), 3) := dk_17 248 48 (dk_at dksX9_reads_4 6 rfl rfl)
theorem dX9_reads_102 : decode cX9_reads 102 = .ok (.iload_n 2, 1) := dk_28 (dk_at dksX9_reads_4 9 rfl rfl)
theorem dX9_reads_103 : decode cX9_reads 103 = .ok (.isub, 1) := dk_100 (dk_at dksX9_reads_4 10 rfl rfl)
theorem dX9_reads_104 : decode cX9_reads 104 = .ok (.ireturn, 1) := dk_172 (dk_at dksX9_reads_4 11 rfl rfl)
theorem dX9_reads_105 : decode cX9_reads 105 = .ok (.goto (-52), 3) := dk_167 255 204 (dk_at dksX9_reads_4 12 rfl rfl)
theorem dX9_reads_108 : decode cX9_reads 108 = .ok (.iload_n 1, 1) := dk_27 (dk_at dksX9_reads_4 15 rfl rfl)
theorem dX9_reads_109 : decode cX9_reads 109 = .ok (.ireturn, 1) := dk_172 (dk_at dksX9_reads_4 16 rfl rfl)
abbrev cX9_readsStatement : ByteArray := prog_28_method_33_code
def yX9_readsStatement : MethodName := ⟨RX9, "readsStatement", "()Z"⟩
def dkwX9_readsStatement_6 : List UInt8 := [167, 0, 4, 3, 172]
abbrev dktX9_readsStatement_6 : List UInt8 := dkwX9_readsStatement_6 ++ []
def dkwX9_readsStatement_5 : List UInt8 := [180, 0, 123, 4, 100, 181, 0, 123, 3, 172, 28, 153, 0, 16, 42, 16, 59, 182, 0, 141, 153, 0, 7, 4]
abbrev dktX9_readsStatement_5 : List UInt8 := dkwX9_readsStatement_5 ++ dktX9_readsStatement_6
def dkwX9_readsStatement_4 : List UInt8 := [184, 0, 138, 182, 0, 135, 61, 167, 0, 25, 42, 3, 5, 182, 0, 129, 61, 167, 0, 15, 42, 89]
abbrev dktX9_readsStatement_4 : List UInt8 := dkwX9_readsStatement_4 ++ dktX9_readsStatement_5
def dkwX9_readsStatement_3 : List UInt8 := [167, 0, 55, 42, 42, 182, 0, 126, 184, 0, 132, 182, 0, 135, 61, 167, 0, 40, 42, 42, 182, 0, 126]
abbrev dktX9_readsStatement_3 : List UInt8 := dkwX9_readsStatement_3 ++ dktX9_readsStatement_4
def dkwX9_readsStatement_2 : List UInt8 := [42, 3, 4, 182, 0, 129, 153, 0, 16, 42, 4, 4, 182, 0, 129, 153, 0, 7, 4, 167, 0, 4, 3, 61]
abbrev dktX9_readsStatement_2 : List UInt8 := dkwX9_readsStatement_2 ++ dktX9_readsStatement_3
def dkwX9_readsStatement_1 : List UInt8 := [171, 0, 0, 0, 0, 117, 0, 0, 0, 5, 0, 0, 0, 100, 0, 0, 0, 50, 0, 0, 0, 103, 0, 0, 0, 50, 0, 0, 0, 104, 0, 0, 0, 92, 0, 0, 0, 111, 0, 0, 0, 107, 0, 0, 0, 115, 0, 0, 0, 77]
abbrev dktX9_readsStatement_1 : List UInt8 := dkwX9_readsStatement_1 ++ dktX9_readsStatement_2
def dkwX9_readsStatement_0 : List UInt8 := [42, 182, 0, 126, 60, 3, 61, 42, 89, 180, 0, 123, 4, 96, 181, 0, 123, 27]
abbrev dktX9_readsStatement_0 : List UInt8 := dkwX9_readsStatement_0 ++ dktX9_readsStatement_1
theorem dksX9_readsStatement_0 : cX9_readsStatement.data.toList.drop 0 = dktX9_readsStatement_0 := by decide +kernel
theorem dksX9_readsStatement_1 : cX9_readsStatement.data.toList.drop 18 = dktX9_readsStatement_1 := dk_seg dksX9_readsStatement_0 18 rfl rfl
theorem dksX9_readsStatement_2 : cX9_readsStatement.data.toList.drop 68 = dktX9_readsStatement_2 := dk_seg dksX9_readsStatement_1 50 rfl rfl
theorem dksX9_readsStatement_3 : cX9_readsStatement.data.toList.drop 92 = dktX9_readsStatement_3 := dk_seg dksX9_readsStatement_2 24 rfl rfl
theorem dksX9_readsStatement_4 : cX9_readsStatement.data.toList.drop 115 = dktX9_readsStatement_4 := dk_seg dksX9_readsStatement_3 23 rfl rfl
theorem dksX9_readsStatement_5 : cX9_readsStatement.data.toList.drop 137 = dktX9_readsStatement_5 := dk_seg dksX9_readsStatement_4 22 rfl rfl
theorem dksX9_readsStatement_6 : cX9_readsStatement.data.toList.drop 161 = dktX9_readsStatement_6 := dk_seg dksX9_readsStatement_5 24 rfl rfl
theorem dX9_readsStatement_0 : decode cX9_readsStatement 0 = .ok (.aload_n 0, 1) := dk_42 (dk_at dksX9_readsStatement_0 0 rfl rfl)
theorem dX9_readsStatement_1 : decode cX9_readsStatement 1 = .ok (.invokevirtual 126, 3) := dk_182 0 126 (dk_at dksX9_readsStatement_0 1 rfl rfl)
theorem dX9_readsStatement_4 : decode cX9_readsStatement 4 = .ok (.istore_n 1, 1) := dk_60 (dk_at dksX9_readsStatement_0 4 rfl rfl)
theorem dX9_readsStatement_5 : decode cX9_readsStatement 5 = .ok (.iconst 0, 1) := dk_3 (dk_at dksX9_readsStatement_0 5 rfl rfl)
theorem dX9_readsStatement_6 : decode cX9_readsStatement 6 = .ok (.istore_n 2, 1) := dk_61 (dk_at dksX9_readsStatement_0 6 rfl rfl)
theorem dX9_readsStatement_7 : decode cX9_readsStatement 7 = .ok (.aload_n 0, 1) := dk_42 (dk_at dksX9_readsStatement_0 7 rfl rfl)
theorem dX9_readsStatement_8 : decode cX9_readsStatement 8 = .ok (.dup, 1) := dk_89 (dk_at dksX9_readsStatement_0 8 rfl rfl)
theorem dX9_readsStatement_9 : decode cX9_readsStatement 9 = .ok (.getfield 123, 3) := dk_180 0 123 (dk_at dksX9_readsStatement_0 9 rfl rfl)
theorem dX9_readsStatement_12 : decode cX9_readsStatement 12 = .ok (.iconst 1, 1) := dk_4 (dk_at dksX9_readsStatement_0 12 rfl rfl)
theorem dX9_readsStatement_13 : decode cX9_readsStatement 13 = .ok (.iadd, 1) := dk_96 (dk_at dksX9_readsStatement_0 13 rfl rfl)
theorem dX9_readsStatement_14 : decode cX9_readsStatement 14 = .ok (.putfield 123, 3) := dk_181 0 123 (dk_at dksX9_readsStatement_0 14 rfl rfl)
theorem dX9_readsStatement_17 : decode cX9_readsStatement 17 = .ok (.iload_n 1, 1) := dk_27 (dk_at dksX9_readsStatement_0 17 rfl rfl)
theorem dX9_readsStatement_18 : decode cX9_readsStatement 18 = .ok (.lookupswitch 117 #[(100, 50), (103, 50), (104, 92), (111, 107), (115, 77)], 50) := by decide +kernel
theorem dX9_readsStatement_68 : decode cX9_readsStatement 68 = .ok (.aload_n 0, 1) := dk_42 (dk_at dksX9_readsStatement_2 0 rfl rfl)
theorem dX9_readsStatement_69 : decode cX9_readsStatement 69 = .ok (.iconst 0, 1) := dk_3 (dk_at dksX9_readsStatement_2 1 rfl rfl)
theorem dX9_readsStatement_70 : decode cX9_readsStatement 70 = .ok (.iconst 1, 1) := dk_4 (dk_at dksX9_readsStatement_2 2 rfl rfl)
theorem dX9_readsStatement_71 : decode cX9_readsStatement 71 = .ok (.invokevirtual 129, 3) := dk_182 0 129 (dk_at dksX9_readsStatement_2 3 rfl rfl)
theorem dX9_readsStatement_74 : decode cX9_readsStatement 74 = .ok (.ifCond .eq 16, 3) := dk_153 0 16 (dk_at dksX9_readsStatement_2 6 rfl rfl)
theorem dX9_readsStatement_77 : decode cX9_readsStatement 77 = .ok (.aload_n 0, 1) := dk_42 (dk_at dksX9_readsStatement_2 9 rfl rfl)
theorem dX9_readsStatement_78 : decode cX9_readsStatement 78 = .ok (.iconst 1, 1) := dk_4 (dk_at dksX9_readsStatement_2 10 rfl rfl)
theorem dX9_readsStatement_79 : decode cX9_readsStatement 79 = .ok (.iconst 1, 1) := dk_4 (dk_at dksX9_readsStatement_2 11 rfl rfl)
theorem dX9_readsStatement_80 : decode cX9_readsStatement 80 = .ok (.invokevirtual 129, 3) := dk_182 0 129 (dk_at dksX9_readsStatement_2 12 rfl rfl)
theorem dX9_readsStatement_83 : decode cX9_readsStatement 83 = .ok (.ifCond .eq 7, 3) := dk_153 0 7 (dk_at dksX9_readsStatement_2 15 rfl rfl)
theorem dX9_readsStatement_86 : decode cX9_readsStatement 86 = .ok (.iconst 1, 1) := dk_4 (dk_at dksX9_readsStatement_2 18 rfl rfl)
theorem dX9_readsStatement_87 : decode cX9_readsStatement 87 = .ok (.goto 4, 3) := dk_167 0 4 (dk_at dksX9_readsStatement_2 19 rfl rfl)
theorem dX9_readsStatement_90 : decode cX9_readsStatement 90 = .ok (.iconst 0, 1) := dk_3 (dk_at dksX9_readsStatement_2 22 rfl rfl)
theorem dX9_readsStatement_91 : decode cX9_readsStatement 91 = .ok (.istore_n 2, 1) := dk_61 (dk_at dksX9_readsStatement_2 23 rfl rfl)
theorem dX9_readsStatement_92 : decode cX9_readsStatement 92 = .ok (.goto 55, 3) := dk_167 0 55 (dk_at dksX9_readsStatement_3 0 rfl rfl)
theorem dX9_readsStatement_95 : decode cX9_readsStatement 95 = .ok (.aload_n 0, 1) := dk_42 (dk_at dksX9_readsStatement_3 3 rfl rfl)
theorem dX9_readsStatement_96 : decode cX9_readsStatement 96 = .ok (.aload_n 0, 1) := dk_42 (dk_at dksX9_readsStatement_3 4 rfl rfl)
theorem dX9_readsStatement_97 : decode cX9_readsStatement 97 = .ok (.invokevirtual 126, 3) := dk_182 0 126 (dk_at dksX9_readsStatement_3 5 rfl rfl)
theorem dX9_readsStatement_100 : decode cX9_readsStatement 100 = .ok (.invokestatic 132, 3) := dk_184 0 132 (dk_at dksX9_readsStatement_3 8 rfl rfl)
theorem dX9_readsStatement_103 : decode cX9_readsStatement 103 = .ok (.invokevirtual 135, 3) := dk_182 0 135 (dk_at dksX9_readsStatement_3 11 rfl rfl)
theorem dX9_readsStatement_106 : decode cX9_readsStatement 106 = .ok (.istore_n 2, 1) := dk_61 (dk_at dksX9_readsStatement_3 14 rfl rfl)
theorem dX9_readsStatement_107 : decode cX9_readsStatement 107 = .ok (.goto 40, 3) := dk_167 0 40 (dk_at dksX9_readsStatement_3 15 rfl rfl)
theorem dX9_readsStatement_110 : decode cX9_readsStatement 110 = .ok (.aload_n 0, 1) := dk_42 (dk_at dksX9_readsStatement_3 18 rfl rfl)
theorem dX9_readsStatement_111 : decode cX9_readsStatement 111 = .ok (.aload_n 0, 1) := dk_42 (dk_at dksX9_readsStatement_3 19 rfl rfl)
theorem dX9_readsStatement_112 : decode cX9_readsStatement 112 = .ok (.invokevirtual 126, 3) := dk_182 0 126 (dk_at dksX9_readsStatement_3 20 rfl rfl)
theorem dX9_readsStatement_115 : decode cX9_readsStatement 115 = .ok (.invokestatic 138, 3) := dk_184 0 138 (dk_at dksX9_readsStatement_4 0 rfl rfl)
theorem dX9_readsStatement_118 : decode cX9_readsStatement 118 = .ok (.invokevirtual 135, 3) := dk_182 0 135 (dk_at dksX9_readsStatement_4 3 rfl rfl)
theorem dX9_readsStatement_121 : decode cX9_readsStatement 121 = .ok (.istore_n 2, 1) := dk_61 (dk_at dksX9_readsStatement_4 6 rfl rfl)
theorem dX9_readsStatement_122 : decode cX9_readsStatement 122 = .ok (.goto 25, 3) := dk_167 0 25 (dk_at dksX9_readsStatement_4 7 rfl rfl)
theorem dX9_readsStatement_125 : decode cX9_readsStatement 125 = .ok (.aload_n 0, 1) := dk_42 (dk_at dksX9_readsStatement_4 10 rfl rfl)
theorem dX9_readsStatement_126 : decode cX9_readsStatement 126 = .ok (.iconst 0, 1) := dk_3 (dk_at dksX9_readsStatement_4 11 rfl rfl)
theorem dX9_readsStatement_127 : decode cX9_readsStatement 127 = .ok (.iconst 2, 1) := dk_5 (dk_at dksX9_readsStatement_4 12 rfl rfl)
theorem dX9_readsStatement_128 : decode cX9_readsStatement 128 = .ok (.invokevirtual 129, 3) := dk_182 0 129 (dk_at dksX9_readsStatement_4 13 rfl rfl)
theorem dX9_readsStatement_131 : decode cX9_readsStatement 131 = .ok (.istore_n 2, 1) := dk_61 (dk_at dksX9_readsStatement_4 16 rfl rfl)
theorem dX9_readsStatement_132 : decode cX9_readsStatement 132 = .ok (.goto 15, 3) := dk_167 0 15 (dk_at dksX9_readsStatement_4 17 rfl rfl)
theorem dX9_readsStatement_135 : decode cX9_readsStatement 135 = .ok (.aload_n 0, 1) := dk_42 (dk_at dksX9_readsStatement_4 20 rfl rfl)
theorem dX9_readsStatement_136 : decode cX9_readsStatement 136 = .ok (.dup, 1) := dk_89 (dk_at dksX9_readsStatement_4 21 rfl rfl)
theorem dX9_readsStatement_137 : decode cX9_readsStatement 137 = .ok (.getfield 123, 3) := dk_180 0 123 (dk_at dksX9_readsStatement_5 0 rfl rfl)
theorem dX9_readsStatement_140 : decode cX9_readsStatement 140 = .ok (.iconst 1, 1) := dk_4 (dk_at dksX9_readsStatement_5 3 rfl rfl)
theorem dX9_readsStatement_141 : decode cX9_readsStatement 141 = .ok (.isub, 1) := dk_100 (dk_at dksX9_readsStatement_5 4 rfl rfl)
theorem dX9_readsStatement_142 : decode cX9_readsStatement 142 = .ok (.putfield 123, 3) := dk_181 0 123 (dk_at dksX9_readsStatement_5 5 rfl rfl)
theorem dX9_readsStatement_145 : decode cX9_readsStatement 145 = .ok (.iconst 0, 1) := dk_3 (dk_at dksX9_readsStatement_5 8 rfl rfl)
theorem dX9_readsStatement_146 : decode cX9_readsStatement 146 = .ok (.ireturn, 1) := dk_172 (dk_at dksX9_readsStatement_5 9 rfl rfl)
theorem dX9_readsStatement_147 : decode cX9_readsStatement 147 = .ok (.iload_n 2, 1) := dk_28 (dk_at dksX9_readsStatement_5 10 rfl rfl)
theorem dX9_readsStatement_148 : decode cX9_readsStatement 148 = .ok (.ifCond .eq 16, 3) := dk_153 0 16 (dk_at dksX9_readsStatement_5 11 rfl rfl)
theorem dX9_readsStatement_151 : decode cX9_readsStatement 151 = .ok (.aload_n 0, 1) := dk_42 (dk_at dksX9_readsStatement_5 14 rfl rfl)
theorem dX9_readsStatement_152 : decode cX9_readsStatement 152 = .ok (.bipush 59, 2) := dk_16 59 (dk_at dksX9_readsStatement_5 15 rfl rfl)
theorem dX9_readsStatement_154 : decode cX9_readsStatement 154 = .ok (.invokevirtual 141, 3) := dk_182 0 141 (dk_at dksX9_readsStatement_5 17 rfl rfl)
theorem dX9_readsStatement_157 : decode cX9_readsStatement 157 = .ok (.ifCond .eq 7, 3) := dk_153 0 7 (dk_at dksX9_readsStatement_5 20 rfl rfl)
theorem dX9_readsStatement_160 : decode cX9_readsStatement 160 = .ok (.iconst 1, 1) := dk_4 (dk_at dksX9_readsStatement_5 23 rfl rfl)
theorem dX9_readsStatement_161 : decode cX9_readsStatement 161 = .ok (.goto 4, 3) := dk_167 0 4 (dk_at dksX9_readsStatement_6 0 rfl rfl)
theorem dX9_readsStatement_164 : decode cX9_readsStatement 164 = .ok (.iconst 0, 1) := dk_3 (dk_at dksX9_readsStatement_6 3 rfl rfl)
theorem dX9_readsStatement_165 : decode cX9_readsStatement 165 = .ok (.ireturn, 1) := dk_172 (dk_at dksX9_readsStatement_6 4 rfl rfl)
abbrev cX9_sign : ByteArray := prog_28_method_27_code
def yX9_sign : MethodName := ⟨RX9, "sign", "()I"⟩
def dkwX9_sign_1 : List UInt8 := [172]
abbrev dktX9_sign_1 : List UInt8 := dkwX9_sign_1 ++ []
def dkwX9_sign_0 : List UInt8 := [42, 180, 0, 123, 42, 180, 0, 116, 162, 0, 15, 42, 180, 0, 40, 42, 180, 0, 123, 46, 167, 0, 4, 2]
abbrev dktX9_sign_0 : List UInt8 := dkwX9_sign_0 ++ dktX9_sign_1
theorem dksX9_sign_0 : cX9_sign.data.toList.drop 0 = dktX9_sign_0 := by decide +kernel
theorem dksX9_sign_1 : cX9_sign.data.toList.drop 24 = dktX9_sign_1 := dk_seg dksX9_sign_0 24 rfl rfl
theorem dX9_sign_0 : decode cX9_sign 0 = .ok (.aload_n 0, 1) := dk_42 (dk_at dksX9_sign_0 0 rfl rfl)
theorem dX9_sign_1 : decode cX9_sign 1 = .ok (.getfield 123, 3) := dk_180 0 123 (dk_at dksX9_sign_0 1 rfl rfl)
theorem dX9_sign_4 : decode cX9_sign 4 = .ok (.aload_n 0, 1) := dk_42 (dk_at dksX9_sign_0 4 rfl rfl)
theorem dX9_sign_5 : decode cX9_sign 5 = .ok (.getfield 116, 3) := dk_180 0 116 (dk_at dksX9_sign_0 5 rfl rfl)
theorem dX9_sign_8 : decode cX9_sign 8 = .ok (.if_icmp .ge 15, 3) := dk_162 0 15 (dk_at dksX9_sign_0 8 rfl rfl)
theorem dX9_sign_11 : decode cX9_sign 11 = .ok (.aload_n 0, 1) := dk_42 (dk_at dksX9_sign_0 11 rfl rfl)
theorem dX9_sign_12 : decode cX9_sign 12 = .ok (.getfield 40, 3) := dk_180 0 40 (dk_at dksX9_sign_0 12 rfl rfl)
theorem dX9_sign_15 : decode cX9_sign 15 = .ok (.aload_n 0, 1) := dk_42 (dk_at dksX9_sign_0 15 rfl rfl)
theorem dX9_sign_16 : decode cX9_sign 16 = .ok (.getfield 123, 3) := dk_180 0 123 (dk_at dksX9_sign_0 16 rfl rfl)
theorem dX9_sign_19 : decode cX9_sign 19 = .ok (.iaload, 1) := dk_46 (dk_at dksX9_sign_0 19 rfl rfl)
theorem dX9_sign_20 : decode cX9_sign 20 = .ok (.goto 4, 3) := dk_167 0 4 (dk_at dksX9_sign_0 20 rfl rfl)
theorem dX9_sign_23 : decode cX9_sign 23 = .ok (.iconst (-1), 1) := dk_2 (dk_at dksX9_sign_0 23 rfl rfl)
theorem dX9_sign_24 : decode cX9_sign 24 = .ok (.ireturn, 1) := dk_172 (dk_at dksX9_sign_1 0 rfl rfl)
abbrev cX9_readsNumber : ByteArray := prog_28_method_29_code
def yX9_readsNumber : MethodName := ⟨RX9, "readsNumber", "(II)Z"⟩
def dkwX9_readsNumber_3 : List UInt8 := [158, 0, 7, 4, 167, 0, 4, 3, 172]
abbrev dktX9_readsNumber_3 : List UInt8 := dkwX9_readsNumber_3 ++ []
def dkwX9_readsNumber_2 : List UInt8 := [96, 16, 48, 100, 79, 42, 89, 180, 0, 123, 4, 96, 181, 0, 123, 132, 3, 1, 167, 255, 200, 29]
abbrev dktX9_readsNumber_2 : List UInt8 := dkwX9_readsNumber_2 ++ dktX9_readsNumber_3
def dkwX9_readsNumber_1 : List UInt8 := [184, 0, 53, 153, 0, 42, 42, 180, 0, 43, 27, 16, 10, 42, 180, 0, 43, 27, 46, 104, 42, 182, 0, 126]
abbrev dktX9_readsNumber_1 : List UInt8 := dkwX9_readsNumber_1 ++ dktX9_readsNumber_2
def dkwX9_readsNumber_0 : List UInt8 := [42, 180, 0, 43, 27, 3, 79, 3, 62, 29, 28, 162, 0, 57, 42, 182, 0, 126, 16, 48, 100, 16, 10]
abbrev dktX9_readsNumber_0 : List UInt8 := dkwX9_readsNumber_0 ++ dktX9_readsNumber_1
theorem dksX9_readsNumber_0 : cX9_readsNumber.data.toList.drop 0 = dktX9_readsNumber_0 := by decide +kernel
theorem dksX9_readsNumber_1 : cX9_readsNumber.data.toList.drop 23 = dktX9_readsNumber_1 := dk_seg dksX9_readsNumber_0 23 rfl rfl
theorem dksX9_readsNumber_2 : cX9_readsNumber.data.toList.drop 47 = dktX9_readsNumber_2 := dk_seg dksX9_readsNumber_1 24 rfl rfl
theorem dksX9_readsNumber_3 : cX9_readsNumber.data.toList.drop 69 = dktX9_readsNumber_3 := dk_seg dksX9_readsNumber_2 22 rfl rfl
theorem dX9_readsNumber_0 : decode cX9_readsNumber 0 = .ok (.aload_n 0, 1) := dk_42 (dk_at dksX9_readsNumber_0 0 rfl rfl)
theorem dX9_readsNumber_1 : decode cX9_readsNumber 1 = .ok (.getfield 43, 3) := dk_180 0 43 (dk_at dksX9_readsNumber_0 1 rfl rfl)
theorem dX9_readsNumber_4 : decode cX9_readsNumber 4 = .ok (.iload_n 1, 1) := dk_27 (dk_at dksX9_readsNumber_0 4 rfl rfl)
theorem dX9_readsNumber_5 : decode cX9_readsNumber 5 = .ok (.iconst 0, 1) := dk_3 (dk_at dksX9_readsNumber_0 5 rfl rfl)
theorem dX9_readsNumber_6 : decode cX9_readsNumber 6 = .ok (.iastore, 1) := dk_79 (dk_at dksX9_readsNumber_0 6 rfl rfl)
theorem dX9_readsNumber_7 : decode cX9_readsNumber 7 = .ok (.iconst 0, 1) := dk_3 (dk_at dksX9_readsNumber_0 7 rfl rfl)
theorem dX9_readsNumber_8 : decode cX9_readsNumber 8 = .ok (.istore_n 3, 1) := dk_62 (dk_at dksX9_readsNumber_0 8 rfl rfl)
theorem dX9_readsNumber_9 : decode cX9_readsNumber 9 = .ok (.iload_n 3, 1) := dk_29 (dk_at dksX9_readsNumber_0 9 rfl rfl)
theorem dX9_readsNumber_10 : decode cX9_readsNumber 10 = .ok (.iload_n 2, 1) := dk_28 (dk_at dksX9_readsNumber_0 10 rfl rfl)
theorem dX9_readsNumber_11 : decode cX9_readsNumber 11 = .ok (.if_icmp .ge 57, 3) := dk_162 0 57 (dk_at dksX9_readsNumber_0 11 rfl rfl)
theorem dX9_readsNumber_14 : decode cX9_readsNumber 14 = .ok (.aload_n 0, 1) := dk_42 (dk_at dksX9_readsNumber_0 14 rfl rfl)
theorem dX9_readsNumber_15 : decode cX9_readsNumber 15 = .ok (.invokevirtual 126, 3) := dk_182 0 126 (dk_at dksX9_readsNumber_0 15 rfl rfl)
theorem dX9_readsNumber_18 : decode cX9_readsNumber 18 = .ok (.bipush 48, 2) := dk_16 48 (dk_at dksX9_readsNumber_0 18 rfl rfl)
theorem dX9_readsNumber_20 : decode cX9_readsNumber 20 = .ok (.isub, 1) := dk_100 (dk_at dksX9_readsNumber_0 20 rfl rfl)
theorem dX9_readsNumber_21 : decode cX9_readsNumber 21 = .ok (.bipush 10, 2) := dk_16 10 (dk_at dksX9_readsNumber_0 21 rfl rfl)
theorem dX9_readsNumber_23 : decode cX9_readsNumber 23 = .ok (.invokestatic 53, 3) := dk_184 0 53 (dk_at dksX9_readsNumber_1 0 rfl rfl)
theorem dX9_readsNumber_26 : decode cX9_readsNumber 26 = .ok (.ifCond .eq 42, 3) := dk_153 0 42 (dk_at dksX9_readsNumber_1 3 rfl rfl)
theorem dX9_readsNumber_29 : decode cX9_readsNumber 29 = .ok (.aload_n 0, 1) := dk_42 (dk_at dksX9_readsNumber_1 6 rfl rfl)
theorem dX9_readsNumber_30 : decode cX9_readsNumber 30 = .ok (.getfield 43, 3) := dk_180 0 43 (dk_at dksX9_readsNumber_1 7 rfl rfl)
theorem dX9_readsNumber_33 : decode cX9_readsNumber 33 = .ok (.iload_n 1, 1) := dk_27 (dk_at dksX9_readsNumber_1 10 rfl rfl)
theorem dX9_readsNumber_34 : decode cX9_readsNumber 34 = .ok (.bipush 10, 2) := dk_16 10 (dk_at dksX9_readsNumber_1 11 rfl rfl)
theorem dX9_readsNumber_36 : decode cX9_readsNumber 36 = .ok (.aload_n 0, 1) := dk_42 (dk_at dksX9_readsNumber_1 13 rfl rfl)
theorem dX9_readsNumber_37 : decode cX9_readsNumber 37 = .ok (.getfield 43, 3) := dk_180 0 43 (dk_at dksX9_readsNumber_1 14 rfl rfl)
theorem dX9_readsNumber_40 : decode cX9_readsNumber 40 = .ok (.iload_n 1, 1) := dk_27 (dk_at dksX9_readsNumber_1 17 rfl rfl)
theorem dX9_readsNumber_41 : decode cX9_readsNumber 41 = .ok (.iaload, 1) := dk_46 (dk_at dksX9_readsNumber_1 18 rfl rfl)
theorem dX9_readsNumber_42 : decode cX9_readsNumber 42 = .ok (.imul, 1) := dk_104 (dk_at dksX9_readsNumber_1 19 rfl rfl)
theorem dX9_readsNumber_43 : decode cX9_readsNumber 43 = .ok (.aload_n 0, 1) := dk_42 (dk_at dksX9_readsNumber_1 20 rfl rfl)
theorem dX9_readsNumber_44 : decode cX9_readsNumber 44 = .ok (.invokevirtual 126, 3) := dk_182 0 126 (dk_at dksX9_readsNumber_1 21 rfl rfl)
theorem dX9_readsNumber_47 : decode cX9_readsNumber 47 = .ok (.iadd, 1) := dk_96 (dk_at dksX9_readsNumber_2 0 rfl rfl)
theorem dX9_readsNumber_48 : decode cX9_readsNumber 48 = .ok (.bipush 48, 2) := dk_16 48 (dk_at dksX9_readsNumber_2 1 rfl rfl)
theorem dX9_readsNumber_50 : decode cX9_readsNumber 50 = .ok (.isub, 1) := dk_100 (dk_at dksX9_readsNumber_2 3 rfl rfl)
theorem dX9_readsNumber_51 : decode cX9_readsNumber 51 = .ok (.iastore, 1) := dk_79 (dk_at dksX9_readsNumber_2 4 rfl rfl)
theorem dX9_readsNumber_52 : decode cX9_readsNumber 52 = .ok (.aload_n 0, 1) := dk_42 (dk_at dksX9_readsNumber_2 5 rfl rfl)
theorem dX9_readsNumber_53 : decode cX9_readsNumber 53 = .ok (.dup, 1) := dk_89 (dk_at dksX9_readsNumber_2 6 rfl rfl)
theorem dX9_readsNumber_54 : decode cX9_readsNumber 54 = .ok (.getfield 123, 3) := dk_180 0 123 (dk_at dksX9_readsNumber_2 7 rfl rfl)
theorem dX9_readsNumber_57 : decode cX9_readsNumber 57 = .ok (.iconst 1, 1) := dk_4 (dk_at dksX9_readsNumber_2 10 rfl rfl)
theorem dX9_readsNumber_58 : decode cX9_readsNumber 58 = .ok (.iadd, 1) := dk_96 (dk_at dksX9_readsNumber_2 11 rfl rfl)
theorem dX9_readsNumber_59 : decode cX9_readsNumber 59 = .ok (.putfield 123, 3) := dk_181 0 123 (dk_at dksX9_readsNumber_2 12 rfl rfl)
theorem dX9_readsNumber_62 : decode cX9_readsNumber 62 = .ok (.iinc 3 1, 3) := dk_132 3 1 (dk_at dksX9_readsNumber_2 15 rfl rfl)
theorem dX9_readsNumber_65 : decode cX9_readsNumber 65 = .ok (.goto (-56), 3) := dk_167 255 200 (dk_at dksX9_readsNumber_2 18 rfl rfl)
theorem dX9_readsNumber_68 : decode cX9_readsNumber 68 = .ok (.iload_n 3, 1) := dk_29 (dk_at dksX9_readsNumber_2 21 rfl rfl)
theorem dX9_readsNumber_69 : decode cX9_readsNumber 69 = .ok (.ifCond .le 7, 3) := dk_158 0 7 (dk_at dksX9_readsNumber_3 0 rfl rfl)
theorem dX9_readsNumber_72 : decode cX9_readsNumber 72 = .ok (.iconst 1, 1) := dk_4 (dk_at dksX9_readsNumber_3 3 rfl rfl)
theorem dX9_readsNumber_73 : decode cX9_readsNumber 73 = .ok (.goto 4, 3) := dk_167 0 4 (dk_at dksX9_readsNumber_3 4 rfl rfl)
theorem dX9_readsNumber_76 : decode cX9_readsNumber 76 = .ok (.iconst 0, 1) := dk_3 (dk_at dksX9_readsNumber_3 7 rfl rfl)
theorem dX9_readsNumber_77 : decode cX9_readsNumber 77 = .ok (.ireturn, 1) := dk_172 (dk_at dksX9_readsNumber_3 8 rfl rfl)
abbrev cX9_isIn : ByteArray := prog_28_method_3_code
def yX9_isIn : MethodName := ⟨RX9, "isIn", "(II)Z"⟩
def dkwX9_isIn_0 : List UInt8 := [26, 155, 0, 12, 26, 27, 162, 0, 7, 4, 167, 0, 4, 3, 172]
abbrev dktX9_isIn_0 : List UInt8 := dkwX9_isIn_0 ++ []
theorem dksX9_isIn_0 : cX9_isIn.data.toList.drop 0 = dktX9_isIn_0 := by decide +kernel
theorem dX9_isIn_0 : decode cX9_isIn 0 = .ok (.iload_n 0, 1) := dk_26 (dk_at dksX9_isIn_0 0 rfl rfl)
theorem dX9_isIn_1 : decode cX9_isIn 1 = .ok (.ifCond .lt 12, 3) := dk_155 0 12 (dk_at dksX9_isIn_0 1 rfl rfl)
theorem dX9_isIn_4 : decode cX9_isIn 4 = .ok (.iload_n 0, 1) := dk_26 (dk_at dksX9_isIn_0 4 rfl rfl)
theorem dX9_isIn_5 : decode cX9_isIn 5 = .ok (.iload_n 1, 1) := dk_27 (dk_at dksX9_isIn_0 5 rfl rfl)
theorem dX9_isIn_6 : decode cX9_isIn 6 = .ok (.if_icmp .ge 7, 3) := dk_162 0 7 (dk_at dksX9_isIn_0 6 rfl rfl)
theorem dX9_isIn_9 : decode cX9_isIn 9 = .ok (.iconst 1, 1) := dk_4 (dk_at dksX9_isIn_0 9 rfl rfl)
theorem dX9_isIn_10 : decode cX9_isIn 10 = .ok (.goto 4, 3) := dk_167 0 4 (dk_at dksX9_isIn_0 10 rfl rfl)
theorem dX9_isIn_13 : decode cX9_isIn 13 = .ok (.iconst 0, 1) := dk_3 (dk_at dksX9_isIn_0 13 rfl rfl)
theorem dX9_isIn_14 : decode cX9_isIn 14 = .ok (.ireturn, 1) := dk_172 (dk_at dksX9_isIn_0 14 rfl rfl)
abbrev cX9_songOf : ByteArray := prog_28_method_30_code
def yX9_songOf : MethodName := ⟨RX9, "songOf", "(I)I"⟩
def dkwX9_songOf_2 : List UInt8 := [167, 0, 15, 26, 16, 104, 160, 0, 7, 8, 167, 0, 5, 16, 247, 172]
abbrev dktX9_songOf_2 : List UInt8 := dkwX9_songOf_2 ++ []
def dkwX9_songOf_1 : List UInt8 := [160, 0, 7, 5, 167, 0, 35, 26, 16, 99, 160, 0, 7, 6, 167, 0, 25, 26, 16, 106, 160, 0, 7, 7]
abbrev dktX9_songOf_1 : List UInt8 := dkwX9_songOf_1 ++ dktX9_songOf_2
def dkwX9_songOf_0 : List UInt8 := [26, 16, 115, 160, 0, 7, 3, 167, 0, 55, 26, 16, 108, 160, 0, 7, 4, 167, 0, 45, 26, 16, 113]
abbrev dktX9_songOf_0 : List UInt8 := dkwX9_songOf_0 ++ dktX9_songOf_1
theorem dksX9_songOf_0 : cX9_songOf.data.toList.drop 0 = dktX9_songOf_0 := by decide +kernel
theorem dksX9_songOf_1 : cX9_songOf.data.toList.drop 23 = dktX9_songOf_1 := dk_seg dksX9_songOf_0 23 rfl rfl
theorem dksX9_songOf_2 : cX9_songOf.data.toList.drop 47 = dktX9_songOf_2 := dk_seg dksX9_songOf_1 24 rfl rfl
theorem dX9_songOf_0 : decode cX9_songOf 0 = .ok (.iload_n 0, 1) := dk_26 (dk_at dksX9_songOf_0 0 rfl rfl)
theorem dX9_songOf_1 : decode cX9_songOf 1 = .ok (.bipush 115, 2) := dk_16 115 (dk_at dksX9_songOf_0 1 rfl rfl)
theorem dX9_songOf_3 : decode cX9_songOf 3 = .ok (.if_icmp .ne 7, 3) := dk_160 0 7 (dk_at dksX9_songOf_0 3 rfl rfl)
theorem dX9_songOf_6 : decode cX9_songOf 6 = .ok (.iconst 0, 1) := dk_3 (dk_at dksX9_songOf_0 6 rfl rfl)
theorem dX9_songOf_7 : decode cX9_songOf 7 = .ok (.goto 55, 3) := dk_167 0 55 (dk_at dksX9_songOf_0 7 rfl rfl)
theorem dX9_songOf_10 : decode cX9_songOf 10 = .ok (.iload_n 0, 1) := dk_26 (dk_at dksX9_songOf_0 10 rfl rfl)
theorem dX9_songOf_11 : decode cX9_songOf 11 = .ok (.bipush 108, 2) := dk_16 108 (dk_at dksX9_songOf_0 11 rfl rfl)
theorem dX9_songOf_13 : decode cX9_songOf 13 = .ok (.if_icmp .ne 7, 3) := dk_160 0 7 (dk_at dksX9_songOf_0 13 rfl rfl)
theorem dX9_songOf_16 : decode cX9_songOf 16 = .ok (.iconst 1, 1) := dk_4 (dk_at dksX9_songOf_0 16 rfl rfl)
theorem dX9_songOf_17 : decode cX9_songOf 17 = .ok (.goto 45, 3) := dk_167 0 45 (dk_at dksX9_songOf_0 17 rfl rfl)
theorem dX9_songOf_20 : decode cX9_songOf 20 = .ok (.iload_n 0, 1) := dk_26 (dk_at dksX9_songOf_0 20 rfl rfl)
theorem dX9_songOf_21 : decode cX9_songOf 21 = .ok (.bipush 113, 2) := dk_16 113 (dk_at dksX9_songOf_0 21 rfl rfl)
theorem dX9_songOf_23 : decode cX9_songOf 23 = .ok (.if_icmp .ne 7, 3) := dk_160 0 7 (dk_at dksX9_songOf_1 0 rfl rfl)
theorem dX9_songOf_26 : decode cX9_songOf 26 = .ok (.iconst 2, 1) := dk_5 (dk_at dksX9_songOf_1 3 rfl rfl)
theorem dX9_songOf_27 : decode cX9_songOf 27 = .ok (.goto 35, 3) := dk_167 0 35 (dk_at dksX9_songOf_1 4 rfl rfl)
theorem dX9_songOf_30 : decode cX9_songOf 30 = .ok (.iload_n 0, 1) := dk_26 (dk_at dksX9_songOf_1 7 rfl rfl)
theorem dX9_songOf_31 : decode cX9_songOf 31 = .ok (.bipush 99, 2) := dk_16 99 (dk_at dksX9_songOf_1 8 rfl rfl)
theorem dX9_songOf_33 : decode cX9_songOf 33 = .ok (.if_icmp .ne 7, 3) := dk_160 0 7 (dk_at dksX9_songOf_1 10 rfl rfl)
theorem dX9_songOf_36 : decode cX9_songOf 36 = .ok (.iconst 3, 1) := dk_6 (dk_at dksX9_songOf_1 13 rfl rfl)
theorem dX9_songOf_37 : decode cX9_songOf 37 = .ok (.goto 25, 3) := dk_167 0 25 (dk_at dksX9_songOf_1 14 rfl rfl)
theorem dX9_songOf_40 : decode cX9_songOf 40 = .ok (.iload_n 0, 1) := dk_26 (dk_at dksX9_songOf_1 17 rfl rfl)
theorem dX9_songOf_41 : decode cX9_songOf 41 = .ok (.bipush 106, 2) := dk_16 106 (dk_at dksX9_songOf_1 18 rfl rfl)
theorem dX9_songOf_43 : decode cX9_songOf 43 = .ok (.if_icmp .ne 7, 3) := dk_160 0 7 (dk_at dksX9_songOf_1 20 rfl rfl)
theorem dX9_songOf_46 : decode cX9_songOf 46 = .ok (.iconst 4, 1) := dk_7 (dk_at dksX9_songOf_1 23 rfl rfl)
theorem dX9_songOf_47 : decode cX9_songOf 47 = .ok (.goto 15, 3) := dk_167 0 15 (dk_at dksX9_songOf_2 0 rfl rfl)
theorem dX9_songOf_50 : decode cX9_songOf 50 = .ok (.iload_n 0, 1) := dk_26 (dk_at dksX9_songOf_2 3 rfl rfl)
theorem dX9_songOf_51 : decode cX9_songOf 51 = .ok (.bipush 104, 2) := dk_16 104 (dk_at dksX9_songOf_2 4 rfl rfl)
theorem dX9_songOf_53 : decode cX9_songOf 53 = .ok (.if_icmp .ne 7, 3) := dk_160 0 7 (dk_at dksX9_songOf_2 6 rfl rfl)
theorem dX9_songOf_56 : decode cX9_songOf 56 = .ok (.iconst 5, 1) := dk_8 (dk_at dksX9_songOf_2 9 rfl rfl)
theorem dX9_songOf_57 : decode cX9_songOf 57 = .ok (.goto 5, 3) := dk_167 0 5 (dk_at dksX9_songOf_2 10 rfl rfl)
theorem dX9_songOf_60 : decode cX9_songOf 60 = .ok (.bipush (-9), 2) := dk_16 247 (dk_at dksX9_songOf_2 13 rfl rfl)
theorem dX9_songOf_62 : decode cX9_songOf 62 = .ok (.ireturn, 1) := dk_172 (dk_at dksX9_songOf_2 15 rfl rfl)
abbrev cX9_readsKind : ByteArray := prog_28_method_32_code
def yX9_readsKind : MethodName := ⟨RX9, "readsKind", "(I)Z"⟩
def dkwX9_readsKind_1 : List UInt8 := [4, 4, 182, 0, 129, 153, 0, 16, 42, 5, 4, 182, 0, 129, 153, 0, 7, 4, 167, 0, 4, 3, 172]
abbrev dktX9_readsKind_1 : List UInt8 := dkwX9_readsKind_1 ++ []
def dkwX9_readsKind_0 : List UInt8 := [42, 180, 0, 43, 3, 27, 79, 27, 156, 0, 5, 3, 172, 42, 89, 180, 0, 123, 4, 96, 181, 0, 123, 42]
abbrev dktX9_readsKind_0 : List UInt8 := dkwX9_readsKind_0 ++ dktX9_readsKind_1
theorem dksX9_readsKind_0 : cX9_readsKind.data.toList.drop 0 = dktX9_readsKind_0 := by decide +kernel
theorem dksX9_readsKind_1 : cX9_readsKind.data.toList.drop 24 = dktX9_readsKind_1 := dk_seg dksX9_readsKind_0 24 rfl rfl
theorem dX9_readsKind_0 : decode cX9_readsKind 0 = .ok (.aload_n 0, 1) := dk_42 (dk_at dksX9_readsKind_0 0 rfl rfl)
theorem dX9_readsKind_1 : decode cX9_readsKind 1 = .ok (.getfield 43, 3) := dk_180 0 43 (dk_at dksX9_readsKind_0 1 rfl rfl)
theorem dX9_readsKind_4 : decode cX9_readsKind 4 = .ok (.iconst 0, 1) := dk_3 (dk_at dksX9_readsKind_0 4 rfl rfl)
theorem dX9_readsKind_5 : decode cX9_readsKind 5 = .ok (.iload_n 1, 1) := dk_27 (dk_at dksX9_readsKind_0 5 rfl rfl)
theorem dX9_readsKind_6 : decode cX9_readsKind 6 = .ok (.iastore, 1) := dk_79 (dk_at dksX9_readsKind_0 6 rfl rfl)
theorem dX9_readsKind_7 : decode cX9_readsKind 7 = .ok (.iload_n 1, 1) := dk_27 (dk_at dksX9_readsKind_0 7 rfl rfl)
theorem dX9_readsKind_8 : decode cX9_readsKind 8 = .ok (.ifCond .ge 5, 3) := dk_156 0 5 (dk_at dksX9_readsKind_0 8 rfl rfl)
theorem dX9_readsKind_11 : decode cX9_readsKind 11 = .ok (.iconst 0, 1) := dk_3 (dk_at dksX9_readsKind_0 11 rfl rfl)
theorem dX9_readsKind_12 : decode cX9_readsKind 12 = .ok (.ireturn, 1) := dk_172 (dk_at dksX9_readsKind_0 12 rfl rfl)
theorem dX9_readsKind_13 : decode cX9_readsKind 13 = .ok (.aload_n 0, 1) := dk_42 (dk_at dksX9_readsKind_0 13 rfl rfl)
theorem dX9_readsKind_14 : decode cX9_readsKind 14 = .ok (.dup, 1) := dk_89 (dk_at dksX9_readsKind_0 14 rfl rfl)
theorem dX9_readsKind_15 : decode cX9_readsKind 15 = .ok (.getfield 123, 3) := dk_180 0 123 (dk_at dksX9_readsKind_0 15 rfl rfl)
theorem dX9_readsKind_18 : decode cX9_readsKind 18 = .ok (.iconst 1, 1) := dk_4 (dk_at dksX9_readsKind_0 18 rfl rfl)
theorem dX9_readsKind_19 : decode cX9_readsKind 19 = .ok (.iadd, 1) := dk_96 (dk_at dksX9_readsKind_0 19 rfl rfl)
theorem dX9_readsKind_20 : decode cX9_readsKind 20 = .ok (.putfield 123, 3) := dk_181 0 123 (dk_at dksX9_readsKind_0 20 rfl rfl)
theorem dX9_readsKind_23 : decode cX9_readsKind 23 = .ok (.aload_n 0, 1) := dk_42 (dk_at dksX9_readsKind_0 23 rfl rfl)
theorem dX9_readsKind_24 : decode cX9_readsKind 24 = .ok (.iconst 1, 1) := dk_4 (dk_at dksX9_readsKind_1 0 rfl rfl)
theorem dX9_readsKind_25 : decode cX9_readsKind 25 = .ok (.iconst 1, 1) := dk_4 (dk_at dksX9_readsKind_1 1 rfl rfl)
theorem dX9_readsKind_26 : decode cX9_readsKind 26 = .ok (.invokevirtual 129, 3) := dk_182 0 129 (dk_at dksX9_readsKind_1 2 rfl rfl)
theorem dX9_readsKind_29 : decode cX9_readsKind 29 = .ok (.ifCond .eq 16, 3) := dk_153 0 16 (dk_at dksX9_readsKind_1 5 rfl rfl)
theorem dX9_readsKind_32 : decode cX9_readsKind 32 = .ok (.aload_n 0, 1) := dk_42 (dk_at dksX9_readsKind_1 8 rfl rfl)
theorem dX9_readsKind_33 : decode cX9_readsKind 33 = .ok (.iconst 2, 1) := dk_5 (dk_at dksX9_readsKind_1 9 rfl rfl)
theorem dX9_readsKind_34 : decode cX9_readsKind 34 = .ok (.iconst 1, 1) := dk_4 (dk_at dksX9_readsKind_1 10 rfl rfl)
theorem dX9_readsKind_35 : decode cX9_readsKind 35 = .ok (.invokevirtual 129, 3) := dk_182 0 129 (dk_at dksX9_readsKind_1 11 rfl rfl)
theorem dX9_readsKind_38 : decode cX9_readsKind 38 = .ok (.ifCond .eq 7, 3) := dk_153 0 7 (dk_at dksX9_readsKind_1 14 rfl rfl)
theorem dX9_readsKind_41 : decode cX9_readsKind 41 = .ok (.iconst 1, 1) := dk_4 (dk_at dksX9_readsKind_1 17 rfl rfl)
theorem dX9_readsKind_42 : decode cX9_readsKind 42 = .ok (.goto 4, 3) := dk_167 0 4 (dk_at dksX9_readsKind_1 18 rfl rfl)
theorem dX9_readsKind_45 : decode cX9_readsKind 45 = .ok (.iconst 0, 1) := dk_3 (dk_at dksX9_readsKind_1 21 rfl rfl)
theorem dX9_readsKind_46 : decode cX9_readsKind 46 = .ok (.ireturn, 1) := dk_172 (dk_at dksX9_readsKind_1 22 rfl rfl)
abbrev cX9_headOf : ByteArray := prog_28_method_31_code
def yX9_headOf : MethodName := ⟨RX9, "headOf", "(I)I"⟩
def dkwX9_headOf_2 : List UInt8 := [167, 0, 15, 26, 16, 121, 160, 0, 7, 8, 167, 0, 5, 16, 247, 172]
abbrev dktX9_headOf_2 : List UInt8 := dkwX9_headOf_2 ++ []
def dkwX9_headOf_1 : List UInt8 := [160, 0, 7, 5, 167, 0, 35, 26, 16, 116, 160, 0, 7, 6, 167, 0, 25, 26, 16, 98, 160, 0, 7, 7]
abbrev dktX9_headOf_1 : List UInt8 := dkwX9_headOf_1 ++ dktX9_headOf_2
def dkwX9_headOf_0 : List UInt8 := [26, 16, 104, 160, 0, 7, 3, 167, 0, 55, 26, 16, 119, 160, 0, 7, 4, 167, 0, 45, 26, 16, 100]
abbrev dktX9_headOf_0 : List UInt8 := dkwX9_headOf_0 ++ dktX9_headOf_1
theorem dksX9_headOf_0 : cX9_headOf.data.toList.drop 0 = dktX9_headOf_0 := by decide +kernel
theorem dksX9_headOf_1 : cX9_headOf.data.toList.drop 23 = dktX9_headOf_1 := dk_seg dksX9_headOf_0 23 rfl rfl
theorem dksX9_headOf_2 : cX9_headOf.data.toList.drop 47 = dktX9_headOf_2 := dk_seg dksX9_headOf_1 24 rfl rfl
theorem dX9_headOf_0 : decode cX9_headOf 0 = .ok (.iload_n 0, 1) := dk_26 (dk_at dksX9_headOf_0 0 rfl rfl)
theorem dX9_headOf_1 : decode cX9_headOf 1 = .ok (.bipush 104, 2) := dk_16 104 (dk_at dksX9_headOf_0 1 rfl rfl)
theorem dX9_headOf_3 : decode cX9_headOf 3 = .ok (.if_icmp .ne 7, 3) := dk_160 0 7 (dk_at dksX9_headOf_0 3 rfl rfl)
theorem dX9_headOf_6 : decode cX9_headOf 6 = .ok (.iconst 0, 1) := dk_3 (dk_at dksX9_headOf_0 6 rfl rfl)
theorem dX9_headOf_7 : decode cX9_headOf 7 = .ok (.goto 55, 3) := dk_167 0 55 (dk_at dksX9_headOf_0 7 rfl rfl)
theorem dX9_headOf_10 : decode cX9_headOf 10 = .ok (.iload_n 0, 1) := dk_26 (dk_at dksX9_headOf_0 10 rfl rfl)
theorem dX9_headOf_11 : decode cX9_headOf 11 = .ok (.bipush 119, 2) := dk_16 119 (dk_at dksX9_headOf_0 11 rfl rfl)
theorem dX9_headOf_13 : decode cX9_headOf 13 = .ok (.if_icmp .ne 7, 3) := dk_160 0 7 (dk_at dksX9_headOf_0 13 rfl rfl)
theorem dX9_headOf_16 : decode cX9_headOf 16 = .ok (.iconst 1, 1) := dk_4 (dk_at dksX9_headOf_0 16 rfl rfl)
theorem dX9_headOf_17 : decode cX9_headOf 17 = .ok (.goto 45, 3) := dk_167 0 45 (dk_at dksX9_headOf_0 17 rfl rfl)
theorem dX9_headOf_20 : decode cX9_headOf 20 = .ok (.iload_n 0, 1) := dk_26 (dk_at dksX9_headOf_0 20 rfl rfl)
theorem dX9_headOf_21 : decode cX9_headOf 21 = .ok (.bipush 100, 2) := dk_16 100 (dk_at dksX9_headOf_0 21 rfl rfl)
theorem dX9_headOf_23 : decode cX9_headOf 23 = .ok (.if_icmp .ne 7, 3) := dk_160 0 7 (dk_at dksX9_headOf_1 0 rfl rfl)
theorem dX9_headOf_26 : decode cX9_headOf 26 = .ok (.iconst 2, 1) := dk_5 (dk_at dksX9_headOf_1 3 rfl rfl)
theorem dX9_headOf_27 : decode cX9_headOf 27 = .ok (.goto 35, 3) := dk_167 0 35 (dk_at dksX9_headOf_1 4 rfl rfl)
theorem dX9_headOf_30 : decode cX9_headOf 30 = .ok (.iload_n 0, 1) := dk_26 (dk_at dksX9_headOf_1 7 rfl rfl)
theorem dX9_headOf_31 : decode cX9_headOf 31 = .ok (.bipush 116, 2) := dk_16 116 (dk_at dksX9_headOf_1 8 rfl rfl)
theorem dX9_headOf_33 : decode cX9_headOf 33 = .ok (.if_icmp .ne 7, 3) := dk_160 0 7 (dk_at dksX9_headOf_1 10 rfl rfl)
theorem dX9_headOf_36 : decode cX9_headOf 36 = .ok (.iconst 3, 1) := dk_6 (dk_at dksX9_headOf_1 13 rfl rfl)
theorem dX9_headOf_37 : decode cX9_headOf 37 = .ok (.goto 25, 3) := dk_167 0 25 (dk_at dksX9_headOf_1 14 rfl rfl)
theorem dX9_headOf_40 : decode cX9_headOf 40 = .ok (.iload_n 0, 1) := dk_26 (dk_at dksX9_headOf_1 17 rfl rfl)
theorem dX9_headOf_41 : decode cX9_headOf 41 = .ok (.bipush 98, 2) := dk_16 98 (dk_at dksX9_headOf_1 18 rfl rfl)
theorem dX9_headOf_43 : decode cX9_headOf 43 = .ok (.if_icmp .ne 7, 3) := dk_160 0 7 (dk_at dksX9_headOf_1 20 rfl rfl)
theorem dX9_headOf_46 : decode cX9_headOf 46 = .ok (.iconst 4, 1) := dk_7 (dk_at dksX9_headOf_1 23 rfl rfl)
theorem dX9_headOf_47 : decode cX9_headOf 47 = .ok (.goto 15, 3) := dk_167 0 15 (dk_at dksX9_headOf_2 0 rfl rfl)
theorem dX9_headOf_50 : decode cX9_headOf 50 = .ok (.iload_n 0, 1) := dk_26 (dk_at dksX9_headOf_2 3 rfl rfl)
theorem dX9_headOf_51 : decode cX9_headOf 51 = .ok (.bipush 121, 2) := dk_16 121 (dk_at dksX9_headOf_2 4 rfl rfl)
theorem dX9_headOf_53 : decode cX9_headOf 53 = .ok (.if_icmp .ne 7, 3) := dk_160 0 7 (dk_at dksX9_headOf_2 6 rfl rfl)
theorem dX9_headOf_56 : decode cX9_headOf 56 = .ok (.iconst 5, 1) := dk_8 (dk_at dksX9_headOf_2 9 rfl rfl)
theorem dX9_headOf_57 : decode cX9_headOf 57 = .ok (.goto 5, 3) := dk_167 0 5 (dk_at dksX9_headOf_2 10 rfl rfl)
theorem dX9_headOf_60 : decode cX9_headOf 60 = .ok (.bipush (-9), 2) := dk_16 247 (dk_at dksX9_headOf_2 13 rfl rfl)
theorem dX9_headOf_62 : decode cX9_headOf 62 = .ok (.ireturn, 1) := dk_172 (dk_at dksX9_headOf_2 15 rfl rfl)
abbrev cX9_takes : ByteArray := prog_28_method_28_code
def yX9_takes : MethodName := ⟨RX9, "takes", "(I)Z"⟩
def dkwX9_takes_0 : List UInt8 := [42, 182, 0, 126, 27, 159, 0, 5, 3, 172, 42, 89, 180, 0, 123, 4, 96, 181, 0, 123, 4, 172]
abbrev dktX9_takes_0 : List UInt8 := dkwX9_takes_0 ++ []
theorem dksX9_takes_0 : cX9_takes.data.toList.drop 0 = dktX9_takes_0 := by decide +kernel
theorem dX9_takes_0 : decode cX9_takes 0 = .ok (.aload_n 0, 1) := dk_42 (dk_at dksX9_takes_0 0 rfl rfl)
theorem dX9_takes_1 : decode cX9_takes 1 = .ok (.invokevirtual 126, 3) := dk_182 0 126 (dk_at dksX9_takes_0 1 rfl rfl)
theorem dX9_takes_4 : decode cX9_takes 4 = .ok (.iload_n 1, 1) := dk_27 (dk_at dksX9_takes_0 4 rfl rfl)
theorem dX9_takes_5 : decode cX9_takes 5 = .ok (.if_icmp .eq 5, 3) := dk_159 0 5 (dk_at dksX9_takes_0 5 rfl rfl)
theorem dX9_takes_8 : decode cX9_takes 8 = .ok (.iconst 0, 1) := dk_3 (dk_at dksX9_takes_0 8 rfl rfl)
theorem dX9_takes_9 : decode cX9_takes 9 = .ok (.ireturn, 1) := dk_172 (dk_at dksX9_takes_0 9 rfl rfl)
theorem dX9_takes_10 : decode cX9_takes 10 = .ok (.aload_n 0, 1) := dk_42 (dk_at dksX9_takes_0 10 rfl rfl)
theorem dX9_takes_11 : decode cX9_takes 11 = .ok (.dup, 1) := dk_89 (dk_at dksX9_takes_0 11 rfl rfl)
theorem dX9_takes_12 : decode cX9_takes 12 = .ok (.getfield 123, 3) := dk_180 0 123 (dk_at dksX9_takes_0 12 rfl rfl)
theorem dX9_takes_15 : decode cX9_takes 15 = .ok (.iconst 1, 1) := dk_4 (dk_at dksX9_takes_0 15 rfl rfl)
theorem dX9_takes_16 : decode cX9_takes 16 = .ok (.iadd, 1) := dk_96 (dk_at dksX9_takes_0 16 rfl rfl)
theorem dX9_takes_17 : decode cX9_takes 17 = .ok (.putfield 123, 3) := dk_181 0 123 (dk_at dksX9_takes_0 17 rfl rfl)
theorem dX9_takes_20 : decode cX9_takes 20 = .ok (.iconst 1, 1) := dk_4 (dk_at dksX9_takes_0 20 rfl rfl)
theorem dX9_takes_21 : decode cX9_takes 21 = .ok (.ireturn, 1) := dk_172 (dk_at dksX9_takes_0 21 rfl rfl)
abbrev cX9_lays : ByteArray := prog_28_method_5_code
def yX9_lays : MethodName := ⟨RX9, "lays", "([I[I)V"⟩
def dkwX9_lays_0 : List UInt8 := [3, 61, 28, 16, 73, 162, 0, 15, 43, 28, 42, 28, 46, 79, 132, 2, 1, 167, 255, 241, 177]
abbrev dktX9_lays_0 : List UInt8 := dkwX9_lays_0 ++ []
theorem dksX9_lays_0 : cX9_lays.data.toList.drop 0 = dktX9_lays_0 := by decide +kernel
theorem dX9_lays_0 : decode cX9_lays 0 = .ok (.iconst 0, 1) := dk_3 (dk_at dksX9_lays_0 0 rfl rfl)
theorem dX9_lays_1 : decode cX9_lays 1 = .ok (.istore_n 2, 1) := dk_61 (dk_at dksX9_lays_0 1 rfl rfl)
theorem dX9_lays_2 : decode cX9_lays 2 = .ok (.iload_n 2, 1) := dk_28 (dk_at dksX9_lays_0 2 rfl rfl)
theorem dX9_lays_3 : decode cX9_lays 3 = .ok (.bipush 73, 2) := dk_16 73 (dk_at dksX9_lays_0 3 rfl rfl)
theorem dX9_lays_5 : decode cX9_lays 5 = .ok (.if_icmp .ge 15, 3) := dk_162 0 15 (dk_at dksX9_lays_0 5 rfl rfl)
theorem dX9_lays_8 : decode cX9_lays 8 = .ok (.aload_n 1, 1) := dk_43 (dk_at dksX9_lays_0 8 rfl rfl)
theorem dX9_lays_9 : decode cX9_lays 9 = .ok (.iload_n 2, 1) := dk_28 (dk_at dksX9_lays_0 9 rfl rfl)
theorem dX9_lays_10 : decode cX9_lays 10 = .ok (.aload_n 0, 1) := dk_42 (dk_at dksX9_lays_0 10 rfl rfl)
theorem dX9_lays_11 : decode cX9_lays 11 = .ok (.iload_n 2, 1) := dk_28 (dk_at dksX9_lays_0 11 rfl rfl)
theorem dX9_lays_12 : decode cX9_lays 12 = .ok (.iaload, 1) := dk_46 (dk_at dksX9_lays_0 12 rfl rfl)
theorem dX9_lays_13 : decode cX9_lays 13 = .ok (.iastore, 1) := dk_79 (dk_at dksX9_lays_0 13 rfl rfl)
theorem dX9_lays_14 : decode cX9_lays 14 = .ok (.iinc 2 1, 3) := dk_132 2 1 (dk_at dksX9_lays_0 14 rfl rfl)
theorem dX9_lays_17 : decode cX9_lays 17 = .ok (.goto (-15), 3) := dk_167 255 241 (dk_at dksX9_lays_0 17 rfl rfl)
theorem dX9_lays_20 : decode cX9_lays 20 = .ok (.return_, 1) := dk_177 (dk_at dksX9_lays_0 20 rfl rfl)
abbrev cX9_comes : ByteArray := prog_28_method_34_code
def yX9_comes : MethodName := ⟨RX9, "comes", "(I)Z"⟩
def dkwX9_comes_15 : List UInt8 := [3, 172, 42, 180, 0, 13, 8, 28, 79, 4, 172]
abbrev dktX9_comes_15 : List UInt8 := dkwX9_comes_15 ++ []
def dkwX9_comes_14 : List UInt8 := [154, 0, 5, 3, 172, 42, 28, 29, 182, 0, 81, 4, 172, 28, 4, 161, 0, 9, 28, 16, 20, 164, 0, 5]
abbrev dktX9_comes_14 : List UInt8 := dkwX9_comes_14 ++ dktX9_comes_15
def dkwX9_comes_13 : List UInt8 := [180, 0, 13, 6, 92, 46, 4, 96, 79, 4, 172, 42, 28, 182, 0, 144, 153, 0, 11, 42, 29, 182, 0, 147]
abbrev dktX9_comes_13 : List UInt8 := dkwX9_comes_13 ++ dktX9_comes_14
def dkwX9_comes_12 : List UInt8 := [180, 0, 13, 6, 46, 7, 3, 182, 0, 64, 42, 42, 180, 0, 13, 6, 46, 8, 3, 182, 0, 64, 42]
abbrev dktX9_comes_12 : List UInt8 := dkwX9_comes_12 ++ dktX9_comes_13
def dkwX9_comes_11 : List UInt8 := [182, 0, 64, 132, 4, 1, 167, 255, 228, 42, 42, 180, 0, 13, 6, 46, 6, 16, 247, 182, 0, 64, 42, 42]
abbrev dktX9_comes_11 : List UInt8 := dkwX9_comes_11 ++ dktX9_comes_12
def dkwX9_comes_10 : List UInt8 := [21, 4, 6, 162, 0, 28, 42, 42, 180, 0, 13, 6, 46, 21, 4, 42, 180, 0, 43, 21, 4, 46]
abbrev dktX9_comes_10 : List UInt8 := dkwX9_comes_10 ++ dktX9_comes_11
def dkwX9_comes_9 : List UInt8 := [4, 172, 29, 8, 162, 0, 14, 42, 180, 0, 13, 6, 46, 16, 6, 160, 0, 5, 3, 172, 3, 54, 4]
abbrev dktX9_comes_9 : List UInt8 := dkwX9_comes_9 ++ dktX9_comes_10
def dkwX9_comes_8 : List UInt8 := [42, 180, 0, 43, 21, 4, 46, 79, 132, 4, 1, 167, 255, 221, 42, 180, 0, 13, 5, 92, 46, 4, 96, 79]
abbrev dktX9_comes_8 : List UInt8 := dkwX9_comes_8 ++ dktX9_comes_9
def dkwX9_comes_7 : List UInt8 := [21, 4, 6, 162, 0, 35, 42, 180, 0, 13, 16, 22, 6, 42, 180, 0, 13, 5, 46, 104, 96, 21, 4, 96]
abbrev dktX9_comes_7 : List UInt8 := dkwX9_comes_7 ++ dktX9_comes_8
def dkwX9_comes_6 : List UInt8 := [180, 0, 43, 5, 46, 4, 161, 0, 13, 42, 180, 0, 13, 5, 46, 8, 160, 0, 5, 3, 172, 3, 54, 4]
abbrev dktX9_comes_6 : List UInt8 := dkwX9_comes_6 ++ dktX9_comes_7
def dkwX9_comes_5 : List UInt8 := [46, 4, 42, 180, 0, 13, 3, 46, 120, 128, 79, 42, 180, 0, 13, 3, 92, 46, 4, 96, 79, 4, 172, 42]
abbrev dktX9_comes_5 : List UInt8 := dkwX9_comes_5 ++ dktX9_comes_6
def dkwX9_comes_4 : List UInt8 := [180, 0, 13, 16, 6, 5, 42, 180, 0, 13, 3, 46, 104, 96, 4, 96, 29, 79, 42, 180, 0, 13, 4, 92]
abbrev dktX9_comes_4 : List UInt8 := dkwX9_comes_4 ++ dktX9_comes_5
def dkwX9_comes_3 : List UInt8 := [160, 0, 5, 3, 172, 42, 180, 0, 13, 16, 6, 5, 42, 180, 0, 13, 3, 46, 104, 96, 28, 79, 42]
abbrev dktX9_comes_3 : List UInt8 := dkwX9_comes_3 ++ dktX9_comes_4
def dkwX9_comes_2 : List UInt8 := [28, 8, 162, 0, 24, 29, 8, 162, 0, 19, 28, 29, 159, 0, 14, 42, 180, 0, 13, 3, 46, 16, 8]
abbrev dktX9_comes_2 : List UInt8 := dkwX9_comes_2 ++ dktX9_comes_3
def dkwX9_comes_1 : List UInt8 := [171, 0, 0, 1, 80, 0, 0, 0, 4, 0, 0, 0, 100, 0, 0, 0, 41, 0, 0, 0, 103, 0, 0, 1, 54, 0, 0, 0, 104, 0, 0, 0, 209, 0, 0, 0, 115, 0, 0, 0, 134]
abbrev dktX9_comes_1 : List UInt8 := dkwX9_comes_1 ++ dktX9_comes_2
def dkwX9_comes_0 : List UInt8 := [42, 180, 0, 43, 3, 46, 61, 42, 180, 0, 43, 4, 46, 62, 27]
abbrev dktX9_comes_0 : List UInt8 := dkwX9_comes_0 ++ dktX9_comes_1
theorem dksX9_comes_0 : cX9_comes.data.toList.drop 0 = dktX9_comes_0 := by decide +kernel
theorem dksX9_comes_1 : cX9_comes.data.toList.drop 15 = dktX9_comes_1 := dk_seg dksX9_comes_0 15 rfl rfl
theorem dksX9_comes_2 : cX9_comes.data.toList.drop 56 = dktX9_comes_2 := dk_seg dksX9_comes_1 41 rfl rfl
theorem dksX9_comes_3 : cX9_comes.data.toList.drop 79 = dktX9_comes_3 := dk_seg dksX9_comes_2 23 rfl rfl
theorem dksX9_comes_4 : cX9_comes.data.toList.drop 102 = dktX9_comes_4 := dk_seg dksX9_comes_3 23 rfl rfl
theorem dksX9_comes_5 : cX9_comes.data.toList.drop 126 = dktX9_comes_5 := dk_seg dksX9_comes_4 24 rfl rfl
theorem dksX9_comes_6 : cX9_comes.data.toList.drop 150 = dktX9_comes_6 := dk_seg dksX9_comes_5 24 rfl rfl
theorem dksX9_comes_7 : cX9_comes.data.toList.drop 174 = dktX9_comes_7 := dk_seg dksX9_comes_6 24 rfl rfl
theorem dksX9_comes_8 : cX9_comes.data.toList.drop 198 = dktX9_comes_8 := dk_seg dksX9_comes_7 24 rfl rfl
theorem dksX9_comes_9 : cX9_comes.data.toList.drop 222 = dktX9_comes_9 := dk_seg dksX9_comes_8 24 rfl rfl
theorem dksX9_comes_10 : cX9_comes.data.toList.drop 245 = dktX9_comes_10 := dk_seg dksX9_comes_9 23 rfl rfl
theorem dksX9_comes_11 : cX9_comes.data.toList.drop 267 = dktX9_comes_11 := dk_seg dksX9_comes_10 22 rfl rfl
theorem dksX9_comes_12 : cX9_comes.data.toList.drop 291 = dktX9_comes_12 := dk_seg dksX9_comes_11 24 rfl rfl
theorem dksX9_comes_13 : cX9_comes.data.toList.drop 314 = dktX9_comes_13 := dk_seg dksX9_comes_12 23 rfl rfl
theorem dksX9_comes_14 : cX9_comes.data.toList.drop 338 = dktX9_comes_14 := dk_seg dksX9_comes_13 24 rfl rfl
theorem dksX9_comes_15 : cX9_comes.data.toList.drop 362 = dktX9_comes_15 := dk_seg dksX9_comes_14 24 rfl rfl
theorem dX9_comes_0 : decode cX9_comes 0 = .ok (.aload_n 0, 1) := dk_42 (dk_at dksX9_comes_0 0 rfl rfl)
theorem dX9_comes_1 : decode cX9_comes 1 = .ok (.getfield 43, 3) := dk_180 0 43 (dk_at dksX9_comes_0 1 rfl rfl)
theorem dX9_comes_4 : decode cX9_comes 4 = .ok (.iconst 0, 1) := dk_3 (dk_at dksX9_comes_0 4 rfl rfl)
theorem dX9_comes_5 : decode cX9_comes 5 = .ok (.iaload, 1) := dk_46 (dk_at dksX9_comes_0 5 rfl rfl)
theorem dX9_comes_6 : decode cX9_comes 6 = .ok (.istore_n 2, 1) := dk_61 (dk_at dksX9_comes_0 6 rfl rfl)
theorem dX9_comes_7 : decode cX9_comes 7 = .ok (.aload_n 0, 1) := dk_42 (dk_at dksX9_comes_0 7 rfl rfl)
theorem dX9_comes_8 : decode cX9_comes 8 = .ok (.getfield 43, 3) := dk_180 0 43 (dk_at dksX9_comes_0 8 rfl rfl)
theorem dX9_comes_11 : decode cX9_comes 11 = .ok (.iconst 1, 1) := dk_4 (dk_at dksX9_comes_0 11 rfl rfl)
theorem dX9_comes_12 : decode cX9_comes 12 = .ok (.iaload, 1) := dk_46 (dk_at dksX9_comes_0 12 rfl rfl)
theorem dX9_comes_13 : decode cX9_comes 13 = .ok (.istore_n 3, 1) := dk_62 (dk_at dksX9_comes_0 13 rfl rfl)
theorem dX9_comes_14 : decode cX9_comes 14 = .ok (.iload_n 1, 1) := dk_27 (dk_at dksX9_comes_0 14 rfl rfl)
theorem dX9_comes_15 : decode cX9_comes 15 = .ok (.lookupswitch 336 #[(100, 41), (103, 310), (104, 209), (115, 134)], 41) := by decide +kernel
theorem dX9_comes_56 : decode cX9_comes 56 = .ok (.iload_n 2, 1) := dk_28 (dk_at dksX9_comes_2 0 rfl rfl)
theorem dX9_comes_57 : decode cX9_comes 57 = .ok (.iconst 5, 1) := dk_8 (dk_at dksX9_comes_2 1 rfl rfl)
theorem dX9_comes_58 : decode cX9_comes 58 = .ok (.if_icmp .ge 24, 3) := dk_162 0 24 (dk_at dksX9_comes_2 2 rfl rfl)
theorem dX9_comes_61 : decode cX9_comes 61 = .ok (.iload_n 3, 1) := dk_29 (dk_at dksX9_comes_2 5 rfl rfl)
theorem dX9_comes_62 : decode cX9_comes 62 = .ok (.iconst 5, 1) := dk_8 (dk_at dksX9_comes_2 6 rfl rfl)
theorem dX9_comes_63 : decode cX9_comes 63 = .ok (.if_icmp .ge 19, 3) := dk_162 0 19 (dk_at dksX9_comes_2 7 rfl rfl)
theorem dX9_comes_66 : decode cX9_comes 66 = .ok (.iload_n 2, 1) := dk_28 (dk_at dksX9_comes_2 10 rfl rfl)
theorem dX9_comes_67 : decode cX9_comes 67 = .ok (.iload_n 3, 1) := dk_29 (dk_at dksX9_comes_2 11 rfl rfl)
theorem dX9_comes_68 : decode cX9_comes 68 = .ok (.if_icmp .eq 14, 3) := dk_159 0 14 (dk_at dksX9_comes_2 12 rfl rfl)
theorem dX9_comes_71 : decode cX9_comes 71 = .ok (.aload_n 0, 1) := dk_42 (dk_at dksX9_comes_2 15 rfl rfl)
theorem dX9_comes_72 : decode cX9_comes 72 = .ok (.getfield 13, 3) := dk_180 0 13 (dk_at dksX9_comes_2 16 rfl rfl)
theorem dX9_comes_75 : decode cX9_comes 75 = .ok (.iconst 0, 1) := dk_3 (dk_at dksX9_comes_2 19 rfl rfl)
theorem dX9_comes_76 : decode cX9_comes 76 = .ok (.iaload, 1) := dk_46 (dk_at dksX9_comes_2 20 rfl rfl)
theorem dX9_comes_77 : decode cX9_comes 77 = .ok (.bipush 8, 2) := dk_16 8 (dk_at dksX9_comes_2 21 rfl rfl)
theorem dX9_comes_79 : decode cX9_comes 79 = .ok (.if_icmp .ne 5, 3) := dk_160 0 5 (dk_at dksX9_comes_3 0 rfl rfl)
theorem dX9_comes_82 : decode cX9_comes 82 = .ok (.iconst 0, 1) := dk_3 (dk_at dksX9_comes_3 3 rfl rfl)
theorem dX9_comes_83 : decode cX9_comes 83 = .ok (.ireturn, 1) := dk_172 (dk_at dksX9_comes_3 4 rfl rfl)
theorem dX9_comes_84 : decode cX9_comes 84 = .ok (.aload_n 0, 1) := dk_42 (dk_at dksX9_comes_3 5 rfl rfl)
theorem dX9_comes_85 : decode cX9_comes 85 = .ok (.getfield 13, 3) := dk_180 0 13 (dk_at dksX9_comes_3 6 rfl rfl)
theorem dX9_comes_88 : decode cX9_comes 88 = .ok (.bipush 6, 2) := dk_16 6 (dk_at dksX9_comes_3 9 rfl rfl)
theorem dX9_comes_90 : decode cX9_comes 90 = .ok (.iconst 2, 1) := dk_5 (dk_at dksX9_comes_3 11 rfl rfl)
theorem dX9_comes_91 : decode cX9_comes 91 = .ok (.aload_n 0, 1) := dk_42 (dk_at dksX9_comes_3 12 rfl rfl)
theorem dX9_comes_92 : decode cX9_comes 92 = .ok (.getfield 13, 3) := dk_180 0 13 (dk_at dksX9_comes_3 13 rfl rfl)
theorem dX9_comes_95 : decode cX9_comes 95 = .ok (.iconst 0, 1) := dk_3 (dk_at dksX9_comes_3 16 rfl rfl)
theorem dX9_comes_96 : decode cX9_comes 96 = .ok (.iaload, 1) := dk_46 (dk_at dksX9_comes_3 17 rfl rfl)
theorem dX9_comes_97 : decode cX9_comes 97 = .ok (.imul, 1) := dk_104 (dk_at dksX9_comes_3 18 rfl rfl)
theorem dX9_comes_98 : decode cX9_comes 98 = .ok (.iadd, 1) := dk_96 (dk_at dksX9_comes_3 19 rfl rfl)
theorem dX9_comes_99 : decode cX9_comes 99 = .ok (.iload_n 2, 1) := dk_28 (dk_at dksX9_comes_3 20 rfl rfl)
theorem dX9_comes_100 : decode cX9_comes 100 = .ok (.iastore, 1) := dk_79 (dk_at dksX9_comes_3 21 rfl rfl)
theorem dX9_comes_101 : decode cX9_comes 101 = .ok (.aload_n 0, 1) := dk_42 (dk_at dksX9_comes_3 22 rfl rfl)
theorem dX9_comes_102 : decode cX9_comes 102 = .ok (.getfield 13, 3) := dk_180 0 13 (dk_at dksX9_comes_4 0 rfl rfl)
theorem dX9_comes_105 : decode cX9_comes 105 = .ok (.bipush 6, 2) := dk_16 6 (dk_at dksX9_comes_4 3 rfl rfl)
theorem dX9_comes_107 : decode cX9_comes 107 = .ok (.iconst 2, 1) := dk_5 (dk_at dksX9_comes_4 5 rfl rfl)
theorem dX9_comes_108 : decode cX9_comes 108 = .ok (.aload_n 0, 1) := dk_42 (dk_at dksX9_comes_4 6 rfl rfl)
theorem dX9_comes_109 : decode cX9_comes 109 = .ok (.getfield 13, 3) := dk_180 0 13 (dk_at dksX9_comes_4 7 rfl rfl)
theorem dX9_comes_112 : decode cX9_comes 112 = .ok (.iconst 0, 1) := dk_3 (dk_at dksX9_comes_4 10 rfl rfl)
theorem dX9_comes_113 : decode cX9_comes 113 = .ok (.iaload, 1) := dk_46 (dk_at dksX9_comes_4 11 rfl rfl)
theorem dX9_comes_114 : decode cX9_comes 114 = .ok (.imul, 1) := dk_104 (dk_at dksX9_comes_4 12 rfl rfl)
theorem dX9_comes_115 : decode cX9_comes 115 = .ok (.iadd, 1) := dk_96 (dk_at dksX9_comes_4 13 rfl rfl)
theorem dX9_comes_116 : decode cX9_comes 116 = .ok (.iconst 1, 1) := dk_4 (dk_at dksX9_comes_4 14 rfl rfl)
theorem dX9_comes_117 : decode cX9_comes 117 = .ok (.iadd, 1) := dk_96 (dk_at dksX9_comes_4 15 rfl rfl)
theorem dX9_comes_118 : decode cX9_comes 118 = .ok (.iload_n 3, 1) := dk_29 (dk_at dksX9_comes_4 16 rfl rfl)
theorem dX9_comes_119 : decode cX9_comes 119 = .ok (.iastore, 1) := dk_79 (dk_at dksX9_comes_4 17 rfl rfl)
theorem dX9_comes_120 : decode cX9_comes 120 = .ok (.aload_n 0, 1) := dk_42 (dk_at dksX9_comes_4 18 rfl rfl)
theorem dX9_comes_121 : decode cX9_comes 121 = .ok (.getfield 13, 3) := dk_180 0 13 (dk_at dksX9_comes_4 19 rfl rfl)
theorem dX9_comes_124 : decode cX9_comes 124 = .ok (.iconst 1, 1) := dk_4 (dk_at dksX9_comes_4 22 rfl rfl)
theorem dX9_comes_125 : decode cX9_comes 125 = .ok (.dup2, 1) := dk_92 (dk_at dksX9_comes_4 23 rfl rfl)
theorem dX9_comes_126 : decode cX9_comes 126 = .ok (.iaload, 1) := dk_46 (dk_at dksX9_comes_5 0 rfl rfl)
theorem dX9_comes_127 : decode cX9_comes 127 = .ok (.iconst 1, 1) := dk_4 (dk_at dksX9_comes_5 1 rfl rfl)
theorem dX9_comes_128 : decode cX9_comes 128 = .ok (.aload_n 0, 1) := dk_42 (dk_at dksX9_comes_5 2 rfl rfl)
theorem dX9_comes_129 : decode cX9_comes 129 = .ok (.getfield 13, 3) := dk_180 0 13 (dk_at dksX9_comes_5 3 rfl rfl)
theorem dX9_comes_132 : decode cX9_comes 132 = .ok (.iconst 0, 1) := dk_3 (dk_at dksX9_comes_5 6 rfl rfl)
theorem dX9_comes_133 : decode cX9_comes 133 = .ok (.iaload, 1) := dk_46 (dk_at dksX9_comes_5 7 rfl rfl)
theorem dX9_comes_134 : decode cX9_comes 134 = .ok (.ishl, 1) := dk_120 (dk_at dksX9_comes_5 8 rfl rfl)
theorem dX9_comes_135 : decode cX9_comes 135 = .ok (.ior, 1) := dk_128 (dk_at dksX9_comes_5 9 rfl rfl)
theorem dX9_comes_136 : decode cX9_comes 136 = .ok (.iastore, 1) := dk_79 (dk_at dksX9_comes_5 10 rfl rfl)
theorem dX9_comes_137 : decode cX9_comes 137 = .ok (.aload_n 0, 1) := dk_42 (dk_at dksX9_comes_5 11 rfl rfl)
theorem dX9_comes_138 : decode cX9_comes 138 = .ok (.getfield 13, 3) := dk_180 0 13 (dk_at dksX9_comes_5 12 rfl rfl)
theorem dX9_comes_141 : decode cX9_comes 141 = .ok (.iconst 0, 1) := dk_3 (dk_at dksX9_comes_5 15 rfl rfl)
theorem dX9_comes_142 : decode cX9_comes 142 = .ok (.dup2, 1) := dk_92 (dk_at dksX9_comes_5 16 rfl rfl)
theorem dX9_comes_143 : decode cX9_comes 143 = .ok (.iaload, 1) := dk_46 (dk_at dksX9_comes_5 17 rfl rfl)
theorem dX9_comes_144 : decode cX9_comes 144 = .ok (.iconst 1, 1) := dk_4 (dk_at dksX9_comes_5 18 rfl rfl)
theorem dX9_comes_145 : decode cX9_comes 145 = .ok (.iadd, 1) := dk_96 (dk_at dksX9_comes_5 19 rfl rfl)
theorem dX9_comes_146 : decode cX9_comes 146 = .ok (.iastore, 1) := dk_79 (dk_at dksX9_comes_5 20 rfl rfl)
theorem dX9_comes_147 : decode cX9_comes 147 = .ok (.iconst 1, 1) := dk_4 (dk_at dksX9_comes_5 21 rfl rfl)
theorem dX9_comes_148 : decode cX9_comes 148 = .ok (.ireturn, 1) := dk_172 (dk_at dksX9_comes_5 22 rfl rfl)
theorem dX9_comes_149 : decode cX9_comes 149 = .ok (.aload_n 0, 1) := dk_42 (dk_at dksX9_comes_5 23 rfl rfl)
theorem dX9_comes_150 : decode cX9_comes 150 = .ok (.getfield 43, 3) := dk_180 0 43 (dk_at dksX9_comes_6 0 rfl rfl)
theorem dX9_comes_153 : decode cX9_comes 153 = .ok (.iconst 2, 1) := dk_5 (dk_at dksX9_comes_6 3 rfl rfl)
theorem dX9_comes_154 : decode cX9_comes 154 = .ok (.iaload, 1) := dk_46 (dk_at dksX9_comes_6 4 rfl rfl)
theorem dX9_comes_155 : decode cX9_comes 155 = .ok (.iconst 1, 1) := dk_4 (dk_at dksX9_comes_6 5 rfl rfl)
theorem dX9_comes_156 : decode cX9_comes 156 = .ok (.if_icmp .lt 13, 3) := dk_161 0 13 (dk_at dksX9_comes_6 6 rfl rfl)
theorem dX9_comes_159 : decode cX9_comes 159 = .ok (.aload_n 0, 1) := dk_42 (dk_at dksX9_comes_6 9 rfl rfl)
theorem dX9_comes_160 : decode cX9_comes 160 = .ok (.getfield 13, 3) := dk_180 0 13 (dk_at dksX9_comes_6 10 rfl rfl)
theorem dX9_comes_163 : decode cX9_comes 163 = .ok (.iconst 2, 1) := dk_5 (dk_at dksX9_comes_6 13 rfl rfl)
theorem dX9_comes_164 : decode cX9_comes 164 = .ok (.iaload, 1) := dk_46 (dk_at dksX9_comes_6 14 rfl rfl)
theorem dX9_comes_165 : decode cX9_comes 165 = .ok (.iconst 5, 1) := dk_8 (dk_at dksX9_comes_6 15 rfl rfl)
theorem dX9_comes_166 : decode cX9_comes 166 = .ok (.if_icmp .ne 5, 3) := dk_160 0 5 (dk_at dksX9_comes_6 16 rfl rfl)
theorem dX9_comes_169 : decode cX9_comes 169 = .ok (.iconst 0, 1) := dk_3 (dk_at dksX9_comes_6 19 rfl rfl)
theorem dX9_comes_170 : decode cX9_comes 170 = .ok (.ireturn, 1) := dk_172 (dk_at dksX9_comes_6 20 rfl rfl)
theorem dX9_comes_171 : decode cX9_comes 171 = .ok (.iconst 0, 1) := dk_3 (dk_at dksX9_comes_6 21 rfl rfl)
theorem dX9_comes_172 : decode cX9_comes 172 = .ok (.istore 4, 2) := dk_54 4 (dk_at dksX9_comes_6 22 rfl rfl)
theorem dX9_comes_174 : decode cX9_comes 174 = .ok (.iload 4, 2) := dk_21 4 (dk_at dksX9_comes_7 0 rfl rfl)
theorem dX9_comes_176 : decode cX9_comes 176 = .ok (.iconst 3, 1) := dk_6 (dk_at dksX9_comes_7 2 rfl rfl)
theorem dX9_comes_177 : decode cX9_comes 177 = .ok (.if_icmp .ge 35, 3) := dk_162 0 35 (dk_at dksX9_comes_7 3 rfl rfl)
theorem dX9_comes_180 : decode cX9_comes 180 = .ok (.aload_n 0, 1) := dk_42 (dk_at dksX9_comes_7 6 rfl rfl)
theorem dX9_comes_181 : decode cX9_comes 181 = .ok (.getfield 13, 3) := dk_180 0 13 (dk_at dksX9_comes_7 7 rfl rfl)
theorem dX9_comes_184 : decode cX9_comes 184 = .ok (.bipush 22, 2) := dk_16 22 (dk_at dksX9_comes_7 10 rfl rfl)
theorem dX9_comes_186 : decode cX9_comes 186 = .ok (.iconst 3, 1) := dk_6 (dk_at dksX9_comes_7 12 rfl rfl)
theorem dX9_comes_187 : decode cX9_comes 187 = .ok (.aload_n 0, 1) := dk_42 (dk_at dksX9_comes_7 13 rfl rfl)
theorem dX9_comes_188 : decode cX9_comes 188 = .ok (.getfield 13, 3) := dk_180 0 13 (dk_at dksX9_comes_7 14 rfl rfl)
theorem dX9_comes_191 : decode cX9_comes 191 = .ok (.iconst 2, 1) := dk_5 (dk_at dksX9_comes_7 17 rfl rfl)
theorem dX9_comes_192 : decode cX9_comes 192 = .ok (.iaload, 1) := dk_46 (dk_at dksX9_comes_7 18 rfl rfl)
theorem dX9_comes_193 : decode cX9_comes 193 = .ok (.imul, 1) := dk_104 (dk_at dksX9_comes_7 19 rfl rfl)
theorem dX9_comes_194 : decode cX9_comes 194 = .ok (.iadd, 1) := dk_96 (dk_at dksX9_comes_7 20 rfl rfl)
theorem dX9_comes_195 : decode cX9_comes 195 = .ok (.iload 4, 2) := dk_21 4 (dk_at dksX9_comes_7 21 rfl rfl)
theorem dX9_comes_197 : decode cX9_comes 197 = .ok (.iadd, 1) := dk_96 (dk_at dksX9_comes_7 23 rfl rfl)
theorem dX9_comes_198 : decode cX9_comes 198 = .ok (.aload_n 0, 1) := dk_42 (dk_at dksX9_comes_8 0 rfl rfl)
theorem dX9_comes_199 : decode cX9_comes 199 = .ok (.getfield 43, 3) := dk_180 0 43 (dk_at dksX9_comes_8 1 rfl rfl)
theorem dX9_comes_202 : decode cX9_comes 202 = .ok (.iload 4, 2) := dk_21 4 (dk_at dksX9_comes_8 4 rfl rfl)
theorem dX9_comes_204 : decode cX9_comes 204 = .ok (.iaload, 1) := dk_46 (dk_at dksX9_comes_8 6 rfl rfl)
theorem dX9_comes_205 : decode cX9_comes 205 = .ok (.iastore, 1) := dk_79 (dk_at dksX9_comes_8 7 rfl rfl)
theorem dX9_comes_206 : decode cX9_comes 206 = .ok (.iinc 4 1, 3) := dk_132 4 1 (dk_at dksX9_comes_8 8 rfl rfl)
theorem dX9_comes_209 : decode cX9_comes 209 = .ok (.goto (-35), 3) := dk_167 255 221 (dk_at dksX9_comes_8 11 rfl rfl)
theorem dX9_comes_212 : decode cX9_comes 212 = .ok (.aload_n 0, 1) := dk_42 (dk_at dksX9_comes_8 14 rfl rfl)
theorem dX9_comes_213 : decode cX9_comes 213 = .ok (.getfield 13, 3) := dk_180 0 13 (dk_at dksX9_comes_8 15 rfl rfl)
theorem dX9_comes_216 : decode cX9_comes 216 = .ok (.iconst 2, 1) := dk_5 (dk_at dksX9_comes_8 18 rfl rfl)
theorem dX9_comes_217 : decode cX9_comes 217 = .ok (.dup2, 1) := dk_92 (dk_at dksX9_comes_8 19 rfl rfl)
theorem dX9_comes_218 : decode cX9_comes 218 = .ok (.iaload, 1) := dk_46 (dk_at dksX9_comes_8 20 rfl rfl)
theorem dX9_comes_219 : decode cX9_comes 219 = .ok (.iconst 1, 1) := dk_4 (dk_at dksX9_comes_8 21 rfl rfl)
theorem dX9_comes_220 : decode cX9_comes 220 = .ok (.iadd, 1) := dk_96 (dk_at dksX9_comes_8 22 rfl rfl)
theorem dX9_comes_221 : decode cX9_comes 221 = .ok (.iastore, 1) := dk_79 (dk_at dksX9_comes_8 23 rfl rfl)
theorem dX9_comes_222 : decode cX9_comes 222 = .ok (.iconst 1, 1) := dk_4 (dk_at dksX9_comes_9 0 rfl rfl)
theorem dX9_comes_223 : decode cX9_comes 223 = .ok (.ireturn, 1) := dk_172 (dk_at dksX9_comes_9 1 rfl rfl)
theorem dX9_comes_224 : decode cX9_comes 224 = .ok (.iload_n 3, 1) := dk_29 (dk_at dksX9_comes_9 2 rfl rfl)
theorem dX9_comes_225 : decode cX9_comes 225 = .ok (.iconst 5, 1) := dk_8 (dk_at dksX9_comes_9 3 rfl rfl)
theorem dX9_comes_226 : decode cX9_comes 226 = .ok (.if_icmp .ge 14, 3) := dk_162 0 14 (dk_at dksX9_comes_9 4 rfl rfl)
theorem dX9_comes_229 : decode cX9_comes 229 = .ok (.aload_n 0, 1) := dk_42 (dk_at dksX9_comes_9 7 rfl rfl)
theorem dX9_comes_230 : decode cX9_comes 230 = .ok (.getfield 13, 3) := dk_180 0 13 (dk_at dksX9_comes_9 8 rfl rfl)
theorem dX9_comes_233 : decode cX9_comes 233 = .ok (.iconst 3, 1) := dk_6 (dk_at dksX9_comes_9 11 rfl rfl)
theorem dX9_comes_234 : decode cX9_comes 234 = .ok (.iaload, 1) := dk_46 (dk_at dksX9_comes_9 12 rfl rfl)
theorem dX9_comes_235 : decode cX9_comes 235 = .ok (.bipush 6, 2) := dk_16 6 (dk_at dksX9_comes_9 13 rfl rfl)
theorem dX9_comes_237 : decode cX9_comes 237 = .ok (.if_icmp .ne 5, 3) := dk_160 0 5 (dk_at dksX9_comes_9 15 rfl rfl)
theorem dX9_comes_240 : decode cX9_comes 240 = .ok (.iconst 0, 1) := dk_3 (dk_at dksX9_comes_9 18 rfl rfl)
theorem dX9_comes_241 : decode cX9_comes 241 = .ok (.ireturn, 1) := dk_172 (dk_at dksX9_comes_9 19 rfl rfl)
theorem dX9_comes_242 : decode cX9_comes 242 = .ok (.iconst 0, 1) := dk_3 (dk_at dksX9_comes_9 20 rfl rfl)
theorem dX9_comes_243 : decode cX9_comes 243 = .ok (.istore 4, 2) := dk_54 4 (dk_at dksX9_comes_9 21 rfl rfl)
theorem dX9_comes_245 : decode cX9_comes 245 = .ok (.iload 4, 2) := dk_21 4 (dk_at dksX9_comes_10 0 rfl rfl)
theorem dX9_comes_247 : decode cX9_comes 247 = .ok (.iconst 3, 1) := dk_6 (dk_at dksX9_comes_10 2 rfl rfl)
theorem dX9_comes_248 : decode cX9_comes 248 = .ok (.if_icmp .ge 28, 3) := dk_162 0 28 (dk_at dksX9_comes_10 3 rfl rfl)
theorem dX9_comes_251 : decode cX9_comes 251 = .ok (.aload_n 0, 1) := dk_42 (dk_at dksX9_comes_10 6 rfl rfl)
theorem dX9_comes_252 : decode cX9_comes 252 = .ok (.aload_n 0, 1) := dk_42 (dk_at dksX9_comes_10 7 rfl rfl)
theorem dX9_comes_253 : decode cX9_comes 253 = .ok (.getfield 13, 3) := dk_180 0 13 (dk_at dksX9_comes_10 8 rfl rfl)
theorem dX9_comes_256 : decode cX9_comes 256 = .ok (.iconst 3, 1) := dk_6 (dk_at dksX9_comes_10 11 rfl rfl)
theorem dX9_comes_257 : decode cX9_comes 257 = .ok (.iaload, 1) := dk_46 (dk_at dksX9_comes_10 12 rfl rfl)
theorem dX9_comes_258 : decode cX9_comes 258 = .ok (.iload 4, 2) := dk_21 4 (dk_at dksX9_comes_10 13 rfl rfl)
theorem dX9_comes_260 : decode cX9_comes 260 = .ok (.aload_n 0, 1) := dk_42 (dk_at dksX9_comes_10 15 rfl rfl)
theorem dX9_comes_261 : decode cX9_comes 261 = .ok (.getfield 43, 3) := dk_180 0 43 (dk_at dksX9_comes_10 16 rfl rfl)
theorem dX9_comes_264 : decode cX9_comes 264 = .ok (.iload 4, 2) := dk_21 4 (dk_at dksX9_comes_10 19 rfl rfl)
theorem dX9_comes_266 : decode cX9_comes 266 = .ok (.iaload, 1) := dk_46 (dk_at dksX9_comes_10 21 rfl rfl)
theorem dX9_comes_267 : decode cX9_comes 267 = .ok (.invokevirtual 64, 3) := dk_182 0 64 (dk_at dksX9_comes_11 0 rfl rfl)
theorem dX9_comes_270 : decode cX9_comes 270 = .ok (.iinc 4 1, 3) := dk_132 4 1 (dk_at dksX9_comes_11 3 rfl rfl)
theorem dX9_comes_273 : decode cX9_comes 273 = .ok (.goto (-28), 3) := dk_167 255 228 (dk_at dksX9_comes_11 6 rfl rfl)
theorem dX9_comes_276 : decode cX9_comes 276 = .ok (.aload_n 0, 1) := dk_42 (dk_at dksX9_comes_11 9 rfl rfl)
theorem dX9_comes_277 : decode cX9_comes 277 = .ok (.aload_n 0, 1) := dk_42 (dk_at dksX9_comes_11 10 rfl rfl)
theorem dX9_comes_278 : decode cX9_comes 278 = .ok (.getfield 13, 3) := dk_180 0 13 (dk_at dksX9_comes_11 11 rfl rfl)
theorem dX9_comes_281 : decode cX9_comes 281 = .ok (.iconst 3, 1) := dk_6 (dk_at dksX9_comes_11 14 rfl rfl)
theorem dX9_comes_282 : decode cX9_comes 282 = .ok (.iaload, 1) := dk_46 (dk_at dksX9_comes_11 15 rfl rfl)
theorem dX9_comes_283 : decode cX9_comes 283 = .ok (.iconst 3, 1) := dk_6 (dk_at dksX9_comes_11 16 rfl rfl)
theorem dX9_comes_284 : decode cX9_comes 284 = .ok (.bipush (-9), 2) := dk_16 247 (dk_at dksX9_comes_11 17 rfl rfl)
theorem dX9_comes_286 : decode cX9_comes 286 = .ok (.invokevirtual 64, 3) := dk_182 0 64 (dk_at dksX9_comes_11 19 rfl rfl)
theorem dX9_comes_289 : decode cX9_comes 289 = .ok (.aload_n 0, 1) := dk_42 (dk_at dksX9_comes_11 22 rfl rfl)
theorem dX9_comes_290 : decode cX9_comes 290 = .ok (.aload_n 0, 1) := dk_42 (dk_at dksX9_comes_11 23 rfl rfl)
theorem dX9_comes_291 : decode cX9_comes 291 = .ok (.getfield 13, 3) := dk_180 0 13 (dk_at dksX9_comes_12 0 rfl rfl)
theorem dX9_comes_294 : decode cX9_comes 294 = .ok (.iconst 3, 1) := dk_6 (dk_at dksX9_comes_12 3 rfl rfl)
theorem dX9_comes_295 : decode cX9_comes 295 = .ok (.iaload, 1) := dk_46 (dk_at dksX9_comes_12 4 rfl rfl)
theorem dX9_comes_296 : decode cX9_comes 296 = .ok (.iconst 4, 1) := dk_7 (dk_at dksX9_comes_12 5 rfl rfl)
theorem dX9_comes_297 : decode cX9_comes 297 = .ok (.iconst 0, 1) := dk_3 (dk_at dksX9_comes_12 6 rfl rfl)
theorem dX9_comes_298 : decode cX9_comes 298 = .ok (.invokevirtual 64, 3) := dk_182 0 64 (dk_at dksX9_comes_12 7 rfl rfl)
theorem dX9_comes_301 : decode cX9_comes 301 = .ok (.aload_n 0, 1) := dk_42 (dk_at dksX9_comes_12 10 rfl rfl)
theorem dX9_comes_302 : decode cX9_comes 302 = .ok (.aload_n 0, 1) := dk_42 (dk_at dksX9_comes_12 11 rfl rfl)
theorem dX9_comes_303 : decode cX9_comes 303 = .ok (.getfield 13, 3) := dk_180 0 13 (dk_at dksX9_comes_12 12 rfl rfl)
theorem dX9_comes_306 : decode cX9_comes 306 = .ok (.iconst 3, 1) := dk_6 (dk_at dksX9_comes_12 15 rfl rfl)
theorem dX9_comes_307 : decode cX9_comes 307 = .ok (.iaload, 1) := dk_46 (dk_at dksX9_comes_12 16 rfl rfl)
theorem dX9_comes_308 : decode cX9_comes 308 = .ok (.iconst 5, 1) := dk_8 (dk_at dksX9_comes_12 17 rfl rfl)
theorem dX9_comes_309 : decode cX9_comes 309 = .ok (.iconst 0, 1) := dk_3 (dk_at dksX9_comes_12 18 rfl rfl)
theorem dX9_comes_310 : decode cX9_comes 310 = .ok (.invokevirtual 64, 3) := dk_182 0 64 (dk_at dksX9_comes_12 19 rfl rfl)
theorem dX9_comes_313 : decode cX9_comes 313 = .ok (.aload_n 0, 1) := dk_42 (dk_at dksX9_comes_12 22 rfl rfl)
theorem dX9_comes_314 : decode cX9_comes 314 = .ok (.getfield 13, 3) := dk_180 0 13 (dk_at dksX9_comes_13 0 rfl rfl)
theorem dX9_comes_317 : decode cX9_comes 317 = .ok (.iconst 3, 1) := dk_6 (dk_at dksX9_comes_13 3 rfl rfl)
theorem dX9_comes_318 : decode cX9_comes 318 = .ok (.dup2, 1) := dk_92 (dk_at dksX9_comes_13 4 rfl rfl)
theorem dX9_comes_319 : decode cX9_comes 319 = .ok (.iaload, 1) := dk_46 (dk_at dksX9_comes_13 5 rfl rfl)
theorem dX9_comes_320 : decode cX9_comes 320 = .ok (.iconst 1, 1) := dk_4 (dk_at dksX9_comes_13 6 rfl rfl)
theorem dX9_comes_321 : decode cX9_comes 321 = .ok (.iadd, 1) := dk_96 (dk_at dksX9_comes_13 7 rfl rfl)
theorem dX9_comes_322 : decode cX9_comes 322 = .ok (.iastore, 1) := dk_79 (dk_at dksX9_comes_13 8 rfl rfl)
theorem dX9_comes_323 : decode cX9_comes 323 = .ok (.iconst 1, 1) := dk_4 (dk_at dksX9_comes_13 9 rfl rfl)
theorem dX9_comes_324 : decode cX9_comes 324 = .ok (.ireturn, 1) := dk_172 (dk_at dksX9_comes_13 10 rfl rfl)
theorem dX9_comes_325 : decode cX9_comes 325 = .ok (.aload_n 0, 1) := dk_42 (dk_at dksX9_comes_13 11 rfl rfl)
theorem dX9_comes_326 : decode cX9_comes 326 = .ok (.iload_n 2, 1) := dk_28 (dk_at dksX9_comes_13 12 rfl rfl)
theorem dX9_comes_327 : decode cX9_comes 327 = .ok (.invokevirtual 144, 3) := dk_182 0 144 (dk_at dksX9_comes_13 13 rfl rfl)
theorem dX9_comes_330 : decode cX9_comes 330 = .ok (.ifCond .eq 11, 3) := dk_153 0 11 (dk_at dksX9_comes_13 16 rfl rfl)
theorem dX9_comes_333 : decode cX9_comes 333 = .ok (.aload_n 0, 1) := dk_42 (dk_at dksX9_comes_13 19 rfl rfl)
theorem dX9_comes_334 : decode cX9_comes 334 = .ok (.iload_n 3, 1) := dk_29 (dk_at dksX9_comes_13 20 rfl rfl)
theorem dX9_comes_335 : decode cX9_comes 335 = .ok (.invokevirtual 147, 3) := dk_182 0 147 (dk_at dksX9_comes_13 21 rfl rfl)
theorem dX9_comes_338 : decode cX9_comes 338 = .ok (.ifCond .ne 5, 3) := dk_154 0 5 (dk_at dksX9_comes_14 0 rfl rfl)
theorem dX9_comes_341 : decode cX9_comes 341 = .ok (.iconst 0, 1) := dk_3 (dk_at dksX9_comes_14 3 rfl rfl)
theorem dX9_comes_342 : decode cX9_comes 342 = .ok (.ireturn, 1) := dk_172 (dk_at dksX9_comes_14 4 rfl rfl)
theorem dX9_comes_343 : decode cX9_comes 343 = .ok (.aload_n 0, 1) := dk_42 (dk_at dksX9_comes_14 5 rfl rfl)
theorem dX9_comes_344 : decode cX9_comes 344 = .ok (.iload_n 2, 1) := dk_28 (dk_at dksX9_comes_14 6 rfl rfl)
theorem dX9_comes_345 : decode cX9_comes 345 = .ok (.iload_n 3, 1) := dk_29 (dk_at dksX9_comes_14 7 rfl rfl)
theorem dX9_comes_346 : decode cX9_comes 346 = .ok (.invokevirtual 81, 3) := dk_182 0 81 (dk_at dksX9_comes_14 8 rfl rfl)
theorem dX9_comes_349 : decode cX9_comes 349 = .ok (.iconst 1, 1) := dk_4 (dk_at dksX9_comes_14 11 rfl rfl)
theorem dX9_comes_350 : decode cX9_comes 350 = .ok (.ireturn, 1) := dk_172 (dk_at dksX9_comes_14 12 rfl rfl)
theorem dX9_comes_351 : decode cX9_comes 351 = .ok (.iload_n 2, 1) := dk_28 (dk_at dksX9_comes_14 13 rfl rfl)
theorem dX9_comes_352 : decode cX9_comes 352 = .ok (.iconst 1, 1) := dk_4 (dk_at dksX9_comes_14 14 rfl rfl)
theorem dX9_comes_353 : decode cX9_comes 353 = .ok (.if_icmp .lt 9, 3) := dk_161 0 9 (dk_at dksX9_comes_14 15 rfl rfl)
theorem dX9_comes_356 : decode cX9_comes 356 = .ok (.iload_n 2, 1) := dk_28 (dk_at dksX9_comes_14 18 rfl rfl)
theorem dX9_comes_357 : decode cX9_comes 357 = .ok (.bipush 20, 2) := dk_16 20 (dk_at dksX9_comes_14 19 rfl rfl)
theorem dX9_comes_359 : decode cX9_comes 359 = .ok (.if_icmp .le 5, 3) := dk_164 0 5 (dk_at dksX9_comes_14 21 rfl rfl)
theorem dX9_comes_362 : decode cX9_comes 362 = .ok (.iconst 0, 1) := dk_3 (dk_at dksX9_comes_15 0 rfl rfl)
theorem dX9_comes_363 : decode cX9_comes 363 = .ok (.ireturn, 1) := dk_172 (dk_at dksX9_comes_15 1 rfl rfl)
theorem dX9_comes_364 : decode cX9_comes 364 = .ok (.aload_n 0, 1) := dk_42 (dk_at dksX9_comes_15 2 rfl rfl)
theorem dX9_comes_365 : decode cX9_comes 365 = .ok (.getfield 13, 3) := dk_180 0 13 (dk_at dksX9_comes_15 3 rfl rfl)
theorem dX9_comes_368 : decode cX9_comes 368 = .ok (.iconst 5, 1) := dk_8 (dk_at dksX9_comes_15 6 rfl rfl)
theorem dX9_comes_369 : decode cX9_comes 369 = .ok (.iload_n 2, 1) := dk_28 (dk_at dksX9_comes_15 7 rfl rfl)
theorem dX9_comes_370 : decode cX9_comes 370 = .ok (.iastore, 1) := dk_79 (dk_at dksX9_comes_15 8 rfl rfl)
theorem dX9_comes_371 : decode cX9_comes 371 = .ok (.iconst 1, 1) := dk_4 (dk_at dksX9_comes_15 9 rfl rfl)
theorem dX9_comes_372 : decode cX9_comes 372 = .ok (.ireturn, 1) := dk_172 (dk_at dksX9_comes_15 10 rfl rfl)
abbrev cX9_puts : ByteArray := prog_28_method_11_code
def yX9_puts : MethodName := ⟨RX9, "puts", "(III)V"⟩
def dkwX9_puts_0 : List UInt8 := [42, 180, 0, 13, 16, 37, 16, 6, 27, 104, 96, 28, 96, 29, 79, 177]
abbrev dktX9_puts_0 : List UInt8 := dkwX9_puts_0 ++ []
theorem dksX9_puts_0 : cX9_puts.data.toList.drop 0 = dktX9_puts_0 := by decide +kernel
theorem dX9_puts_0 : decode cX9_puts 0 = .ok (.aload_n 0, 1) := dk_42 (dk_at dksX9_puts_0 0 rfl rfl)
theorem dX9_puts_1 : decode cX9_puts 1 = .ok (.getfield 13, 3) := dk_180 0 13 (dk_at dksX9_puts_0 1 rfl rfl)
theorem dX9_puts_4 : decode cX9_puts 4 = .ok (.bipush 37, 2) := dk_16 37 (dk_at dksX9_puts_0 4 rfl rfl)
theorem dX9_puts_6 : decode cX9_puts 6 = .ok (.bipush 6, 2) := dk_16 6 (dk_at dksX9_puts_0 6 rfl rfl)
theorem dX9_puts_8 : decode cX9_puts 8 = .ok (.iload_n 1, 1) := dk_27 (dk_at dksX9_puts_0 8 rfl rfl)
theorem dX9_puts_9 : decode cX9_puts 9 = .ok (.imul, 1) := dk_104 (dk_at dksX9_puts_0 9 rfl rfl)
theorem dX9_puts_10 : decode cX9_puts 10 = .ok (.iadd, 1) := dk_96 (dk_at dksX9_puts_0 10 rfl rfl)
theorem dX9_puts_11 : decode cX9_puts 11 = .ok (.iload_n 2, 1) := dk_28 (dk_at dksX9_puts_0 11 rfl rfl)
theorem dX9_puts_12 : decode cX9_puts 12 = .ok (.iadd, 1) := dk_96 (dk_at dksX9_puts_0 12 rfl rfl)
theorem dX9_puts_13 : decode cX9_puts 13 = .ok (.iload_n 3, 1) := dk_29 (dk_at dksX9_puts_0 13 rfl rfl)
theorem dX9_puts_14 : decode cX9_puts 14 = .ok (.iastore, 1) := dk_79 (dk_at dksX9_puts_0 14 rfl rfl)
theorem dX9_puts_15 : decode cX9_puts 15 = .ok (.return_, 1) := dk_177 (dk_at dksX9_puts_0 15 rfl rfl)
abbrev cX9_isHead : ByteArray := prog_28_method_8_code
def yX9_isHead : MethodName := ⟨RX9, "isHead", "(I)Z"⟩
def dkwX9_isHead_0 : List UInt8 := [27, 42, 180, 0, 13, 6, 46, 184, 0, 53, 172]
abbrev dktX9_isHead_0 : List UInt8 := dkwX9_isHead_0 ++ []
theorem dksX9_isHead_0 : cX9_isHead.data.toList.drop 0 = dktX9_isHead_0 := by decide +kernel
theorem dX9_isHead_0 : decode cX9_isHead 0 = .ok (.iload_n 1, 1) := dk_27 (dk_at dksX9_isHead_0 0 rfl rfl)
theorem dX9_isHead_1 : decode cX9_isHead 1 = .ok (.aload_n 0, 1) := dk_42 (dk_at dksX9_isHead_0 1 rfl rfl)
theorem dX9_isHead_2 : decode cX9_isHead 2 = .ok (.getfield 13, 3) := dk_180 0 13 (dk_at dksX9_isHead_0 2 rfl rfl)
theorem dX9_isHead_5 : decode cX9_isHead 5 = .ok (.iconst 3, 1) := dk_6 (dk_at dksX9_isHead_0 5 rfl rfl)
theorem dX9_isHead_6 : decode cX9_isHead 6 = .ok (.iaload, 1) := dk_46 (dk_at dksX9_isHead_0 6 rfl rfl)
theorem dX9_isHead_7 : decode cX9_isHead 7 = .ok (.invokestatic 53, 3) := dk_184 0 53 (dk_at dksX9_isHead_0 7 rfl rfl)
theorem dX9_isHead_10 : decode cX9_isHead 10 = .ok (.ireturn, 1) := dk_172 (dk_at dksX9_isHead_0 10 rfl rfl)
abbrev cX9_isSong : ByteArray := prog_28_method_9_code
def yX9_isSong : MethodName := ⟨RX9, "isSong", "(I)Z"⟩
def dkwX9_isSong_0 : List UInt8 := [27, 42, 180, 0, 13, 5, 46, 184, 0, 53, 172]
abbrev dktX9_isSong_0 : List UInt8 := dkwX9_isSong_0 ++ []
theorem dksX9_isSong_0 : cX9_isSong.data.toList.drop 0 = dktX9_isSong_0 := by decide +kernel
theorem dX9_isSong_0 : decode cX9_isSong 0 = .ok (.iload_n 1, 1) := dk_27 (dk_at dksX9_isSong_0 0 rfl rfl)
theorem dX9_isSong_1 : decode cX9_isSong 1 = .ok (.aload_n 0, 1) := dk_42 (dk_at dksX9_isSong_0 1 rfl rfl)
theorem dX9_isSong_2 : decode cX9_isSong 2 = .ok (.getfield 13, 3) := dk_180 0 13 (dk_at dksX9_isSong_0 2 rfl rfl)
theorem dX9_isSong_5 : decode cX9_isSong 5 = .ok (.iconst 2, 1) := dk_5 (dk_at dksX9_isSong_0 5 rfl rfl)
theorem dX9_isSong_6 : decode cX9_isSong 6 = .ok (.iaload, 1) := dk_46 (dk_at dksX9_isSong_0 6 rfl rfl)
theorem dX9_isSong_7 : decode cX9_isSong 7 = .ok (.invokestatic 53, 3) := dk_184 0 53 (dk_at dksX9_isSong_0 7 rfl rfl)
theorem dX9_isSong_10 : decode cX9_isSong 10 = .ok (.ireturn, 1) := dk_172 (dk_at dksX9_isSong_0 10 rfl rfl)
abbrev cX9_gets : ByteArray := prog_28_method_18_code
def yX9_gets : MethodName := ⟨RX9, "gets", "(II)V"⟩
def dkwX9_gets_1 : List UInt8 := [167, 0, 8, 42, 28, 182, 0, 68, 182, 0, 64, 177]
abbrev dktX9_gets_1 : List UInt8 := dkwX9_gets_1 ++ []
def dkwX9_gets_0 : List UInt8 := [42, 27, 6, 28, 156, 0, 8, 16, 247, 167, 0, 4, 28, 182, 0, 64, 42, 27, 7, 28, 156, 0, 7, 3]
abbrev dktX9_gets_0 : List UInt8 := dkwX9_gets_0 ++ dktX9_gets_1
theorem dksX9_gets_0 : cX9_gets.data.toList.drop 0 = dktX9_gets_0 := by decide +kernel
theorem dksX9_gets_1 : cX9_gets.data.toList.drop 24 = dktX9_gets_1 := dk_seg dksX9_gets_0 24 rfl rfl
theorem dX9_gets_0 : decode cX9_gets 0 = .ok (.aload_n 0, 1) := dk_42 (dk_at dksX9_gets_0 0 rfl rfl)
theorem dX9_gets_1 : decode cX9_gets 1 = .ok (.iload_n 1, 1) := dk_27 (dk_at dksX9_gets_0 1 rfl rfl)
theorem dX9_gets_2 : decode cX9_gets 2 = .ok (.iconst 3, 1) := dk_6 (dk_at dksX9_gets_0 2 rfl rfl)
theorem dX9_gets_3 : decode cX9_gets 3 = .ok (.iload_n 2, 1) := dk_28 (dk_at dksX9_gets_0 3 rfl rfl)
theorem dX9_gets_4 : decode cX9_gets 4 = .ok (.ifCond .ge 8, 3) := dk_156 0 8 (dk_at dksX9_gets_0 4 rfl rfl)
theorem dX9_gets_7 : decode cX9_gets 7 = .ok (.bipush (-9), 2) := dk_16 247 (dk_at dksX9_gets_0 7 rfl rfl)
theorem dX9_gets_9 : decode cX9_gets 9 = .ok (.goto 4, 3) := dk_167 0 4 (dk_at dksX9_gets_0 9 rfl rfl)
theorem dX9_gets_12 : decode cX9_gets 12 = .ok (.iload_n 2, 1) := dk_28 (dk_at dksX9_gets_0 12 rfl rfl)
theorem dX9_gets_13 : decode cX9_gets 13 = .ok (.invokevirtual 64, 3) := dk_182 0 64 (dk_at dksX9_gets_0 13 rfl rfl)
theorem dX9_gets_16 : decode cX9_gets 16 = .ok (.aload_n 0, 1) := dk_42 (dk_at dksX9_gets_0 16 rfl rfl)
theorem dX9_gets_17 : decode cX9_gets 17 = .ok (.iload_n 1, 1) := dk_27 (dk_at dksX9_gets_0 17 rfl rfl)
theorem dX9_gets_18 : decode cX9_gets 18 = .ok (.iconst 4, 1) := dk_7 (dk_at dksX9_gets_0 18 rfl rfl)
theorem dX9_gets_19 : decode cX9_gets 19 = .ok (.iload_n 2, 1) := dk_28 (dk_at dksX9_gets_0 19 rfl rfl)
theorem dX9_gets_20 : decode cX9_gets 20 = .ok (.ifCond .ge 7, 3) := dk_156 0 7 (dk_at dksX9_gets_0 20 rfl rfl)
theorem dX9_gets_23 : decode cX9_gets 23 = .ok (.iconst 0, 1) := dk_3 (dk_at dksX9_gets_0 23 rfl rfl)
theorem dX9_gets_24 : decode cX9_gets 24 = .ok (.goto 8, 3) := dk_167 0 8 (dk_at dksX9_gets_1 0 rfl rfl)
theorem dX9_gets_27 : decode cX9_gets 27 = .ok (.aload_n 0, 1) := dk_42 (dk_at dksX9_gets_1 3 rfl rfl)
theorem dX9_gets_28 : decode cX9_gets 28 = .ok (.iload_n 2, 1) := dk_28 (dk_at dksX9_gets_1 4 rfl rfl)
theorem dX9_gets_29 : decode cX9_gets 29 = .ok (.invokevirtual 68, 3) := dk_182 0 68 (dk_at dksX9_gets_1 5 rfl rfl)
theorem dX9_gets_32 : decode cX9_gets 32 = .ok (.invokevirtual 64, 3) := dk_182 0 64 (dk_at dksX9_gets_1 8 rfl rfl)
theorem dX9_gets_35 : decode cX9_gets 35 = .ok (.return_, 1) := dk_177 (dk_at dksX9_gets_1 11 rfl rfl)
abbrev cX9_fresh : ByteArray := prog_28_method_13_code
def yX9_fresh : MethodName := ⟨RX9, "fresh", "(I)I"⟩
def dkwX9_fresh_2 : List UInt8 := [172]
abbrev dktX9_fresh_2 : List UInt8 := dkwX9_fresh_2 ++ []
def dkwX9_fresh_1 : List UInt8 := [5, 160, 0, 9, 28, 6, 96, 167, 0, 17, 29, 7, 160, 0, 11, 5, 28, 6, 96, 104, 167, 0, 4, 28]
abbrev dktX9_fresh_1 : List UInt8 := dkwX9_fresh_1 ++ dktX9_fresh_2
def dkwX9_fresh_0 : List UInt8 := [5, 42, 27, 4, 182, 0, 57, 104, 42, 27, 5, 182, 0, 57, 96, 61, 42, 27, 3, 182, 0, 57, 62, 29]
abbrev dktX9_fresh_0 : List UInt8 := dkwX9_fresh_0 ++ dktX9_fresh_1
theorem dksX9_fresh_0 : cX9_fresh.data.toList.drop 0 = dktX9_fresh_0 := by decide +kernel
theorem dksX9_fresh_1 : cX9_fresh.data.toList.drop 24 = dktX9_fresh_1 := dk_seg dksX9_fresh_0 24 rfl rfl
theorem dksX9_fresh_2 : cX9_fresh.data.toList.drop 48 = dktX9_fresh_2 := dk_seg dksX9_fresh_1 24 rfl rfl
theorem dX9_fresh_0 : decode cX9_fresh 0 = .ok (.iconst 2, 1) := dk_5 (dk_at dksX9_fresh_0 0 rfl rfl)
theorem dX9_fresh_1 : decode cX9_fresh 1 = .ok (.aload_n 0, 1) := dk_42 (dk_at dksX9_fresh_0 1 rfl rfl)
theorem dX9_fresh_2 : decode cX9_fresh 2 = .ok (.iload_n 1, 1) := dk_27 (dk_at dksX9_fresh_0 2 rfl rfl)
theorem dX9_fresh_3 : decode cX9_fresh 3 = .ok (.iconst 1, 1) := dk_4 (dk_at dksX9_fresh_0 3 rfl rfl)
theorem dX9_fresh_4 : decode cX9_fresh 4 = .ok (.invokevirtual 57, 3) := dk_182 0 57 (dk_at dksX9_fresh_0 4 rfl rfl)
theorem dX9_fresh_7 : decode cX9_fresh 7 = .ok (.imul, 1) := dk_104 (dk_at dksX9_fresh_0 7 rfl rfl)
theorem dX9_fresh_8 : decode cX9_fresh 8 = .ok (.aload_n 0, 1) := dk_42 (dk_at dksX9_fresh_0 8 rfl rfl)
theorem dX9_fresh_9 : decode cX9_fresh 9 = .ok (.iload_n 1, 1) := dk_27 (dk_at dksX9_fresh_0 9 rfl rfl)
theorem dX9_fresh_10 : decode cX9_fresh 10 = .ok (.iconst 2, 1) := dk_5 (dk_at dksX9_fresh_0 10 rfl rfl)
theorem dX9_fresh_11 : decode cX9_fresh 11 = .ok (.invokevirtual 57, 3) := dk_182 0 57 (dk_at dksX9_fresh_0 11 rfl rfl)
theorem dX9_fresh_14 : decode cX9_fresh 14 = .ok (.iadd, 1) := dk_96 (dk_at dksX9_fresh_0 14 rfl rfl)
theorem dX9_fresh_15 : decode cX9_fresh 15 = .ok (.istore_n 2, 1) := dk_61 (dk_at dksX9_fresh_0 15 rfl rfl)
theorem dX9_fresh_16 : decode cX9_fresh 16 = .ok (.aload_n 0, 1) := dk_42 (dk_at dksX9_fresh_0 16 rfl rfl)
theorem dX9_fresh_17 : decode cX9_fresh 17 = .ok (.iload_n 1, 1) := dk_27 (dk_at dksX9_fresh_0 17 rfl rfl)
theorem dX9_fresh_18 : decode cX9_fresh 18 = .ok (.iconst 0, 1) := dk_3 (dk_at dksX9_fresh_0 18 rfl rfl)
theorem dX9_fresh_19 : decode cX9_fresh 19 = .ok (.invokevirtual 57, 3) := dk_182 0 57 (dk_at dksX9_fresh_0 19 rfl rfl)
theorem dX9_fresh_22 : decode cX9_fresh 22 = .ok (.istore_n 3, 1) := dk_62 (dk_at dksX9_fresh_0 22 rfl rfl)
theorem dX9_fresh_23 : decode cX9_fresh 23 = .ok (.iload_n 3, 1) := dk_29 (dk_at dksX9_fresh_0 23 rfl rfl)
theorem dX9_fresh_24 : decode cX9_fresh 24 = .ok (.iconst 2, 1) := dk_5 (dk_at dksX9_fresh_1 0 rfl rfl)
theorem dX9_fresh_25 : decode cX9_fresh 25 = .ok (.if_icmp .ne 9, 3) := dk_160 0 9 (dk_at dksX9_fresh_1 1 rfl rfl)
theorem dX9_fresh_28 : decode cX9_fresh 28 = .ok (.iload_n 2, 1) := dk_28 (dk_at dksX9_fresh_1 4 rfl rfl)
theorem dX9_fresh_29 : decode cX9_fresh 29 = .ok (.iconst 3, 1) := dk_6 (dk_at dksX9_fresh_1 5 rfl rfl)
theorem dX9_fresh_30 : decode cX9_fresh 30 = .ok (.iadd, 1) := dk_96 (dk_at dksX9_fresh_1 6 rfl rfl)
theorem dX9_fresh_31 : decode cX9_fresh 31 = .ok (.goto 17, 3) := dk_167 0 17 (dk_at dksX9_fresh_1 7 rfl rfl)
theorem dX9_fresh_34 : decode cX9_fresh 34 = .ok (.iload_n 3, 1) := dk_29 (dk_at dksX9_fresh_1 10 rfl rfl)
theorem dX9_fresh_35 : decode cX9_fresh 35 = .ok (.iconst 4, 1) := dk_7 (dk_at dksX9_fresh_1 11 rfl rfl)
theorem dX9_fresh_36 : decode cX9_fresh 36 = .ok (.if_icmp .ne 11, 3) := dk_160 0 11 (dk_at dksX9_fresh_1 12 rfl rfl)
theorem dX9_fresh_39 : decode cX9_fresh 39 = .ok (.iconst 2, 1) := dk_5 (dk_at dksX9_fresh_1 15 rfl rfl)
theorem dX9_fresh_40 : decode cX9_fresh 40 = .ok (.iload_n 2, 1) := dk_28 (dk_at dksX9_fresh_1 16 rfl rfl)
theorem dX9_fresh_41 : decode cX9_fresh 41 = .ok (.iconst 3, 1) := dk_6 (dk_at dksX9_fresh_1 17 rfl rfl)
theorem dX9_fresh_42 : decode cX9_fresh 42 = .ok (.iadd, 1) := dk_96 (dk_at dksX9_fresh_1 18 rfl rfl)
theorem dX9_fresh_43 : decode cX9_fresh 43 = .ok (.imul, 1) := dk_104 (dk_at dksX9_fresh_1 19 rfl rfl)
theorem dX9_fresh_44 : decode cX9_fresh 44 = .ok (.goto 4, 3) := dk_167 0 4 (dk_at dksX9_fresh_1 20 rfl rfl)
theorem dX9_fresh_47 : decode cX9_fresh 47 = .ok (.iload_n 2, 1) := dk_28 (dk_at dksX9_fresh_1 23 rfl rfl)
theorem dX9_fresh_48 : decode cX9_fresh 48 = .ok (.ireturn, 1) := dk_172 (dk_at dksX9_fresh_2 0 rfl rfl)
abbrev cX9_of : ByteArray := prog_28_method_12_code
def yX9_of : MethodName := ⟨RX9, "of", "(II)I"⟩
def dkwX9_of_0 : List UInt8 := [42, 180, 0, 13, 16, 22, 6, 27, 104, 96, 28, 96, 46, 172]
abbrev dktX9_of_0 : List UInt8 := dkwX9_of_0 ++ []
theorem dksX9_of_0 : cX9_of.data.toList.drop 0 = dktX9_of_0 := by decide +kernel
theorem dX9_of_0 : decode cX9_of 0 = .ok (.aload_n 0, 1) := dk_42 (dk_at dksX9_of_0 0 rfl rfl)
theorem dX9_of_1 : decode cX9_of 1 = .ok (.getfield 13, 3) := dk_180 0 13 (dk_at dksX9_of_0 1 rfl rfl)
theorem dX9_of_4 : decode cX9_of 4 = .ok (.bipush 22, 2) := dk_16 22 (dk_at dksX9_of_0 4 rfl rfl)
theorem dX9_of_6 : decode cX9_of 6 = .ok (.iconst 3, 1) := dk_6 (dk_at dksX9_of_0 6 rfl rfl)
theorem dX9_of_7 : decode cX9_of 7 = .ok (.iload_n 1, 1) := dk_27 (dk_at dksX9_of_0 7 rfl rfl)
theorem dX9_of_8 : decode cX9_of 8 = .ok (.imul, 1) := dk_104 (dk_at dksX9_of_0 8 rfl rfl)
theorem dX9_of_9 : decode cX9_of 9 = .ok (.iadd, 1) := dk_96 (dk_at dksX9_of_0 9 rfl rfl)
theorem dX9_of_10 : decode cX9_of 10 = .ok (.iload_n 2, 1) := dk_28 (dk_at dksX9_of_0 10 rfl rfl)
theorem dX9_of_11 : decode cX9_of 11 = .ok (.iadd, 1) := dk_96 (dk_at dksX9_of_0 11 rfl rfl)
theorem dX9_of_12 : decode cX9_of 12 = .ok (.iaload, 1) := dk_46 (dk_at dksX9_of_0 12 rfl rfl)
theorem dX9_of_13 : decode cX9_of 13 = .ok (.ireturn, 1) := dk_172 (dk_at dksX9_of_0 13 rfl rfl)
abbrev cX9_song : ByteArray := prog_28_method_37_code
def yX9_song : MethodName := ⟨RX9, "song", "(II)I"⟩
def dkwX9_song_2 : List UInt8 := [160, 0, 11, 42, 27, 182, 0, 106, 167, 0, 9, 42, 16, 254, 182, 0, 120, 172]
abbrev dktX9_song_2 : List UInt8 := dkwX9_song_2 ++ []
def dkwX9_song_1 : List UInt8 := [28, 182, 0, 57, 167, 0, 35, 28, 6, 160, 0, 11, 42, 27, 182, 0, 68, 167, 0, 22, 28, 7]
abbrev dktX9_song_1 : List UInt8 := dkwX9_song_1 ++ dktX9_song_2
def dkwX9_song_0 : List UInt8 := [42, 27, 182, 0, 147, 154, 0, 9, 42, 2, 182, 0, 120, 172, 28, 6, 184, 0, 53, 153, 0, 12, 42, 27]
abbrev dktX9_song_0 : List UInt8 := dkwX9_song_0 ++ dktX9_song_1
theorem dksX9_song_0 : cX9_song.data.toList.drop 0 = dktX9_song_0 := by decide +kernel
theorem dksX9_song_1 : cX9_song.data.toList.drop 24 = dktX9_song_1 := dk_seg dksX9_song_0 24 rfl rfl
theorem dksX9_song_2 : cX9_song.data.toList.drop 46 = dktX9_song_2 := dk_seg dksX9_song_1 22 rfl rfl
theorem dX9_song_0 : decode cX9_song 0 = .ok (.aload_n 0, 1) := dk_42 (dk_at dksX9_song_0 0 rfl rfl)
theorem dX9_song_1 : decode cX9_song 1 = .ok (.iload_n 1, 1) := dk_27 (dk_at dksX9_song_0 1 rfl rfl)
theorem dX9_song_2 : decode cX9_song 2 = .ok (.invokevirtual 147, 3) := dk_182 0 147 (dk_at dksX9_song_0 2 rfl rfl)
theorem dX9_song_5 : decode cX9_song 5 = .ok (.ifCond .ne 9, 3) := dk_154 0 9 (dk_at dksX9_song_0 5 rfl rfl)
theorem dX9_song_8 : decode cX9_song 8 = .ok (.aload_n 0, 1) := dk_42 (dk_at dksX9_song_0 8 rfl rfl)
theorem dX9_song_9 : decode cX9_song 9 = .ok (.iconst (-1), 1) := dk_2 (dk_at dksX9_song_0 9 rfl rfl)
theorem dX9_song_10 : decode cX9_song 10 = .ok (.invokevirtual 120, 3) := dk_182 0 120 (dk_at dksX9_song_0 10 rfl rfl)
theorem dX9_song_13 : decode cX9_song 13 = .ok (.ireturn, 1) := dk_172 (dk_at dksX9_song_0 13 rfl rfl)
theorem dX9_song_14 : decode cX9_song 14 = .ok (.iload_n 2, 1) := dk_28 (dk_at dksX9_song_0 14 rfl rfl)
theorem dX9_song_15 : decode cX9_song 15 = .ok (.iconst 3, 1) := dk_6 (dk_at dksX9_song_0 15 rfl rfl)
theorem dX9_song_16 : decode cX9_song 16 = .ok (.invokestatic 53, 3) := dk_184 0 53 (dk_at dksX9_song_0 16 rfl rfl)
theorem dX9_song_19 : decode cX9_song 19 = .ok (.ifCond .eq 12, 3) := dk_153 0 12 (dk_at dksX9_song_0 19 rfl rfl)
theorem dX9_song_22 : decode cX9_song 22 = .ok (.aload_n 0, 1) := dk_42 (dk_at dksX9_song_0 22 rfl rfl)
theorem dX9_song_23 : decode cX9_song 23 = .ok (.iload_n 1, 1) := dk_27 (dk_at dksX9_song_0 23 rfl rfl)
theorem dX9_song_24 : decode cX9_song 24 = .ok (.iload_n 2, 1) := dk_28 (dk_at dksX9_song_1 0 rfl rfl)
theorem dX9_song_25 : decode cX9_song 25 = .ok (.invokevirtual 57, 3) := dk_182 0 57 (dk_at dksX9_song_1 1 rfl rfl)
theorem dX9_song_28 : decode cX9_song 28 = .ok (.goto 35, 3) := dk_167 0 35 (dk_at dksX9_song_1 4 rfl rfl)
theorem dX9_song_31 : decode cX9_song 31 = .ok (.iload_n 2, 1) := dk_28 (dk_at dksX9_song_1 7 rfl rfl)
theorem dX9_song_32 : decode cX9_song 32 = .ok (.iconst 3, 1) := dk_6 (dk_at dksX9_song_1 8 rfl rfl)
theorem dX9_song_33 : decode cX9_song 33 = .ok (.if_icmp .ne 11, 3) := dk_160 0 11 (dk_at dksX9_song_1 9 rfl rfl)
theorem dX9_song_36 : decode cX9_song 36 = .ok (.aload_n 0, 1) := dk_42 (dk_at dksX9_song_1 12 rfl rfl)
theorem dX9_song_37 : decode cX9_song 37 = .ok (.iload_n 1, 1) := dk_27 (dk_at dksX9_song_1 13 rfl rfl)
theorem dX9_song_38 : decode cX9_song 38 = .ok (.invokevirtual 68, 3) := dk_182 0 68 (dk_at dksX9_song_1 14 rfl rfl)
theorem dX9_song_41 : decode cX9_song 41 = .ok (.goto 22, 3) := dk_167 0 22 (dk_at dksX9_song_1 17 rfl rfl)
theorem dX9_song_44 : decode cX9_song 44 = .ok (.iload_n 2, 1) := dk_28 (dk_at dksX9_song_1 20 rfl rfl)
theorem dX9_song_45 : decode cX9_song 45 = .ok (.iconst 4, 1) := dk_7 (dk_at dksX9_song_1 21 rfl rfl)
theorem dX9_song_46 : decode cX9_song 46 = .ok (.if_icmp .ne 11, 3) := dk_160 0 11 (dk_at dksX9_song_2 0 rfl rfl)
theorem dX9_song_49 : decode cX9_song 49 = .ok (.aload_n 0, 1) := dk_42 (dk_at dksX9_song_2 3 rfl rfl)
theorem dX9_song_50 : decode cX9_song 50 = .ok (.iload_n 1, 1) := dk_27 (dk_at dksX9_song_2 4 rfl rfl)
theorem dX9_song_51 : decode cX9_song 51 = .ok (.invokevirtual 106, 3) := dk_182 0 106 (dk_at dksX9_song_2 5 rfl rfl)
theorem dX9_song_54 : decode cX9_song 54 = .ok (.goto 9, 3) := dk_167 0 9 (dk_at dksX9_song_2 8 rfl rfl)
theorem dX9_song_57 : decode cX9_song 57 = .ok (.aload_n 0, 1) := dk_42 (dk_at dksX9_song_2 11 rfl rfl)
theorem dX9_song_58 : decode cX9_song 58 = .ok (.bipush (-2), 2) := dk_16 254 (dk_at dksX9_song_2 12 rfl rfl)
theorem dX9_song_60 : decode cX9_song 60 = .ok (.invokevirtual 120, 3) := dk_182 0 120 (dk_at dksX9_song_2 14 rfl rfl)
theorem dX9_song_63 : decode cX9_song 63 = .ok (.ireturn, 1) := dk_172 (dk_at dksX9_song_2 17 rfl rfl)
abbrev cX9_haveIt : ByteArray := prog_28_method_24_code
def yX9_haveIt : MethodName := ⟨RX9, "haveIt", "(I)I"⟩
def dkwX9_haveIt_2 : List UInt8 := [4, 167, 0, 4, 3, 96, 61, 132, 3, 1, 167, 255, 204, 28, 172]
abbrev dktX9_haveIt_2 : List UInt8 := dkwX9_haveIt_2 ++ []
def dkwX9_haveIt_1 : List UInt8 := [182, 0, 61, 155, 0, 7, 4, 167, 0, 22, 3, 167, 0, 18, 42, 29, 6, 182, 0, 61, 27, 160, 0, 7]
abbrev dktX9_haveIt_1 : List UInt8 := dkwX9_haveIt_1 ++ dktX9_haveIt_2
def dkwX9_haveIt_0 : List UInt8 := [3, 61, 3, 62, 29, 42, 180, 0, 13, 6, 46, 162, 0, 48, 28, 27, 156, 0, 20, 42, 29, 6]
abbrev dktX9_haveIt_0 : List UInt8 := dkwX9_haveIt_0 ++ dktX9_haveIt_1
theorem dksX9_haveIt_0 : cX9_haveIt.data.toList.drop 0 = dktX9_haveIt_0 := by decide +kernel
theorem dksX9_haveIt_1 : cX9_haveIt.data.toList.drop 22 = dktX9_haveIt_1 := dk_seg dksX9_haveIt_0 22 rfl rfl
theorem dksX9_haveIt_2 : cX9_haveIt.data.toList.drop 46 = dktX9_haveIt_2 := dk_seg dksX9_haveIt_1 24 rfl rfl
theorem dX9_haveIt_0 : decode cX9_haveIt 0 = .ok (.iconst 0, 1) := dk_3 (dk_at dksX9_haveIt_0 0 rfl rfl)
theorem dX9_haveIt_1 : decode cX9_haveIt 1 = .ok (.istore_n 2, 1) := dk_61 (dk_at dksX9_haveIt_0 1 rfl rfl)
theorem dX9_haveIt_2 : decode cX9_haveIt 2 = .ok (.iconst 0, 1) := dk_3 (dk_at dksX9_haveIt_0 2 rfl rfl)
theorem dX9_haveIt_3 : decode cX9_haveIt 3 = .ok (.istore_n 3, 1) := dk_62 (dk_at dksX9_haveIt_0 3 rfl rfl)
theorem dX9_haveIt_4 : decode cX9_haveIt 4 = .ok (.iload_n 3, 1) := dk_29 (dk_at dksX9_haveIt_0 4 rfl rfl)
theorem dX9_haveIt_5 : decode cX9_haveIt 5 = .ok (.aload_n 0, 1) := dk_42 (dk_at dksX9_haveIt_0 5 rfl rfl)
theorem dX9_haveIt_6 : decode cX9_haveIt 6 = .ok (.getfield 13, 3) := dk_180 0 13 (dk_at dksX9_haveIt_0 6 rfl rfl)
theorem dX9_haveIt_9 : decode cX9_haveIt 9 = .ok (.iconst 3, 1) := dk_6 (dk_at dksX9_haveIt_0 9 rfl rfl)
theorem dX9_haveIt_10 : decode cX9_haveIt 10 = .ok (.iaload, 1) := dk_46 (dk_at dksX9_haveIt_0 10 rfl rfl)
theorem dX9_haveIt_11 : decode cX9_haveIt 11 = .ok (.if_icmp .ge 48, 3) := dk_162 0 48 (dk_at dksX9_haveIt_0 11 rfl rfl)
theorem dX9_haveIt_14 : decode cX9_haveIt 14 = .ok (.iload_n 2, 1) := dk_28 (dk_at dksX9_haveIt_0 14 rfl rfl)
theorem dX9_haveIt_15 : decode cX9_haveIt 15 = .ok (.iload_n 1, 1) := dk_27 (dk_at dksX9_haveIt_0 15 rfl rfl)
theorem dX9_haveIt_16 : decode cX9_haveIt 16 = .ok (.ifCond .ge 20, 3) := dk_156 0 20 (dk_at dksX9_haveIt_0 16 rfl rfl)
theorem dX9_haveIt_19 : decode cX9_haveIt 19 = .ok (.aload_n 0, 1) := dk_42 (dk_at dksX9_haveIt_0 19 rfl rfl)
theorem dX9_haveIt_20 : decode cX9_haveIt 20 = .ok (.iload_n 3, 1) := dk_29 (dk_at dksX9_haveIt_0 20 rfl rfl)
theorem dX9_haveIt_21 : decode cX9_haveIt 21 = .ok (.iconst 3, 1) := dk_6 (dk_at dksX9_haveIt_0 21 rfl rfl)
theorem dX9_haveIt_22 : decode cX9_haveIt 22 = .ok (.invokevirtual 61, 3) := dk_182 0 61 (dk_at dksX9_haveIt_1 0 rfl rfl)
theorem dX9_haveIt_25 : decode cX9_haveIt 25 = .ok (.ifCond .lt 7, 3) := dk_155 0 7 (dk_at dksX9_haveIt_1 3 rfl rfl)
theorem dX9_haveIt_28 : decode cX9_haveIt 28 = .ok (.iconst 1, 1) := dk_4 (dk_at dksX9_haveIt_1 6 rfl rfl)
theorem dX9_haveIt_29 : decode cX9_haveIt 29 = .ok (.goto 22, 3) := dk_167 0 22 (dk_at dksX9_haveIt_1 7 rfl rfl)
theorem dX9_haveIt_32 : decode cX9_haveIt 32 = .ok (.iconst 0, 1) := dk_3 (dk_at dksX9_haveIt_1 10 rfl rfl)
theorem dX9_haveIt_33 : decode cX9_haveIt 33 = .ok (.goto 18, 3) := dk_167 0 18 (dk_at dksX9_haveIt_1 11 rfl rfl)
theorem dX9_haveIt_36 : decode cX9_haveIt 36 = .ok (.aload_n 0, 1) := dk_42 (dk_at dksX9_haveIt_1 14 rfl rfl)
theorem dX9_haveIt_37 : decode cX9_haveIt 37 = .ok (.iload_n 3, 1) := dk_29 (dk_at dksX9_haveIt_1 15 rfl rfl)
theorem dX9_haveIt_38 : decode cX9_haveIt 38 = .ok (.iconst 3, 1) := dk_6 (dk_at dksX9_haveIt_1 16 rfl rfl)
theorem dX9_haveIt_39 : decode cX9_haveIt 39 = .ok (.invokevirtual 61, 3) := dk_182 0 61 (dk_at dksX9_haveIt_1 17 rfl rfl)
theorem dX9_haveIt_42 : decode cX9_haveIt 42 = .ok (.iload_n 1, 1) := dk_27 (dk_at dksX9_haveIt_1 20 rfl rfl)
theorem dX9_haveIt_43 : decode cX9_haveIt 43 = .ok (.if_icmp .ne 7, 3) := dk_160 0 7 (dk_at dksX9_haveIt_1 21 rfl rfl)
theorem dX9_haveIt_46 : decode cX9_haveIt 46 = .ok (.iconst 1, 1) := dk_4 (dk_at dksX9_haveIt_2 0 rfl rfl)
theorem dX9_haveIt_47 : decode cX9_haveIt 47 = .ok (.goto 4, 3) := dk_167 0 4 (dk_at dksX9_haveIt_2 1 rfl rfl)
theorem dX9_haveIt_50 : decode cX9_haveIt 50 = .ok (.iconst 0, 1) := dk_3 (dk_at dksX9_haveIt_2 4 rfl rfl)
theorem dX9_haveIt_51 : decode cX9_haveIt 51 = .ok (.iadd, 1) := dk_96 (dk_at dksX9_haveIt_2 5 rfl rfl)
theorem dX9_haveIt_52 : decode cX9_haveIt 52 = .ok (.istore_n 2, 1) := dk_61 (dk_at dksX9_haveIt_2 6 rfl rfl)
theorem dX9_haveIt_53 : decode cX9_haveIt 53 = .ok (.iinc 3 1, 3) := dk_132 3 1 (dk_at dksX9_haveIt_2 7 rfl rfl)
theorem dX9_haveIt_56 : decode cX9_haveIt 56 = .ok (.goto (-52), 3) := dk_167 255 204 (dk_at dksX9_haveIt_2 10 rfl rfl)
theorem dX9_haveIt_59 : decode cX9_haveIt 59 = .ok (.iload_n 2, 1) := dk_28 (dk_at dksX9_haveIt_2 13 rfl rfl)
theorem dX9_haveIt_60 : decode cX9_haveIt 60 = .ok (.ireturn, 1) := dk_172 (dk_at dksX9_haveIt_2 14 rfl rfl)
abbrev cX9_at : ByteArray := prog_28_method_10_code
def yX9_at : MethodName := ⟨RX9, "at", "(II)I"⟩
def dkwX9_at_0 : List UInt8 := [42, 180, 0, 13, 16, 37, 16, 6, 27, 104, 96, 28, 96, 46, 172]
abbrev dktX9_at_0 : List UInt8 := dkwX9_at_0 ++ []
theorem dksX9_at_0 : cX9_at.data.toList.drop 0 = dktX9_at_0 := by decide +kernel
theorem dX9_at_0 : decode cX9_at 0 = .ok (.aload_n 0, 1) := dk_42 (dk_at dksX9_at_0 0 rfl rfl)
theorem dX9_at_1 : decode cX9_at 1 = .ok (.getfield 13, 3) := dk_180 0 13 (dk_at dksX9_at_0 1 rfl rfl)
theorem dX9_at_4 : decode cX9_at 4 = .ok (.bipush 37, 2) := dk_16 37 (dk_at dksX9_at_0 4 rfl rfl)
theorem dX9_at_6 : decode cX9_at 6 = .ok (.bipush 6, 2) := dk_16 6 (dk_at dksX9_at_0 6 rfl rfl)
theorem dX9_at_8 : decode cX9_at 8 = .ok (.iload_n 1, 1) := dk_27 (dk_at dksX9_at_0 8 rfl rfl)
theorem dX9_at_9 : decode cX9_at 9 = .ok (.imul, 1) := dk_104 (dk_at dksX9_at_0 9 rfl rfl)
theorem dX9_at_10 : decode cX9_at 10 = .ok (.iadd, 1) := dk_96 (dk_at dksX9_at_0 10 rfl rfl)
theorem dX9_at_11 : decode cX9_at 11 = .ok (.iload_n 2, 1) := dk_28 (dk_at dksX9_at_0 11 rfl rfl)
theorem dX9_at_12 : decode cX9_at 12 = .ok (.iadd, 1) := dk_96 (dk_at dksX9_at_0 12 rfl rfl)
theorem dX9_at_13 : decode cX9_at 13 = .ok (.iaload, 1) := dk_46 (dk_at dksX9_at_0 13 rfl rfl)
theorem dX9_at_14 : decode cX9_at 14 = .ok (.ireturn, 1) := dk_172 (dk_at dksX9_at_0 14 rfl rfl)
abbrev cX9_head : ByteArray := prog_28_method_38_code
def yX9_head : MethodName := ⟨RX9, "head", "(II)I"⟩
def dkwX9_head_3 : List UInt8 := [182, 0, 120, 172]
abbrev dktX9_head_3 : List UInt8 := dkwX9_head_3 ++ []
def dkwX9_head_2 : List UInt8 := [16, 7, 160, 0, 19, 42, 27, 182, 0, 85, 153, 0, 7, 4, 167, 0, 13, 3, 167, 0, 9, 42, 16, 254]
abbrev dktX9_head_2 : List UInt8 := dkwX9_head_2 ++ dktX9_head_3
def dkwX9_head_1 : List UInt8 := [27, 28, 182, 0, 61, 167, 0, 45, 28, 16, 6, 160, 0, 11, 42, 27, 182, 0, 75, 167, 0, 31, 28]
abbrev dktX9_head_1 : List UInt8 := dkwX9_head_1 ++ dktX9_head_2
def dkwX9_head_0 : List UInt8 := [42, 27, 182, 0, 144, 154, 0, 9, 42, 2, 182, 0, 120, 172, 28, 16, 6, 184, 0, 53, 153, 0, 12, 42]
abbrev dktX9_head_0 : List UInt8 := dkwX9_head_0 ++ dktX9_head_1
theorem dksX9_head_0 : cX9_head.data.toList.drop 0 = dktX9_head_0 := by decide +kernel
theorem dksX9_head_1 : cX9_head.data.toList.drop 24 = dktX9_head_1 := dk_seg dksX9_head_0 24 rfl rfl
theorem dksX9_head_2 : cX9_head.data.toList.drop 47 = dktX9_head_2 := dk_seg dksX9_head_1 23 rfl rfl
theorem dksX9_head_3 : cX9_head.data.toList.drop 71 = dktX9_head_3 := dk_seg dksX9_head_2 24 rfl rfl
theorem dX9_head_0 : decode cX9_head 0 = .ok (.aload_n 0, 1) := dk_42 (dk_at dksX9_head_0 0 rfl rfl)
theorem dX9_head_1 : decode cX9_head 1 = .ok (.iload_n 1, 1) := dk_27 (dk_at dksX9_head_0 1 rfl rfl)
theorem dX9_head_2 : decode cX9_head 2 = .ok (.invokevirtual 144, 3) := dk_182 0 144 (dk_at dksX9_head_0 2 rfl rfl)
theorem dX9_head_5 : decode cX9_head 5 = .ok (.ifCond .ne 9, 3) := dk_154 0 9 (dk_at dksX9_head_0 5 rfl rfl)
theorem dX9_head_8 : decode cX9_head 8 = .ok (.aload_n 0, 1) := dk_42 (dk_at dksX9_head_0 8 rfl rfl)
theorem dX9_head_9 : decode cX9_head 9 = .ok (.iconst (-1), 1) := dk_2 (dk_at dksX9_head_0 9 rfl rfl)
theorem dX9_head_10 : decode cX9_head 10 = .ok (.invokevirtual 120, 3) := dk_182 0 120 (dk_at dksX9_head_0 10 rfl rfl)
theorem dX9_head_13 : decode cX9_head 13 = .ok (.ireturn, 1) := dk_172 (dk_at dksX9_head_0 13 rfl rfl)
theorem dX9_head_14 : decode cX9_head 14 = .ok (.iload_n 2, 1) := dk_28 (dk_at dksX9_head_0 14 rfl rfl)
theorem dX9_head_15 : decode cX9_head 15 = .ok (.bipush 6, 2) := dk_16 6 (dk_at dksX9_head_0 15 rfl rfl)
theorem dX9_head_17 : decode cX9_head 17 = .ok (.invokestatic 53, 3) := dk_184 0 53 (dk_at dksX9_head_0 17 rfl rfl)
theorem dX9_head_20 : decode cX9_head 20 = .ok (.ifCond .eq 12, 3) := dk_153 0 12 (dk_at dksX9_head_0 20 rfl rfl)
theorem dX9_head_23 : decode cX9_head 23 = .ok (.aload_n 0, 1) := dk_42 (dk_at dksX9_head_0 23 rfl rfl)
theorem dX9_head_24 : decode cX9_head 24 = .ok (.iload_n 1, 1) := dk_27 (dk_at dksX9_head_1 0 rfl rfl)
theorem dX9_head_25 : decode cX9_head 25 = .ok (.iload_n 2, 1) := dk_28 (dk_at dksX9_head_1 1 rfl rfl)
theorem dX9_head_26 : decode cX9_head 26 = .ok (.invokevirtual 61, 3) := dk_182 0 61 (dk_at dksX9_head_1 2 rfl rfl)
theorem dX9_head_29 : decode cX9_head 29 = .ok (.goto 45, 3) := dk_167 0 45 (dk_at dksX9_head_1 5 rfl rfl)
theorem dX9_head_32 : decode cX9_head 32 = .ok (.iload_n 2, 1) := dk_28 (dk_at dksX9_head_1 8 rfl rfl)
theorem dX9_head_33 : decode cX9_head 33 = .ok (.bipush 6, 2) := dk_16 6 (dk_at dksX9_head_1 9 rfl rfl)
theorem dX9_head_35 : decode cX9_head 35 = .ok (.if_icmp .ne 11, 3) := dk_160 0 11 (dk_at dksX9_head_1 11 rfl rfl)
theorem dX9_head_38 : decode cX9_head 38 = .ok (.aload_n 0, 1) := dk_42 (dk_at dksX9_head_1 14 rfl rfl)
theorem dX9_head_39 : decode cX9_head 39 = .ok (.iload_n 1, 1) := dk_27 (dk_at dksX9_head_1 15 rfl rfl)
theorem dX9_head_40 : decode cX9_head 40 = .ok (.invokevirtual 75, 3) := dk_182 0 75 (dk_at dksX9_head_1 16 rfl rfl)
theorem dX9_head_43 : decode cX9_head 43 = .ok (.goto 31, 3) := dk_167 0 31 (dk_at dksX9_head_1 19 rfl rfl)
theorem dX9_head_46 : decode cX9_head 46 = .ok (.iload_n 2, 1) := dk_28 (dk_at dksX9_head_1 22 rfl rfl)
theorem dX9_head_47 : decode cX9_head 47 = .ok (.bipush 7, 2) := dk_16 7 (dk_at dksX9_head_2 0 rfl rfl)
theorem dX9_head_49 : decode cX9_head 49 = .ok (.if_icmp .ne 19, 3) := dk_160 0 19 (dk_at dksX9_head_2 2 rfl rfl)
theorem dX9_head_52 : decode cX9_head 52 = .ok (.aload_n 0, 1) := dk_42 (dk_at dksX9_head_2 5 rfl rfl)
theorem dX9_head_53 : decode cX9_head 53 = .ok (.iload_n 1, 1) := dk_27 (dk_at dksX9_head_2 6 rfl rfl)
theorem dX9_head_54 : decode cX9_head 54 = .ok (.invokevirtual 85, 3) := dk_182 0 85 (dk_at dksX9_head_2 7 rfl rfl)
theorem dX9_head_57 : decode cX9_head 57 = .ok (.ifCond .eq 7, 3) := dk_153 0 7 (dk_at dksX9_head_2 10 rfl rfl)
theorem dX9_head_60 : decode cX9_head 60 = .ok (.iconst 1, 1) := dk_4 (dk_at dksX9_head_2 13 rfl rfl)
theorem dX9_head_61 : decode cX9_head 61 = .ok (.goto 13, 3) := dk_167 0 13 (dk_at dksX9_head_2 14 rfl rfl)
theorem dX9_head_64 : decode cX9_head 64 = .ok (.iconst 0, 1) := dk_3 (dk_at dksX9_head_2 17 rfl rfl)
theorem dX9_head_65 : decode cX9_head 65 = .ok (.goto 9, 3) := dk_167 0 9 (dk_at dksX9_head_2 18 rfl rfl)
theorem dX9_head_68 : decode cX9_head 68 = .ok (.aload_n 0, 1) := dk_42 (dk_at dksX9_head_2 21 rfl rfl)
theorem dX9_head_69 : decode cX9_head 69 = .ok (.bipush (-2), 2) := dk_16 254 (dk_at dksX9_head_2 22 rfl rfl)
theorem dX9_head_71 : decode cX9_head 71 = .ok (.invokevirtual 120, 3) := dk_182 0 120 (dk_at dksX9_head_3 0 rfl rfl)
theorem dX9_head_74 : decode cX9_head 74 = .ok (.ireturn, 1) := dk_172 (dk_at dksX9_head_3 3 rfl rfl)
abbrev cX9_bar : ByteArray := prog_28_method_16_code
def yX9_bar : MethodName := ⟨RX9, "bar", "(I)I"⟩
def dkwX9_bar_2 : List UInt8 := [16, 99, 172, 28, 5, 108, 172, 28, 6, 96, 172, 3, 172, 28, 172]
abbrev dktX9_bar_2 : List UInt8 := dkwX9_bar_2 ++ []
def dkwX9_bar_1 : List UInt8 := [170, 0, 0, 0, 0, 0, 44, 0, 0, 0, 2, 0, 0, 0, 5, 0, 0, 0, 31, 0, 0, 0, 34, 0, 0, 0, 38, 0, 0, 0, 42]
abbrev dktX9_bar_1 : List UInt8 := dkwX9_bar_1 ++ dktX9_bar_2
def dkwX9_bar_0 : List UInt8 := [42, 27, 5, 182, 0, 61, 61, 42, 27, 3, 182, 0, 61]
abbrev dktX9_bar_0 : List UInt8 := dkwX9_bar_0 ++ dktX9_bar_1
theorem dksX9_bar_0 : cX9_bar.data.toList.drop 0 = dktX9_bar_0 := by decide +kernel
theorem dksX9_bar_1 : cX9_bar.data.toList.drop 13 = dktX9_bar_1 := dk_seg dksX9_bar_0 13 rfl rfl
theorem dksX9_bar_2 : cX9_bar.data.toList.drop 44 = dktX9_bar_2 := dk_seg dksX9_bar_1 31 rfl rfl
theorem dX9_bar_0 : decode cX9_bar 0 = .ok (.aload_n 0, 1) := dk_42 (dk_at dksX9_bar_0 0 rfl rfl)
theorem dX9_bar_1 : decode cX9_bar 1 = .ok (.iload_n 1, 1) := dk_27 (dk_at dksX9_bar_0 1 rfl rfl)
theorem dX9_bar_2 : decode cX9_bar 2 = .ok (.iconst 2, 1) := dk_5 (dk_at dksX9_bar_0 2 rfl rfl)
theorem dX9_bar_3 : decode cX9_bar 3 = .ok (.invokevirtual 61, 3) := dk_182 0 61 (dk_at dksX9_bar_0 3 rfl rfl)
theorem dX9_bar_6 : decode cX9_bar 6 = .ok (.istore_n 2, 1) := dk_61 (dk_at dksX9_bar_0 6 rfl rfl)
theorem dX9_bar_7 : decode cX9_bar 7 = .ok (.aload_n 0, 1) := dk_42 (dk_at dksX9_bar_0 7 rfl rfl)
theorem dX9_bar_8 : decode cX9_bar 8 = .ok (.iload_n 1, 1) := dk_27 (dk_at dksX9_bar_0 8 rfl rfl)
theorem dX9_bar_9 : decode cX9_bar 9 = .ok (.iconst 0, 1) := dk_3 (dk_at dksX9_bar_0 9 rfl rfl)
theorem dX9_bar_10 : decode cX9_bar 10 = .ok (.invokevirtual 61, 3) := dk_182 0 61 (dk_at dksX9_bar_0 10 rfl rfl)
theorem dX9_bar_13 : decode cX9_bar 13 = .ok (.tableswitch 44 2 5 #[31, 34, 38, 42], 31) := by decide +kernel
theorem dX9_bar_44 : decode cX9_bar 44 = .ok (.bipush 99, 2) := dk_16 99 (dk_at dksX9_bar_2 0 rfl rfl)
theorem dX9_bar_46 : decode cX9_bar 46 = .ok (.ireturn, 1) := dk_172 (dk_at dksX9_bar_2 2 rfl rfl)
theorem dX9_bar_47 : decode cX9_bar 47 = .ok (.iload_n 2, 1) := dk_28 (dk_at dksX9_bar_2 3 rfl rfl)
theorem dX9_bar_48 : decode cX9_bar 48 = .ok (.iconst 2, 1) := dk_5 (dk_at dksX9_bar_2 4 rfl rfl)
theorem dX9_bar_49 : decode cX9_bar 49 = .ok (.idiv, 1) := dk_108 (dk_at dksX9_bar_2 5 rfl rfl)
theorem dX9_bar_50 : decode cX9_bar 50 = .ok (.ireturn, 1) := dk_172 (dk_at dksX9_bar_2 6 rfl rfl)
theorem dX9_bar_51 : decode cX9_bar 51 = .ok (.iload_n 2, 1) := dk_28 (dk_at dksX9_bar_2 7 rfl rfl)
theorem dX9_bar_52 : decode cX9_bar 52 = .ok (.iconst 3, 1) := dk_6 (dk_at dksX9_bar_2 8 rfl rfl)
theorem dX9_bar_53 : decode cX9_bar 53 = .ok (.iadd, 1) := dk_96 (dk_at dksX9_bar_2 9 rfl rfl)
theorem dX9_bar_54 : decode cX9_bar 54 = .ok (.ireturn, 1) := dk_172 (dk_at dksX9_bar_2 10 rfl rfl)
theorem dX9_bar_55 : decode cX9_bar 55 = .ok (.iconst 0, 1) := dk_3 (dk_at dksX9_bar_2 11 rfl rfl)
theorem dX9_bar_56 : decode cX9_bar 56 = .ok (.ireturn, 1) := dk_172 (dk_at dksX9_bar_2 12 rfl rfl)
theorem dX9_bar_57 : decode cX9_bar 57 = .ok (.iload_n 2, 1) := dk_28 (dk_at dksX9_bar_2 13 rfl rfl)
theorem dX9_bar_58 : decode cX9_bar 58 = .ok (.ireturn, 1) := dk_172 (dk_at dksX9_bar_2 14 rfl rfl)
abbrev cX9_hums : ByteArray := prog_28_method_15_code
def yX9_hums : MethodName := ⟨RX9, "hums", "(I)Z"⟩
def dkwX9_hums_3 : List UInt8 := [182, 0, 61, 42, 180, 0, 13, 8, 46, 161, 0, 7, 4, 167, 0, 4, 3, 172]
abbrev dktX9_hums_3 : List UInt8 := dkwX9_hums_3 ++ []
def dkwX9_hums_2 : List UInt8 := [4, 172, 3, 172, 42, 180, 0, 13, 7, 46, 5, 112, 154, 0, 7, 4, 167, 0, 4, 3, 172, 42, 27, 7]
abbrev dktX9_hums_2 : List UInt8 := dkwX9_hums_2 ++ dktX9_hums_3
def dkwX9_hums_1 : List UInt8 := [170, 0, 0, 0, 0, 0, 56, 0, 0, 0, 1, 0, 0, 0, 5, 0, 0, 0, 35, 0, 0, 0, 56, 0, 0, 0, 56, 0, 0, 0, 37, 0, 0, 0, 39]
abbrev dktX9_hums_1 : List UInt8 := dkwX9_hums_1 ++ dktX9_hums_2
def dkwX9_hums_0 : List UInt8 := [42, 27, 6, 182, 0, 61, 156, 0, 5, 3, 172, 42, 27, 3, 182, 0, 61]
abbrev dktX9_hums_0 : List UInt8 := dkwX9_hums_0 ++ dktX9_hums_1
theorem dksX9_hums_0 : cX9_hums.data.toList.drop 0 = dktX9_hums_0 := by decide +kernel
theorem dksX9_hums_1 : cX9_hums.data.toList.drop 17 = dktX9_hums_1 := dk_seg dksX9_hums_0 17 rfl rfl
theorem dksX9_hums_2 : cX9_hums.data.toList.drop 52 = dktX9_hums_2 := dk_seg dksX9_hums_1 35 rfl rfl
theorem dksX9_hums_3 : cX9_hums.data.toList.drop 76 = dktX9_hums_3 := dk_seg dksX9_hums_2 24 rfl rfl
theorem dX9_hums_0 : decode cX9_hums 0 = .ok (.aload_n 0, 1) := dk_42 (dk_at dksX9_hums_0 0 rfl rfl)
theorem dX9_hums_1 : decode cX9_hums 1 = .ok (.iload_n 1, 1) := dk_27 (dk_at dksX9_hums_0 1 rfl rfl)
theorem dX9_hums_2 : decode cX9_hums 2 = .ok (.iconst 3, 1) := dk_6 (dk_at dksX9_hums_0 2 rfl rfl)
theorem dX9_hums_3 : decode cX9_hums 3 = .ok (.invokevirtual 61, 3) := dk_182 0 61 (dk_at dksX9_hums_0 3 rfl rfl)
theorem dX9_hums_6 : decode cX9_hums 6 = .ok (.ifCond .ge 5, 3) := dk_156 0 5 (dk_at dksX9_hums_0 6 rfl rfl)
theorem dX9_hums_9 : decode cX9_hums 9 = .ok (.iconst 0, 1) := dk_3 (dk_at dksX9_hums_0 9 rfl rfl)
theorem dX9_hums_10 : decode cX9_hums 10 = .ok (.ireturn, 1) := dk_172 (dk_at dksX9_hums_0 10 rfl rfl)
theorem dX9_hums_11 : decode cX9_hums 11 = .ok (.aload_n 0, 1) := dk_42 (dk_at dksX9_hums_0 11 rfl rfl)
theorem dX9_hums_12 : decode cX9_hums 12 = .ok (.iload_n 1, 1) := dk_27 (dk_at dksX9_hums_0 12 rfl rfl)
theorem dX9_hums_13 : decode cX9_hums 13 = .ok (.iconst 0, 1) := dk_3 (dk_at dksX9_hums_0 13 rfl rfl)
theorem dX9_hums_14 : decode cX9_hums 14 = .ok (.invokevirtual 61, 3) := dk_182 0 61 (dk_at dksX9_hums_0 14 rfl rfl)
theorem dX9_hums_17 : decode cX9_hums 17 = .ok (.tableswitch 56 1 5 #[35, 56, 56, 37, 39], 35) := by decide +kernel
theorem dX9_hums_52 : decode cX9_hums 52 = .ok (.iconst 1, 1) := dk_4 (dk_at dksX9_hums_2 0 rfl rfl)
theorem dX9_hums_53 : decode cX9_hums 53 = .ok (.ireturn, 1) := dk_172 (dk_at dksX9_hums_2 1 rfl rfl)
theorem dX9_hums_54 : decode cX9_hums 54 = .ok (.iconst 0, 1) := dk_3 (dk_at dksX9_hums_2 2 rfl rfl)
theorem dX9_hums_55 : decode cX9_hums 55 = .ok (.ireturn, 1) := dk_172 (dk_at dksX9_hums_2 3 rfl rfl)
theorem dX9_hums_56 : decode cX9_hums 56 = .ok (.aload_n 0, 1) := dk_42 (dk_at dksX9_hums_2 4 rfl rfl)
theorem dX9_hums_57 : decode cX9_hums 57 = .ok (.getfield 13, 3) := dk_180 0 13 (dk_at dksX9_hums_2 5 rfl rfl)
theorem dX9_hums_60 : decode cX9_hums 60 = .ok (.iconst 4, 1) := dk_7 (dk_at dksX9_hums_2 8 rfl rfl)
theorem dX9_hums_61 : decode cX9_hums 61 = .ok (.iaload, 1) := dk_46 (dk_at dksX9_hums_2 9 rfl rfl)
theorem dX9_hums_62 : decode cX9_hums 62 = .ok (.iconst 2, 1) := dk_5 (dk_at dksX9_hums_2 10 rfl rfl)
theorem dX9_hums_63 : decode cX9_hums 63 = .ok (.irem, 1) := dk_112 (dk_at dksX9_hums_2 11 rfl rfl)
theorem dX9_hums_64 : decode cX9_hums 64 = .ok (.ifCond .ne 7, 3) := dk_154 0 7 (dk_at dksX9_hums_2 12 rfl rfl)
theorem dX9_hums_67 : decode cX9_hums 67 = .ok (.iconst 1, 1) := dk_4 (dk_at dksX9_hums_2 15 rfl rfl)
theorem dX9_hums_68 : decode cX9_hums 68 = .ok (.goto 4, 3) := dk_167 0 4 (dk_at dksX9_hums_2 16 rfl rfl)
theorem dX9_hums_71 : decode cX9_hums 71 = .ok (.iconst 0, 1) := dk_3 (dk_at dksX9_hums_2 19 rfl rfl)
theorem dX9_hums_72 : decode cX9_hums 72 = .ok (.ireturn, 1) := dk_172 (dk_at dksX9_hums_2 20 rfl rfl)
theorem dX9_hums_73 : decode cX9_hums 73 = .ok (.aload_n 0, 1) := dk_42 (dk_at dksX9_hums_2 21 rfl rfl)
theorem dX9_hums_74 : decode cX9_hums 74 = .ok (.iload_n 1, 1) := dk_27 (dk_at dksX9_hums_2 22 rfl rfl)
theorem dX9_hums_75 : decode cX9_hums 75 = .ok (.iconst 4, 1) := dk_7 (dk_at dksX9_hums_2 23 rfl rfl)
theorem dX9_hums_76 : decode cX9_hums 76 = .ok (.invokevirtual 61, 3) := dk_182 0 61 (dk_at dksX9_hums_3 0 rfl rfl)
theorem dX9_hums_79 : decode cX9_hums 79 = .ok (.aload_n 0, 1) := dk_42 (dk_at dksX9_hums_3 3 rfl rfl)
theorem dX9_hums_80 : decode cX9_hums 80 = .ok (.getfield 13, 3) := dk_180 0 13 (dk_at dksX9_hums_3 4 rfl rfl)
theorem dX9_hums_83 : decode cX9_hums 83 = .ok (.iconst 5, 1) := dk_8 (dk_at dksX9_hums_3 7 rfl rfl)
theorem dX9_hums_84 : decode cX9_hums 84 = .ok (.iaload, 1) := dk_46 (dk_at dksX9_hums_3 8 rfl rfl)
theorem dX9_hums_85 : decode cX9_hums 85 = .ok (.if_icmp .lt 7, 3) := dk_161 0 7 (dk_at dksX9_hums_3 9 rfl rfl)
theorem dX9_hums_88 : decode cX9_hums 88 = .ok (.iconst 1, 1) := dk_4 (dk_at dksX9_hums_3 12 rfl rfl)
theorem dX9_hums_89 : decode cX9_hums 89 = .ok (.goto 4, 3) := dk_167 0 4 (dk_at dksX9_hums_3 13 rfl rfl)
theorem dX9_hums_92 : decode cX9_hums 92 = .ok (.iconst 0, 1) := dk_3 (dk_at dksX9_hums_3 16 rfl rfl)
theorem dX9_hums_93 : decode cX9_hums 93 = .ok (.ireturn, 1) := dk_172 (dk_at dksX9_hums_3 17 rfl rfl)
abbrev cX9_near : ByteArray := prog_28_method_39_code
def yX9_near : MethodName := ⟨RX9, "near", "(I)I"⟩
def dkwX9_near_2 : List UInt8 := [132, 3, 1, 167, 255, 224, 28, 172]
abbrev dktX9_near_2 : List UInt8 := dkwX9_near_2 ++ []
def dkwX9_near_1 : List UInt8 := [46, 162, 0, 28, 28, 42, 27, 29, 182, 0, 72, 153, 0, 9, 4, 29, 120, 167, 0, 4, 3, 128, 61]
abbrev dktX9_near_1 : List UInt8 := dkwX9_near_1 ++ dktX9_near_2
def dkwX9_near_0 : List UInt8 := [42, 27, 182, 0, 144, 154, 0, 9, 42, 2, 182, 0, 120, 172, 3, 61, 3, 62, 29, 42, 180, 0, 13, 6]
abbrev dktX9_near_0 : List UInt8 := dkwX9_near_0 ++ dktX9_near_1
theorem dksX9_near_0 : cX9_near.data.toList.drop 0 = dktX9_near_0 := by decide +kernel
theorem dksX9_near_1 : cX9_near.data.toList.drop 24 = dktX9_near_1 := dk_seg dksX9_near_0 24 rfl rfl
theorem dksX9_near_2 : cX9_near.data.toList.drop 47 = dktX9_near_2 := dk_seg dksX9_near_1 23 rfl rfl
theorem dX9_near_0 : decode cX9_near 0 = .ok (.aload_n 0, 1) := dk_42 (dk_at dksX9_near_0 0 rfl rfl)
theorem dX9_near_1 : decode cX9_near 1 = .ok (.iload_n 1, 1) := dk_27 (dk_at dksX9_near_0 1 rfl rfl)
theorem dX9_near_2 : decode cX9_near 2 = .ok (.invokevirtual 144, 3) := dk_182 0 144 (dk_at dksX9_near_0 2 rfl rfl)
theorem dX9_near_5 : decode cX9_near 5 = .ok (.ifCond .ne 9, 3) := dk_154 0 9 (dk_at dksX9_near_0 5 rfl rfl)
theorem dX9_near_8 : decode cX9_near 8 = .ok (.aload_n 0, 1) := dk_42 (dk_at dksX9_near_0 8 rfl rfl)
theorem dX9_near_9 : decode cX9_near 9 = .ok (.iconst (-1), 1) := dk_2 (dk_at dksX9_near_0 9 rfl rfl)
theorem dX9_near_10 : decode cX9_near 10 = .ok (.invokevirtual 120, 3) := dk_182 0 120 (dk_at dksX9_near_0 10 rfl rfl)
theorem dX9_near_13 : decode cX9_near 13 = .ok (.ireturn, 1) := dk_172 (dk_at dksX9_near_0 13 rfl rfl)
theorem dX9_near_14 : decode cX9_near 14 = .ok (.iconst 0, 1) := dk_3 (dk_at dksX9_near_0 14 rfl rfl)
theorem dX9_near_15 : decode cX9_near 15 = .ok (.istore_n 2, 1) := dk_61 (dk_at dksX9_near_0 15 rfl rfl)
theorem dX9_near_16 : decode cX9_near 16 = .ok (.iconst 0, 1) := dk_3 (dk_at dksX9_near_0 16 rfl rfl)
theorem dX9_near_17 : decode cX9_near 17 = .ok (.istore_n 3, 1) := dk_62 (dk_at dksX9_near_0 17 rfl rfl)
theorem dX9_near_18 : decode cX9_near 18 = .ok (.iload_n 3, 1) := dk_29 (dk_at dksX9_near_0 18 rfl rfl)
theorem dX9_near_19 : decode cX9_near 19 = .ok (.aload_n 0, 1) := dk_42 (dk_at dksX9_near_0 19 rfl rfl)
theorem dX9_near_20 : decode cX9_near 20 = .ok (.getfield 13, 3) := dk_180 0 13 (dk_at dksX9_near_0 20 rfl rfl)
theorem dX9_near_23 : decode cX9_near 23 = .ok (.iconst 3, 1) := dk_6 (dk_at dksX9_near_0 23 rfl rfl)
theorem dX9_near_24 : decode cX9_near 24 = .ok (.iaload, 1) := dk_46 (dk_at dksX9_near_1 0 rfl rfl)
theorem dX9_near_25 : decode cX9_near 25 = .ok (.if_icmp .ge 28, 3) := dk_162 0 28 (dk_at dksX9_near_1 1 rfl rfl)
theorem dX9_near_28 : decode cX9_near 28 = .ok (.iload_n 2, 1) := dk_28 (dk_at dksX9_near_1 4 rfl rfl)
theorem dX9_near_29 : decode cX9_near 29 = .ok (.aload_n 0, 1) := dk_42 (dk_at dksX9_near_1 5 rfl rfl)
theorem dX9_near_30 : decode cX9_near 30 = .ok (.iload_n 1, 1) := dk_27 (dk_at dksX9_near_1 6 rfl rfl)
theorem dX9_near_31 : decode cX9_near 31 = .ok (.iload_n 3, 1) := dk_29 (dk_at dksX9_near_1 7 rfl rfl)
theorem dX9_near_32 : decode cX9_near 32 = .ok (.invokevirtual 72, 3) := dk_182 0 72 (dk_at dksX9_near_1 8 rfl rfl)
theorem dX9_near_35 : decode cX9_near 35 = .ok (.ifCond .eq 9, 3) := dk_153 0 9 (dk_at dksX9_near_1 11 rfl rfl)
theorem dX9_near_38 : decode cX9_near 38 = .ok (.iconst 1, 1) := dk_4 (dk_at dksX9_near_1 14 rfl rfl)
theorem dX9_near_39 : decode cX9_near 39 = .ok (.iload_n 3, 1) := dk_29 (dk_at dksX9_near_1 15 rfl rfl)
theorem dX9_near_40 : decode cX9_near 40 = .ok (.ishl, 1) := dk_120 (dk_at dksX9_near_1 16 rfl rfl)
theorem dX9_near_41 : decode cX9_near 41 = .ok (.goto 4, 3) := dk_167 0 4 (dk_at dksX9_near_1 17 rfl rfl)
theorem dX9_near_44 : decode cX9_near 44 = .ok (.iconst 0, 1) := dk_3 (dk_at dksX9_near_1 20 rfl rfl)
theorem dX9_near_45 : decode cX9_near 45 = .ok (.ior, 1) := dk_128 (dk_at dksX9_near_1 21 rfl rfl)
theorem dX9_near_46 : decode cX9_near 46 = .ok (.istore_n 2, 1) := dk_61 (dk_at dksX9_near_1 22 rfl rfl)
theorem dX9_near_47 : decode cX9_near 47 = .ok (.iinc 3 1, 3) := dk_132 3 1 (dk_at dksX9_near_2 0 rfl rfl)
theorem dX9_near_50 : decode cX9_near 50 = .ok (.goto (-32), 3) := dk_167 255 224 (dk_at dksX9_near_2 3 rfl rfl)
theorem dX9_near_53 : decode cX9_near 53 = .ok (.iload_n 2, 1) := dk_28 (dk_at dksX9_near_2 6 rfl rfl)
theorem dX9_near_54 : decode cX9_near 54 = .ok (.ireturn, 1) := dk_172 (dk_at dksX9_near_2 7 rfl rfl)
abbrev cX9_areNear : ByteArray := prog_28_method_17_code
def yX9_areNear : MethodName := ⟨RX9, "areNear", "(II)Z"⟩
def dkwX9_areNear_5 : List UInt8 := [172, 132, 5, 1, 167, 255, 169, 3, 172]
abbrev dktX9_areNear_5 : List UInt8 := dkwX9_areNear_5 ++ []
def dkwX9_areNear_4 : List UInt8 := [160, 0, 10, 21, 7, 21, 4, 159, 0, 16, 21, 6, 21, 4, 160, 0, 11, 21, 7, 29, 160, 0, 5, 4]
abbrev dktX9_areNear_4 : List UInt8 := dkwX9_areNear_4 ++ dktX9_areNear_5
def dkwX9_areNear_3 : List UInt8 := [4, 96, 46, 54, 7, 42, 180, 0, 13, 4, 46, 21, 5, 122, 4, 126, 4, 160, 0, 31, 21, 6, 29]
abbrev dktX9_areNear_3 : List UInt8 := dkwX9_areNear_3 ++ dktX9_areNear_4
def dkwX9_areNear_2 : List UInt8 := [180, 0, 13, 16, 6, 5, 21, 5, 104, 96, 46, 54, 6, 42, 180, 0, 13, 16, 6, 5, 21, 5, 104, 96]
abbrev dktX9_areNear_2 : List UInt8 := dkwX9_areNear_2 ++ dktX9_areNear_3
def dkwX9_areNear_1 : List UInt8 := [21, 4, 160, 0, 5, 4, 172, 3, 54, 5, 21, 5, 42, 180, 0, 13, 3, 46, 162, 0, 82, 42]
abbrev dktX9_areNear_1 : List UInt8 := dkwX9_areNear_1 ++ dktX9_areNear_2
def dkwX9_areNear_0 : List UInt8 := [42, 27, 4, 182, 0, 61, 62, 42, 28, 4, 182, 0, 61, 54, 4, 27, 28, 160, 0, 5, 3, 172, 29]
abbrev dktX9_areNear_0 : List UInt8 := dkwX9_areNear_0 ++ dktX9_areNear_1
theorem dksX9_areNear_0 : cX9_areNear.data.toList.drop 0 = dktX9_areNear_0 := by decide +kernel
theorem dksX9_areNear_1 : cX9_areNear.data.toList.drop 23 = dktX9_areNear_1 := dk_seg dksX9_areNear_0 23 rfl rfl
theorem dksX9_areNear_2 : cX9_areNear.data.toList.drop 45 = dktX9_areNear_2 := dk_seg dksX9_areNear_1 22 rfl rfl
theorem dksX9_areNear_3 : cX9_areNear.data.toList.drop 69 = dktX9_areNear_3 := dk_seg dksX9_areNear_2 24 rfl rfl
theorem dksX9_areNear_4 : cX9_areNear.data.toList.drop 92 = dktX9_areNear_4 := dk_seg dksX9_areNear_3 23 rfl rfl
theorem dksX9_areNear_5 : cX9_areNear.data.toList.drop 116 = dktX9_areNear_5 := dk_seg dksX9_areNear_4 24 rfl rfl
theorem dX9_areNear_0 : decode cX9_areNear 0 = .ok (.aload_n 0, 1) := dk_42 (dk_at dksX9_areNear_0 0 rfl rfl)
theorem dX9_areNear_1 : decode cX9_areNear 1 = .ok (.iload_n 1, 1) := dk_27 (dk_at dksX9_areNear_0 1 rfl rfl)
theorem dX9_areNear_2 : decode cX9_areNear 2 = .ok (.iconst 1, 1) := dk_4 (dk_at dksX9_areNear_0 2 rfl rfl)
theorem dX9_areNear_3 : decode cX9_areNear 3 = .ok (.invokevirtual 61, 3) := dk_182 0 61 (dk_at dksX9_areNear_0 3 rfl rfl)
theorem dX9_areNear_6 : decode cX9_areNear 6 = .ok (.istore_n 3, 1) := dk_62 (dk_at dksX9_areNear_0 6 rfl rfl)
theorem dX9_areNear_7 : decode cX9_areNear 7 = .ok (.aload_n 0, 1) := dk_42 (dk_at dksX9_areNear_0 7 rfl rfl)
theorem dX9_areNear_8 : decode cX9_areNear 8 = .ok (.iload_n 2, 1) := dk_28 (dk_at dksX9_areNear_0 8 rfl rfl)
theorem dX9_areNear_9 : decode cX9_areNear 9 = .ok (.iconst 1, 1) := dk_4 (dk_at dksX9_areNear_0 9 rfl rfl)
theorem dX9_areNear_10 : decode cX9_areNear 10 = .ok (.invokevirtual 61, 3) := dk_182 0 61 (dk_at dksX9_areNear_0 10 rfl rfl)
theorem dX9_areNear_13 : decode cX9_areNear 13 = .ok (.istore 4, 2) := dk_54 4 (dk_at dksX9_areNear_0 13 rfl rfl)
theorem dX9_areNear_15 : decode cX9_areNear 15 = .ok (.iload_n 1, 1) := dk_27 (dk_at dksX9_areNear_0 15 rfl rfl)
theorem dX9_areNear_16 : decode cX9_areNear 16 = .ok (.iload_n 2, 1) := dk_28 (dk_at dksX9_areNear_0 16 rfl rfl)
theorem dX9_areNear_17 : decode cX9_areNear 17 = .ok (.if_icmp .ne 5, 3) := dk_160 0 5 (dk_at dksX9_areNear_0 17 rfl rfl)
theorem dX9_areNear_20 : decode cX9_areNear 20 = .ok (.iconst 0, 1) := dk_3 (dk_at dksX9_areNear_0 20 rfl rfl)
theorem dX9_areNear_21 : decode cX9_areNear 21 = .ok (.ireturn, 1) := dk_172 (dk_at dksX9_areNear_0 21 rfl rfl)
theorem dX9_areNear_22 : decode cX9_areNear 22 = .ok (.iload_n 3, 1) := dk_29 (dk_at dksX9_areNear_0 22 rfl rfl)
theorem dX9_areNear_23 : decode cX9_areNear 23 = .ok (.iload 4, 2) := dk_21 4 (dk_at dksX9_areNear_1 0 rfl rfl)
theorem dX9_areNear_25 : decode cX9_areNear 25 = .ok (.if_icmp .ne 5, 3) := dk_160 0 5 (dk_at dksX9_areNear_1 2 rfl rfl)
theorem dX9_areNear_28 : decode cX9_areNear 28 = .ok (.iconst 1, 1) := dk_4 (dk_at dksX9_areNear_1 5 rfl rfl)
theorem dX9_areNear_29 : decode cX9_areNear 29 = .ok (.ireturn, 1) := dk_172 (dk_at dksX9_areNear_1 6 rfl rfl)
theorem dX9_areNear_30 : decode cX9_areNear 30 = .ok (.iconst 0, 1) := dk_3 (dk_at dksX9_areNear_1 7 rfl rfl)
theorem dX9_areNear_31 : decode cX9_areNear 31 = .ok (.istore 5, 2) := dk_54 5 (dk_at dksX9_areNear_1 8 rfl rfl)
theorem dX9_areNear_33 : decode cX9_areNear 33 = .ok (.iload 5, 2) := dk_21 5 (dk_at dksX9_areNear_1 10 rfl rfl)
theorem dX9_areNear_35 : decode cX9_areNear 35 = .ok (.aload_n 0, 1) := dk_42 (dk_at dksX9_areNear_1 12 rfl rfl)
theorem dX9_areNear_36 : decode cX9_areNear 36 = .ok (.getfield 13, 3) := dk_180 0 13 (dk_at dksX9_areNear_1 13 rfl rfl)
theorem dX9_areNear_39 : decode cX9_areNear 39 = .ok (.iconst 0, 1) := dk_3 (dk_at dksX9_areNear_1 16 rfl rfl)
theorem dX9_areNear_40 : decode cX9_areNear 40 = .ok (.iaload, 1) := dk_46 (dk_at dksX9_areNear_1 17 rfl rfl)
theorem dX9_areNear_41 : decode cX9_areNear 41 = .ok (.if_icmp .ge 82, 3) := dk_162 0 82 (dk_at dksX9_areNear_1 18 rfl rfl)
theorem dX9_areNear_44 : decode cX9_areNear 44 = .ok (.aload_n 0, 1) := dk_42 (dk_at dksX9_areNear_1 21 rfl rfl)
theorem dX9_areNear_45 : decode cX9_areNear 45 = .ok (.getfield 13, 3) := dk_180 0 13 (dk_at dksX9_areNear_2 0 rfl rfl)
theorem dX9_areNear_48 : decode cX9_areNear 48 = .ok (.bipush 6, 2) := dk_16 6 (dk_at dksX9_areNear_2 3 rfl rfl)
theorem dX9_areNear_50 : decode cX9_areNear 50 = .ok (.iconst 2, 1) := dk_5 (dk_at dksX9_areNear_2 5 rfl rfl)
theorem dX9_areNear_51 : decode cX9_areNear 51 = .ok (.iload 5, 2) := dk_21 5 (dk_at dksX9_areNear_2 6 rfl rfl)
theorem dX9_areNear_53 : decode cX9_areNear 53 = .ok (.imul, 1) := dk_104 (dk_at dksX9_areNear_2 8 rfl rfl)
theorem dX9_areNear_54 : decode cX9_areNear 54 = .ok (.iadd, 1) := dk_96 (dk_at dksX9_areNear_2 9 rfl rfl)
theorem dX9_areNear_55 : decode cX9_areNear 55 = .ok (.iaload, 1) := dk_46 (dk_at dksX9_areNear_2 10 rfl rfl)
theorem dX9_areNear_56 : decode cX9_areNear 56 = .ok (.istore 6, 2) := dk_54 6 (dk_at dksX9_areNear_2 11 rfl rfl)
theorem dX9_areNear_58 : decode cX9_areNear 58 = .ok (.aload_n 0, 1) := dk_42 (dk_at dksX9_areNear_2 13 rfl rfl)
theorem dX9_areNear_59 : decode cX9_areNear 59 = .ok (.getfield 13, 3) := dk_180 0 13 (dk_at dksX9_areNear_2 14 rfl rfl)
theorem dX9_areNear_62 : decode cX9_areNear 62 = .ok (.bipush 6, 2) := dk_16 6 (dk_at dksX9_areNear_2 17 rfl rfl)
theorem dX9_areNear_64 : decode cX9_areNear 64 = .ok (.iconst 2, 1) := dk_5 (dk_at dksX9_areNear_2 19 rfl rfl)
theorem dX9_areNear_65 : decode cX9_areNear 65 = .ok (.iload 5, 2) := dk_21 5 (dk_at dksX9_areNear_2 20 rfl rfl)
theorem dX9_areNear_67 : decode cX9_areNear 67 = .ok (.imul, 1) := dk_104 (dk_at dksX9_areNear_2 22 rfl rfl)
theorem dX9_areNear_68 : decode cX9_areNear 68 = .ok (.iadd, 1) := dk_96 (dk_at dksX9_areNear_2 23 rfl rfl)
theorem dX9_areNear_69 : decode cX9_areNear 69 = .ok (.iconst 1, 1) := dk_4 (dk_at dksX9_areNear_3 0 rfl rfl)
theorem dX9_areNear_70 : decode cX9_areNear 70 = .ok (.iadd, 1) := dk_96 (dk_at dksX9_areNear_3 1 rfl rfl)
theorem dX9_areNear_71 : decode cX9_areNear 71 = .ok (.iaload, 1) := dk_46 (dk_at dksX9_areNear_3 2 rfl rfl)
theorem dX9_areNear_72 : decode cX9_areNear 72 = .ok (.istore 7, 2) := dk_54 7 (dk_at dksX9_areNear_3 3 rfl rfl)
theorem dX9_areNear_74 : decode cX9_areNear 74 = .ok (.aload_n 0, 1) := dk_42 (dk_at dksX9_areNear_3 5 rfl rfl)
theorem dX9_areNear_75 : decode cX9_areNear 75 = .ok (.getfield 13, 3) := dk_180 0 13 (dk_at dksX9_areNear_3 6 rfl rfl)
theorem dX9_areNear_78 : decode cX9_areNear 78 = .ok (.iconst 1, 1) := dk_4 (dk_at dksX9_areNear_3 9 rfl rfl)
theorem dX9_areNear_79 : decode cX9_areNear 79 = .ok (.iaload, 1) := dk_46 (dk_at dksX9_areNear_3 10 rfl rfl)
theorem dX9_areNear_80 : decode cX9_areNear 80 = .ok (.iload 5, 2) := dk_21 5 (dk_at dksX9_areNear_3 11 rfl rfl)
theorem dX9_areNear_82 : decode cX9_areNear 82 = .ok (.ishr, 1) := dk_122 (dk_at dksX9_areNear_3 13 rfl rfl)
theorem dX9_areNear_83 : decode cX9_areNear 83 = .ok (.iconst 1, 1) := dk_4 (dk_at dksX9_areNear_3 14 rfl rfl)
theorem dX9_areNear_84 : decode cX9_areNear 84 = .ok (.iand, 1) := dk_126 (dk_at dksX9_areNear_3 15 rfl rfl)
theorem dX9_areNear_85 : decode cX9_areNear 85 = .ok (.iconst 1, 1) := dk_4 (dk_at dksX9_areNear_3 16 rfl rfl)
theorem dX9_areNear_86 : decode cX9_areNear 86 = .ok (.if_icmp .ne 31, 3) := dk_160 0 31 (dk_at dksX9_areNear_3 17 rfl rfl)
theorem dX9_areNear_89 : decode cX9_areNear 89 = .ok (.iload 6, 2) := dk_21 6 (dk_at dksX9_areNear_3 20 rfl rfl)
theorem dX9_areNear_91 : decode cX9_areNear 91 = .ok (.iload_n 3, 1) := dk_29 (dk_at dksX9_areNear_3 22 rfl rfl)
theorem dX9_areNear_92 : decode cX9_areNear 92 = .ok (.if_icmp .ne 10, 3) := dk_160 0 10 (dk_at dksX9_areNear_4 0 rfl rfl)
theorem dX9_areNear_95 : decode cX9_areNear 95 = .ok (.iload 7, 2) := dk_21 7 (dk_at dksX9_areNear_4 3 rfl rfl)
theorem dX9_areNear_97 : decode cX9_areNear 97 = .ok (.iload 4, 2) := dk_21 4 (dk_at dksX9_areNear_4 5 rfl rfl)
theorem dX9_areNear_99 : decode cX9_areNear 99 = .ok (.if_icmp .eq 16, 3) := dk_159 0 16 (dk_at dksX9_areNear_4 7 rfl rfl)
theorem dX9_areNear_102 : decode cX9_areNear 102 = .ok (.iload 6, 2) := dk_21 6 (dk_at dksX9_areNear_4 10 rfl rfl)
theorem dX9_areNear_104 : decode cX9_areNear 104 = .ok (.iload 4, 2) := dk_21 4 (dk_at dksX9_areNear_4 12 rfl rfl)
theorem dX9_areNear_106 : decode cX9_areNear 106 = .ok (.if_icmp .ne 11, 3) := dk_160 0 11 (dk_at dksX9_areNear_4 14 rfl rfl)
theorem dX9_areNear_109 : decode cX9_areNear 109 = .ok (.iload 7, 2) := dk_21 7 (dk_at dksX9_areNear_4 17 rfl rfl)
theorem dX9_areNear_111 : decode cX9_areNear 111 = .ok (.iload_n 3, 1) := dk_29 (dk_at dksX9_areNear_4 19 rfl rfl)
theorem dX9_areNear_112 : decode cX9_areNear 112 = .ok (.if_icmp .ne 5, 3) := dk_160 0 5 (dk_at dksX9_areNear_4 20 rfl rfl)
theorem dX9_areNear_115 : decode cX9_areNear 115 = .ok (.iconst 1, 1) := dk_4 (dk_at dksX9_areNear_4 23 rfl rfl)
theorem dX9_areNear_116 : decode cX9_areNear 116 = .ok (.ireturn, 1) := dk_172 (dk_at dksX9_areNear_5 0 rfl rfl)
theorem dX9_areNear_117 : decode cX9_areNear 117 = .ok (.iinc 5 1, 3) := dk_132 5 1 (dk_at dksX9_areNear_5 1 rfl rfl)
theorem dX9_areNear_120 : decode cX9_areNear 120 = .ok (.goto (-87), 3) := dk_167 255 169 (dk_at dksX9_areNear_5 4 rfl rfl)
theorem dX9_areNear_123 : decode cX9_areNear 123 = .ok (.iconst 0, 1) := dk_3 (dk_at dksX9_areNear_5 7 rfl rfl)
theorem dX9_areNear_124 : decode cX9_areNear 124 = .ok (.ireturn, 1) := dk_172 (dk_at dksX9_areNear_5 8 rfl rfl)
abbrev cX9_door : ByteArray := prog_28_method_40_code
def yX9_door : MethodName := ⟨RX9, "door", "(I)I"⟩
def dkwX9_door_1 : List UInt8 := [92, 46, 4, 27, 120, 130, 79, 42, 180, 0, 13, 4, 46, 27, 122, 4, 126, 172]
abbrev dktX9_door_1 : List UInt8 := dkwX9_door_1 ++ []
def dkwX9_door_0 : List UInt8 := [27, 42, 180, 0, 13, 3, 46, 184, 0, 53, 154, 0, 9, 42, 2, 182, 0, 120, 172, 42, 180, 0, 13, 4]
abbrev dktX9_door_0 : List UInt8 := dkwX9_door_0 ++ dktX9_door_1
theorem dksX9_door_0 : cX9_door.data.toList.drop 0 = dktX9_door_0 := by decide +kernel
theorem dksX9_door_1 : cX9_door.data.toList.drop 24 = dktX9_door_1 := dk_seg dksX9_door_0 24 rfl rfl
theorem dX9_door_0 : decode cX9_door 0 = .ok (.iload_n 1, 1) := dk_27 (dk_at dksX9_door_0 0 rfl rfl)
theorem dX9_door_1 : decode cX9_door 1 = .ok (.aload_n 0, 1) := dk_42 (dk_at dksX9_door_0 1 rfl rfl)
theorem dX9_door_2 : decode cX9_door 2 = .ok (.getfield 13, 3) := dk_180 0 13 (dk_at dksX9_door_0 2 rfl rfl)
theorem dX9_door_5 : decode cX9_door 5 = .ok (.iconst 0, 1) := dk_3 (dk_at dksX9_door_0 5 rfl rfl)
theorem dX9_door_6 : decode cX9_door 6 = .ok (.iaload, 1) := dk_46 (dk_at dksX9_door_0 6 rfl rfl)
theorem dX9_door_7 : decode cX9_door 7 = .ok (.invokestatic 53, 3) := dk_184 0 53 (dk_at dksX9_door_0 7 rfl rfl)
theorem dX9_door_10 : decode cX9_door 10 = .ok (.ifCond .ne 9, 3) := dk_154 0 9 (dk_at dksX9_door_0 10 rfl rfl)
theorem dX9_door_13 : decode cX9_door 13 = .ok (.aload_n 0, 1) := dk_42 (dk_at dksX9_door_0 13 rfl rfl)
theorem dX9_door_14 : decode cX9_door 14 = .ok (.iconst (-1), 1) := dk_2 (dk_at dksX9_door_0 14 rfl rfl)
theorem dX9_door_15 : decode cX9_door 15 = .ok (.invokevirtual 120, 3) := dk_182 0 120 (dk_at dksX9_door_0 15 rfl rfl)
theorem dX9_door_18 : decode cX9_door 18 = .ok (.ireturn, 1) := dk_172 (dk_at dksX9_door_0 18 rfl rfl)
theorem dX9_door_19 : decode cX9_door 19 = .ok (.aload_n 0, 1) := dk_42 (dk_at dksX9_door_0 19 rfl rfl)
theorem dX9_door_20 : decode cX9_door 20 = .ok (.getfield 13, 3) := dk_180 0 13 (dk_at dksX9_door_0 20 rfl rfl)
theorem dX9_door_23 : decode cX9_door 23 = .ok (.iconst 1, 1) := dk_4 (dk_at dksX9_door_0 23 rfl rfl)
theorem dX9_door_24 : decode cX9_door 24 = .ok (.dup2, 1) := dk_92 (dk_at dksX9_door_1 0 rfl rfl)
theorem dX9_door_25 : decode cX9_door 25 = .ok (.iaload, 1) := dk_46 (dk_at dksX9_door_1 1 rfl rfl)
theorem dX9_door_26 : decode cX9_door 26 = .ok (.iconst 1, 1) := dk_4 (dk_at dksX9_door_1 2 rfl rfl)
theorem dX9_door_27 : decode cX9_door 27 = .ok (.iload_n 1, 1) := dk_27 (dk_at dksX9_door_1 3 rfl rfl)
theorem dX9_door_28 : decode cX9_door 28 = .ok (.ishl, 1) := dk_120 (dk_at dksX9_door_1 4 rfl rfl)
theorem dX9_door_29 : decode cX9_door 29 = .ok (.ixor, 1) := dk_130 (dk_at dksX9_door_1 5 rfl rfl)
theorem dX9_door_30 : decode cX9_door 30 = .ok (.iastore, 1) := dk_79 (dk_at dksX9_door_1 6 rfl rfl)
theorem dX9_door_31 : decode cX9_door 31 = .ok (.aload_n 0, 1) := dk_42 (dk_at dksX9_door_1 7 rfl rfl)
theorem dX9_door_32 : decode cX9_door 32 = .ok (.getfield 13, 3) := dk_180 0 13 (dk_at dksX9_door_1 8 rfl rfl)
theorem dX9_door_35 : decode cX9_door 35 = .ok (.iconst 1, 1) := dk_4 (dk_at dksX9_door_1 11 rfl rfl)
theorem dX9_door_36 : decode cX9_door 36 = .ok (.iaload, 1) := dk_46 (dk_at dksX9_door_1 12 rfl rfl)
theorem dX9_door_37 : decode cX9_door 37 = .ok (.iload_n 1, 1) := dk_27 (dk_at dksX9_door_1 13 rfl rfl)
theorem dX9_door_38 : decode cX9_door 38 = .ok (.ishr, 1) := dk_122 (dk_at dksX9_door_1 14 rfl rfl)
theorem dX9_door_39 : decode cX9_door 39 = .ok (.iconst 1, 1) := dk_4 (dk_at dksX9_door_1 15 rfl rfl)
theorem dX9_door_40 : decode cX9_door 40 = .ok (.iand, 1) := dk_126 (dk_at dksX9_door_1 16 rfl rfl)
theorem dX9_door_41 : decode cX9_door 41 = .ok (.ireturn, 1) := dk_172 (dk_at dksX9_door_1 17 rfl rfl)
abbrev cX9_go : ByteArray := prog_28_method_41_code
def yX9_go : MethodName := ⟨RX9, "go", "(II)I"⟩
def dkwX9_go_1 : List UInt8 := [4, 182, 0, 61, 62, 42, 27, 4, 28, 182, 0, 64, 29, 172]
abbrev dktX9_go_1 : List UInt8 := dkwX9_go_1 ++ []
def dkwX9_go_0 : List UInt8 := [42, 27, 182, 0, 144, 153, 0, 11, 28, 8, 184, 0, 53, 154, 0, 9, 42, 2, 182, 0, 120, 172, 42, 27]
abbrev dktX9_go_0 : List UInt8 := dkwX9_go_0 ++ dktX9_go_1
theorem dksX9_go_0 : cX9_go.data.toList.drop 0 = dktX9_go_0 := by decide +kernel
theorem dksX9_go_1 : cX9_go.data.toList.drop 24 = dktX9_go_1 := dk_seg dksX9_go_0 24 rfl rfl
theorem dX9_go_0 : decode cX9_go 0 = .ok (.aload_n 0, 1) := dk_42 (dk_at dksX9_go_0 0 rfl rfl)
theorem dX9_go_1 : decode cX9_go 1 = .ok (.iload_n 1, 1) := dk_27 (dk_at dksX9_go_0 1 rfl rfl)
theorem dX9_go_2 : decode cX9_go 2 = .ok (.invokevirtual 144, 3) := dk_182 0 144 (dk_at dksX9_go_0 2 rfl rfl)
theorem dX9_go_5 : decode cX9_go 5 = .ok (.ifCond .eq 11, 3) := dk_153 0 11 (dk_at dksX9_go_0 5 rfl rfl)
theorem dX9_go_8 : decode cX9_go 8 = .ok (.iload_n 2, 1) := dk_28 (dk_at dksX9_go_0 8 rfl rfl)
theorem dX9_go_9 : decode cX9_go 9 = .ok (.iconst 5, 1) := dk_8 (dk_at dksX9_go_0 9 rfl rfl)
theorem dX9_go_10 : decode cX9_go 10 = .ok (.invokestatic 53, 3) := dk_184 0 53 (dk_at dksX9_go_0 10 rfl rfl)
theorem dX9_go_13 : decode cX9_go 13 = .ok (.ifCond .ne 9, 3) := dk_154 0 9 (dk_at dksX9_go_0 13 rfl rfl)
theorem dX9_go_16 : decode cX9_go 16 = .ok (.aload_n 0, 1) := dk_42 (dk_at dksX9_go_0 16 rfl rfl)
theorem dX9_go_17 : decode cX9_go 17 = .ok (.iconst (-1), 1) := dk_2 (dk_at dksX9_go_0 17 rfl rfl)
theorem dX9_go_18 : decode cX9_go 18 = .ok (.invokevirtual 120, 3) := dk_182 0 120 (dk_at dksX9_go_0 18 rfl rfl)
theorem dX9_go_21 : decode cX9_go 21 = .ok (.ireturn, 1) := dk_172 (dk_at dksX9_go_0 21 rfl rfl)
theorem dX9_go_22 : decode cX9_go 22 = .ok (.aload_n 0, 1) := dk_42 (dk_at dksX9_go_0 22 rfl rfl)
theorem dX9_go_23 : decode cX9_go 23 = .ok (.iload_n 1, 1) := dk_27 (dk_at dksX9_go_0 23 rfl rfl)
theorem dX9_go_24 : decode cX9_go 24 = .ok (.iconst 1, 1) := dk_4 (dk_at dksX9_go_1 0 rfl rfl)
theorem dX9_go_25 : decode cX9_go 25 = .ok (.invokevirtual 61, 3) := dk_182 0 61 (dk_at dksX9_go_1 1 rfl rfl)
theorem dX9_go_28 : decode cX9_go 28 = .ok (.istore_n 3, 1) := dk_62 (dk_at dksX9_go_1 4 rfl rfl)
theorem dX9_go_29 : decode cX9_go 29 = .ok (.aload_n 0, 1) := dk_42 (dk_at dksX9_go_1 5 rfl rfl)
theorem dX9_go_30 : decode cX9_go 30 = .ok (.iload_n 1, 1) := dk_27 (dk_at dksX9_go_1 6 rfl rfl)
theorem dX9_go_31 : decode cX9_go 31 = .ok (.iconst 1, 1) := dk_4 (dk_at dksX9_go_1 7 rfl rfl)
theorem dX9_go_32 : decode cX9_go 32 = .ok (.iload_n 2, 1) := dk_28 (dk_at dksX9_go_1 8 rfl rfl)
theorem dX9_go_33 : decode cX9_go 33 = .ok (.invokevirtual 64, 3) := dk_182 0 64 (dk_at dksX9_go_1 9 rfl rfl)
theorem dX9_go_36 : decode cX9_go 36 = .ok (.iload_n 3, 1) := dk_29 (dk_at dksX9_go_1 12 rfl rfl)
theorem dX9_go_37 : decode cX9_go 37 = .ok (.ireturn, 1) := dk_172 (dk_at dksX9_go_1 13 rfl rfl)
abbrev cX9_get : ByteArray := prog_28_method_42_code
def yX9_get : MethodName := ⟨RX9, "get", "(II)I"⟩
def dkwX9_get_1 : List UInt8 := [182, 0, 120, 172, 42, 27, 6, 182, 0, 61, 62, 42, 27, 28, 182, 0, 81, 29, 172]
abbrev dktX9_get_1 : List UInt8 := dkwX9_get_1 ++ []
def dkwX9_get_0 : List UInt8 := [42, 27, 182, 0, 144, 153, 0, 16, 28, 2, 159, 0, 17, 42, 28, 182, 0, 147, 154, 0, 9, 42, 2]
abbrev dktX9_get_0 : List UInt8 := dkwX9_get_0 ++ dktX9_get_1
theorem dksX9_get_0 : cX9_get.data.toList.drop 0 = dktX9_get_0 := by decide +kernel
theorem dksX9_get_1 : cX9_get.data.toList.drop 23 = dktX9_get_1 := dk_seg dksX9_get_0 23 rfl rfl
theorem dX9_get_0 : decode cX9_get 0 = .ok (.aload_n 0, 1) := dk_42 (dk_at dksX9_get_0 0 rfl rfl)
theorem dX9_get_1 : decode cX9_get 1 = .ok (.iload_n 1, 1) := dk_27 (dk_at dksX9_get_0 1 rfl rfl)
theorem dX9_get_2 : decode cX9_get 2 = .ok (.invokevirtual 144, 3) := dk_182 0 144 (dk_at dksX9_get_0 2 rfl rfl)
theorem dX9_get_5 : decode cX9_get 5 = .ok (.ifCond .eq 16, 3) := dk_153 0 16 (dk_at dksX9_get_0 5 rfl rfl)
theorem dX9_get_8 : decode cX9_get 8 = .ok (.iload_n 2, 1) := dk_28 (dk_at dksX9_get_0 8 rfl rfl)
theorem dX9_get_9 : decode cX9_get 9 = .ok (.iconst (-1), 1) := dk_2 (dk_at dksX9_get_0 9 rfl rfl)
theorem dX9_get_10 : decode cX9_get 10 = .ok (.if_icmp .eq 17, 3) := dk_159 0 17 (dk_at dksX9_get_0 10 rfl rfl)
theorem dX9_get_13 : decode cX9_get 13 = .ok (.aload_n 0, 1) := dk_42 (dk_at dksX9_get_0 13 rfl rfl)
theorem dX9_get_14 : decode cX9_get 14 = .ok (.iload_n 2, 1) := dk_28 (dk_at dksX9_get_0 14 rfl rfl)
theorem dX9_get_15 : decode cX9_get 15 = .ok (.invokevirtual 147, 3) := dk_182 0 147 (dk_at dksX9_get_0 15 rfl rfl)
theorem dX9_get_18 : decode cX9_get 18 = .ok (.ifCond .ne 9, 3) := dk_154 0 9 (dk_at dksX9_get_0 18 rfl rfl)
theorem dX9_get_21 : decode cX9_get 21 = .ok (.aload_n 0, 1) := dk_42 (dk_at dksX9_get_0 21 rfl rfl)
theorem dX9_get_22 : decode cX9_get 22 = .ok (.iconst (-1), 1) := dk_2 (dk_at dksX9_get_0 22 rfl rfl)
theorem dX9_get_23 : decode cX9_get 23 = .ok (.invokevirtual 120, 3) := dk_182 0 120 (dk_at dksX9_get_1 0 rfl rfl)
theorem dX9_get_26 : decode cX9_get 26 = .ok (.ireturn, 1) := dk_172 (dk_at dksX9_get_1 3 rfl rfl)
theorem dX9_get_27 : decode cX9_get 27 = .ok (.aload_n 0, 1) := dk_42 (dk_at dksX9_get_1 4 rfl rfl)
theorem dX9_get_28 : decode cX9_get 28 = .ok (.iload_n 1, 1) := dk_27 (dk_at dksX9_get_1 5 rfl rfl)
theorem dX9_get_29 : decode cX9_get 29 = .ok (.iconst 3, 1) := dk_6 (dk_at dksX9_get_1 6 rfl rfl)
theorem dX9_get_30 : decode cX9_get 30 = .ok (.invokevirtual 61, 3) := dk_182 0 61 (dk_at dksX9_get_1 7 rfl rfl)
theorem dX9_get_33 : decode cX9_get 33 = .ok (.istore_n 3, 1) := dk_62 (dk_at dksX9_get_1 10 rfl rfl)
theorem dX9_get_34 : decode cX9_get 34 = .ok (.aload_n 0, 1) := dk_42 (dk_at dksX9_get_1 11 rfl rfl)
theorem dX9_get_35 : decode cX9_get 35 = .ok (.iload_n 1, 1) := dk_27 (dk_at dksX9_get_1 12 rfl rfl)
theorem dX9_get_36 : decode cX9_get 36 = .ok (.iload_n 2, 1) := dk_28 (dk_at dksX9_get_1 13 rfl rfl)
theorem dX9_get_37 : decode cX9_get 37 = .ok (.invokevirtual 81, 3) := dk_182 0 81 (dk_at dksX9_get_1 14 rfl rfl)
theorem dX9_get_40 : decode cX9_get 40 = .ok (.iload_n 3, 1) := dk_29 (dk_at dksX9_get_1 17 rfl rfl)
theorem dX9_get_41 : decode cX9_get 41 = .ok (.ireturn, 1) := dk_172 (dk_at dksX9_get_1 18 rfl rfl)
abbrev cX9_remedy : ByteArray := prog_28_method_44_code
def yX9_remedy : MethodName := ⟨RX9, "remedy", "(II)I"⟩
def dkwX9_remedy_2 : List UInt8 := [29, 153, 0, 9, 42, 29, 182, 0, 120, 172, 42, 27, 28, 182, 0, 160, 42, 27, 7, 182, 0, 61, 172]
abbrev dktX9_remedy_2 : List UInt8 := dkwX9_remedy_2 ++ []
def dkwX9_remedy_1 : List UInt8 := [167, 0, 23, 28, 5, 162, 0, 17, 42, 27, 6, 182, 0, 61, 156, 0, 8, 16, 253, 167, 0, 4, 3, 62]
abbrev dktX9_remedy_1 : List UInt8 := dkwX9_remedy_1 ++ dktX9_remedy_2
def dkwX9_remedy_0 : List UInt8 := [42, 27, 182, 0, 144, 154, 0, 7, 2, 167, 0, 36, 28, 6, 184, 0, 53, 154, 0, 8, 16, 254]
abbrev dktX9_remedy_0 : List UInt8 := dkwX9_remedy_0 ++ dktX9_remedy_1
theorem dksX9_remedy_0 : cX9_remedy.data.toList.drop 0 = dktX9_remedy_0 := by decide +kernel
theorem dksX9_remedy_1 : cX9_remedy.data.toList.drop 22 = dktX9_remedy_1 := dk_seg dksX9_remedy_0 22 rfl rfl
theorem dksX9_remedy_2 : cX9_remedy.data.toList.drop 46 = dktX9_remedy_2 := dk_seg dksX9_remedy_1 24 rfl rfl
theorem dX9_remedy_0 : decode cX9_remedy 0 = .ok (.aload_n 0, 1) := dk_42 (dk_at dksX9_remedy_0 0 rfl rfl)
theorem dX9_remedy_1 : decode cX9_remedy 1 = .ok (.iload_n 1, 1) := dk_27 (dk_at dksX9_remedy_0 1 rfl rfl)
theorem dX9_remedy_2 : decode cX9_remedy 2 = .ok (.invokevirtual 144, 3) := dk_182 0 144 (dk_at dksX9_remedy_0 2 rfl rfl)
theorem dX9_remedy_5 : decode cX9_remedy 5 = .ok (.ifCond .ne 7, 3) := dk_154 0 7 (dk_at dksX9_remedy_0 5 rfl rfl)
theorem dX9_remedy_8 : decode cX9_remedy 8 = .ok (.iconst (-1), 1) := dk_2 (dk_at dksX9_remedy_0 8 rfl rfl)
theorem dX9_remedy_9 : decode cX9_remedy 9 = .ok (.goto 36, 3) := dk_167 0 36 (dk_at dksX9_remedy_0 9 rfl rfl)
theorem dX9_remedy_12 : decode cX9_remedy 12 = .ok (.iload_n 2, 1) := dk_28 (dk_at dksX9_remedy_0 12 rfl rfl)
theorem dX9_remedy_13 : decode cX9_remedy 13 = .ok (.iconst 3, 1) := dk_6 (dk_at dksX9_remedy_0 13 rfl rfl)
theorem dX9_remedy_14 : decode cX9_remedy 14 = .ok (.invokestatic 53, 3) := dk_184 0 53 (dk_at dksX9_remedy_0 14 rfl rfl)
theorem dX9_remedy_17 : decode cX9_remedy 17 = .ok (.ifCond .ne 8, 3) := dk_154 0 8 (dk_at dksX9_remedy_0 17 rfl rfl)
theorem dX9_remedy_20 : decode cX9_remedy 20 = .ok (.bipush (-2), 2) := dk_16 254 (dk_at dksX9_remedy_0 20 rfl rfl)
theorem dX9_remedy_22 : decode cX9_remedy 22 = .ok (.goto 23, 3) := dk_167 0 23 (dk_at dksX9_remedy_1 0 rfl rfl)
theorem dX9_remedy_25 : decode cX9_remedy 25 = .ok (.iload_n 2, 1) := dk_28 (dk_at dksX9_remedy_1 3 rfl rfl)
theorem dX9_remedy_26 : decode cX9_remedy 26 = .ok (.iconst 2, 1) := dk_5 (dk_at dksX9_remedy_1 4 rfl rfl)
theorem dX9_remedy_27 : decode cX9_remedy 27 = .ok (.if_icmp .ge 17, 3) := dk_162 0 17 (dk_at dksX9_remedy_1 5 rfl rfl)
theorem dX9_remedy_30 : decode cX9_remedy 30 = .ok (.aload_n 0, 1) := dk_42 (dk_at dksX9_remedy_1 8 rfl rfl)
theorem dX9_remedy_31 : decode cX9_remedy 31 = .ok (.iload_n 1, 1) := dk_27 (dk_at dksX9_remedy_1 9 rfl rfl)
theorem dX9_remedy_32 : decode cX9_remedy 32 = .ok (.iconst 3, 1) := dk_6 (dk_at dksX9_remedy_1 10 rfl rfl)
theorem dX9_remedy_33 : decode cX9_remedy 33 = .ok (.invokevirtual 61, 3) := dk_182 0 61 (dk_at dksX9_remedy_1 11 rfl rfl)
theorem dX9_remedy_36 : decode cX9_remedy 36 = .ok (.ifCond .ge 8, 3) := dk_156 0 8 (dk_at dksX9_remedy_1 14 rfl rfl)
theorem dX9_remedy_39 : decode cX9_remedy 39 = .ok (.bipush (-3), 2) := dk_16 253 (dk_at dksX9_remedy_1 17 rfl rfl)
theorem dX9_remedy_41 : decode cX9_remedy 41 = .ok (.goto 4, 3) := dk_167 0 4 (dk_at dksX9_remedy_1 19 rfl rfl)
theorem dX9_remedy_44 : decode cX9_remedy 44 = .ok (.iconst 0, 1) := dk_3 (dk_at dksX9_remedy_1 22 rfl rfl)
theorem dX9_remedy_45 : decode cX9_remedy 45 = .ok (.istore_n 3, 1) := dk_62 (dk_at dksX9_remedy_1 23 rfl rfl)
theorem dX9_remedy_46 : decode cX9_remedy 46 = .ok (.iload_n 3, 1) := dk_29 (dk_at dksX9_remedy_2 0 rfl rfl)
theorem dX9_remedy_47 : decode cX9_remedy 47 = .ok (.ifCond .eq 9, 3) := dk_153 0 9 (dk_at dksX9_remedy_2 1 rfl rfl)
theorem dX9_remedy_50 : decode cX9_remedy 50 = .ok (.aload_n 0, 1) := dk_42 (dk_at dksX9_remedy_2 4 rfl rfl)
theorem dX9_remedy_51 : decode cX9_remedy 51 = .ok (.iload_n 3, 1) := dk_29 (dk_at dksX9_remedy_2 5 rfl rfl)
theorem dX9_remedy_52 : decode cX9_remedy 52 = .ok (.invokevirtual 120, 3) := dk_182 0 120 (dk_at dksX9_remedy_2 6 rfl rfl)
theorem dX9_remedy_55 : decode cX9_remedy 55 = .ok (.ireturn, 1) := dk_172 (dk_at dksX9_remedy_2 9 rfl rfl)
theorem dX9_remedy_56 : decode cX9_remedy 56 = .ok (.aload_n 0, 1) := dk_42 (dk_at dksX9_remedy_2 10 rfl rfl)
theorem dX9_remedy_57 : decode cX9_remedy 57 = .ok (.iload_n 1, 1) := dk_27 (dk_at dksX9_remedy_2 11 rfl rfl)
theorem dX9_remedy_58 : decode cX9_remedy 58 = .ok (.iload_n 2, 1) := dk_28 (dk_at dksX9_remedy_2 12 rfl rfl)
theorem dX9_remedy_59 : decode cX9_remedy 59 = .ok (.invokevirtual 160, 3) := dk_182 0 160 (dk_at dksX9_remedy_2 13 rfl rfl)
theorem dX9_remedy_62 : decode cX9_remedy 62 = .ok (.aload_n 0, 1) := dk_42 (dk_at dksX9_remedy_2 16 rfl rfl)
theorem dX9_remedy_63 : decode cX9_remedy 63 = .ok (.iload_n 1, 1) := dk_27 (dk_at dksX9_remedy_2 17 rfl rfl)
theorem dX9_remedy_64 : decode cX9_remedy 64 = .ok (.iconst 4, 1) := dk_7 (dk_at dksX9_remedy_2 18 rfl rfl)
theorem dX9_remedy_65 : decode cX9_remedy 65 = .ok (.invokevirtual 61, 3) := dk_182 0 61 (dk_at dksX9_remedy_2 19 rfl rfl)
theorem dX9_remedy_68 : decode cX9_remedy 68 = .ok (.ireturn, 1) := dk_172 (dk_at dksX9_remedy_2 22 rfl rfl)
abbrev cX9_mends : ByteArray := prog_28_method_43_code
def yX9_mends : MethodName := ⟨RX9, "mends", "(II)V"⟩
def dkwX9_mends_2 : List UInt8 := [27, 16, 247, 182, 0, 81, 167, 0, 10, 42, 27, 7, 29, 182, 0, 64, 177]
abbrev dktX9_mends_2 : List UInt8 := dkwX9_mends_2 ++ []
def dkwX9_mends_1 : List UInt8 := [27, 7, 182, 0, 61, 5, 108, 167, 0, 11, 42, 27, 7, 182, 0, 61, 7, 100, 62, 29, 157, 0, 13, 42]
abbrev dktX9_mends_1 : List UInt8 := dkwX9_mends_1 ++ dktX9_mends_2
def dkwX9_mends_0 : List UInt8 := [28, 6, 160, 0, 4, 177, 28, 5, 160, 0, 11, 42, 27, 8, 6, 182, 0, 64, 177, 28, 154, 0, 14, 42]
abbrev dktX9_mends_0 : List UInt8 := dkwX9_mends_0 ++ dktX9_mends_1
theorem dksX9_mends_0 : cX9_mends.data.toList.drop 0 = dktX9_mends_0 := by decide +kernel
theorem dksX9_mends_1 : cX9_mends.data.toList.drop 24 = dktX9_mends_1 := dk_seg dksX9_mends_0 24 rfl rfl
theorem dksX9_mends_2 : cX9_mends.data.toList.drop 48 = dktX9_mends_2 := dk_seg dksX9_mends_1 24 rfl rfl
theorem dX9_mends_0 : decode cX9_mends 0 = .ok (.iload_n 2, 1) := dk_28 (dk_at dksX9_mends_0 0 rfl rfl)
theorem dX9_mends_1 : decode cX9_mends 1 = .ok (.iconst 3, 1) := dk_6 (dk_at dksX9_mends_0 1 rfl rfl)
theorem dX9_mends_2 : decode cX9_mends 2 = .ok (.if_icmp .ne 4, 3) := dk_160 0 4 (dk_at dksX9_mends_0 2 rfl rfl)
theorem dX9_mends_5 : decode cX9_mends 5 = .ok (.return_, 1) := dk_177 (dk_at dksX9_mends_0 5 rfl rfl)
theorem dX9_mends_6 : decode cX9_mends 6 = .ok (.iload_n 2, 1) := dk_28 (dk_at dksX9_mends_0 6 rfl rfl)
theorem dX9_mends_7 : decode cX9_mends 7 = .ok (.iconst 2, 1) := dk_5 (dk_at dksX9_mends_0 7 rfl rfl)
theorem dX9_mends_8 : decode cX9_mends 8 = .ok (.if_icmp .ne 11, 3) := dk_160 0 11 (dk_at dksX9_mends_0 8 rfl rfl)
theorem dX9_mends_11 : decode cX9_mends 11 = .ok (.aload_n 0, 1) := dk_42 (dk_at dksX9_mends_0 11 rfl rfl)
theorem dX9_mends_12 : decode cX9_mends 12 = .ok (.iload_n 1, 1) := dk_27 (dk_at dksX9_mends_0 12 rfl rfl)
theorem dX9_mends_13 : decode cX9_mends 13 = .ok (.iconst 5, 1) := dk_8 (dk_at dksX9_mends_0 13 rfl rfl)
theorem dX9_mends_14 : decode cX9_mends 14 = .ok (.iconst 3, 1) := dk_6 (dk_at dksX9_mends_0 14 rfl rfl)
theorem dX9_mends_15 : decode cX9_mends 15 = .ok (.invokevirtual 64, 3) := dk_182 0 64 (dk_at dksX9_mends_0 15 rfl rfl)
theorem dX9_mends_18 : decode cX9_mends 18 = .ok (.return_, 1) := dk_177 (dk_at dksX9_mends_0 18 rfl rfl)
theorem dX9_mends_19 : decode cX9_mends 19 = .ok (.iload_n 2, 1) := dk_28 (dk_at dksX9_mends_0 19 rfl rfl)
theorem dX9_mends_20 : decode cX9_mends 20 = .ok (.ifCond .ne 14, 3) := dk_154 0 14 (dk_at dksX9_mends_0 20 rfl rfl)
theorem dX9_mends_23 : decode cX9_mends 23 = .ok (.aload_n 0, 1) := dk_42 (dk_at dksX9_mends_0 23 rfl rfl)
theorem dX9_mends_24 : decode cX9_mends 24 = .ok (.iload_n 1, 1) := dk_27 (dk_at dksX9_mends_1 0 rfl rfl)
theorem dX9_mends_25 : decode cX9_mends 25 = .ok (.iconst 4, 1) := dk_7 (dk_at dksX9_mends_1 1 rfl rfl)
theorem dX9_mends_26 : decode cX9_mends 26 = .ok (.invokevirtual 61, 3) := dk_182 0 61 (dk_at dksX9_mends_1 2 rfl rfl)
theorem dX9_mends_29 : decode cX9_mends 29 = .ok (.iconst 2, 1) := dk_5 (dk_at dksX9_mends_1 5 rfl rfl)
theorem dX9_mends_30 : decode cX9_mends 30 = .ok (.idiv, 1) := dk_108 (dk_at dksX9_mends_1 6 rfl rfl)
theorem dX9_mends_31 : decode cX9_mends 31 = .ok (.goto 11, 3) := dk_167 0 11 (dk_at dksX9_mends_1 7 rfl rfl)
theorem dX9_mends_34 : decode cX9_mends 34 = .ok (.aload_n 0, 1) := dk_42 (dk_at dksX9_mends_1 10 rfl rfl)
theorem dX9_mends_35 : decode cX9_mends 35 = .ok (.iload_n 1, 1) := dk_27 (dk_at dksX9_mends_1 11 rfl rfl)
theorem dX9_mends_36 : decode cX9_mends 36 = .ok (.iconst 4, 1) := dk_7 (dk_at dksX9_mends_1 12 rfl rfl)
theorem dX9_mends_37 : decode cX9_mends 37 = .ok (.invokevirtual 61, 3) := dk_182 0 61 (dk_at dksX9_mends_1 13 rfl rfl)
theorem dX9_mends_40 : decode cX9_mends 40 = .ok (.iconst 4, 1) := dk_7 (dk_at dksX9_mends_1 16 rfl rfl)
theorem dX9_mends_41 : decode cX9_mends 41 = .ok (.isub, 1) := dk_100 (dk_at dksX9_mends_1 17 rfl rfl)
theorem dX9_mends_42 : decode cX9_mends 42 = .ok (.istore_n 3, 1) := dk_62 (dk_at dksX9_mends_1 18 rfl rfl)
theorem dX9_mends_43 : decode cX9_mends 43 = .ok (.iload_n 3, 1) := dk_29 (dk_at dksX9_mends_1 19 rfl rfl)
theorem dX9_mends_44 : decode cX9_mends 44 = .ok (.ifCond .gt 13, 3) := dk_157 0 13 (dk_at dksX9_mends_1 20 rfl rfl)
theorem dX9_mends_47 : decode cX9_mends 47 = .ok (.aload_n 0, 1) := dk_42 (dk_at dksX9_mends_1 23 rfl rfl)
theorem dX9_mends_48 : decode cX9_mends 48 = .ok (.iload_n 1, 1) := dk_27 (dk_at dksX9_mends_2 0 rfl rfl)
theorem dX9_mends_49 : decode cX9_mends 49 = .ok (.bipush (-9), 2) := dk_16 247 (dk_at dksX9_mends_2 1 rfl rfl)
theorem dX9_mends_51 : decode cX9_mends 51 = .ok (.invokevirtual 81, 3) := dk_182 0 81 (dk_at dksX9_mends_2 3 rfl rfl)
theorem dX9_mends_54 : decode cX9_mends 54 = .ok (.goto 10, 3) := dk_167 0 10 (dk_at dksX9_mends_2 6 rfl rfl)
theorem dX9_mends_57 : decode cX9_mends 57 = .ok (.aload_n 0, 1) := dk_42 (dk_at dksX9_mends_2 9 rfl rfl)
theorem dX9_mends_58 : decode cX9_mends 58 = .ok (.iload_n 1, 1) := dk_27 (dk_at dksX9_mends_2 10 rfl rfl)
theorem dX9_mends_59 : decode cX9_mends 59 = .ok (.iconst 4, 1) := dk_7 (dk_at dksX9_mends_2 11 rfl rfl)
theorem dX9_mends_60 : decode cX9_mends 60 = .ok (.iload_n 3, 1) := dk_29 (dk_at dksX9_mends_2 12 rfl rfl)
theorem dX9_mends_61 : decode cX9_mends 61 = .ok (.invokevirtual 64, 3) := dk_182 0 64 (dk_at dksX9_mends_2 13 rfl rfl)
theorem dX9_mends_64 : decode cX9_mends 64 = .ok (.return_, 1) := dk_177 (dk_at dksX9_mends_2 16 rfl rfl)
abbrev cX9_loud : ByteArray := prog_28_method_45_code
def yX9_loud : MethodName := ⟨RX9, "loud", "(I)I"⟩
def dkwX9_loud_1 : List UInt8 := [62, 42, 180, 0, 13, 8, 27, 79, 29, 172]
abbrev dktX9_loud_1 : List UInt8 := dkwX9_loud_1 ++ []
def dkwX9_loud_0 : List UInt8 := [27, 4, 16, 20, 184, 0, 112, 61, 28, 153, 0, 9, 42, 28, 182, 0, 120, 172, 42, 180, 0, 13, 8, 46]
abbrev dktX9_loud_0 : List UInt8 := dkwX9_loud_0 ++ dktX9_loud_1
theorem dksX9_loud_0 : cX9_loud.data.toList.drop 0 = dktX9_loud_0 := by decide +kernel
theorem dksX9_loud_1 : cX9_loud.data.toList.drop 24 = dktX9_loud_1 := dk_seg dksX9_loud_0 24 rfl rfl
theorem dX9_loud_0 : decode cX9_loud 0 = .ok (.iload_n 1, 1) := dk_27 (dk_at dksX9_loud_0 0 rfl rfl)
theorem dX9_loud_1 : decode cX9_loud 1 = .ok (.iconst 1, 1) := dk_4 (dk_at dksX9_loud_0 1 rfl rfl)
theorem dX9_loud_2 : decode cX9_loud 2 = .ok (.bipush 20, 2) := dk_16 20 (dk_at dksX9_loud_0 2 rfl rfl)
theorem dX9_loud_4 : decode cX9_loud 4 = .ok (.invokestatic 112, 3) := dk_184 0 112 (dk_at dksX9_loud_0 4 rfl rfl)
theorem dX9_loud_7 : decode cX9_loud 7 = .ok (.istore_n 2, 1) := dk_61 (dk_at dksX9_loud_0 7 rfl rfl)
theorem dX9_loud_8 : decode cX9_loud 8 = .ok (.iload_n 2, 1) := dk_28 (dk_at dksX9_loud_0 8 rfl rfl)
theorem dX9_loud_9 : decode cX9_loud 9 = .ok (.ifCond .eq 9, 3) := dk_153 0 9 (dk_at dksX9_loud_0 9 rfl rfl)
theorem dX9_loud_12 : decode cX9_loud 12 = .ok (.aload_n 0, 1) := dk_42 (dk_at dksX9_loud_0 12 rfl rfl)
theorem dX9_loud_13 : decode cX9_loud 13 = .ok (.iload_n 2, 1) := dk_28 (dk_at dksX9_loud_0 13 rfl rfl)
theorem dX9_loud_14 : decode cX9_loud 14 = .ok (.invokevirtual 120, 3) := dk_182 0 120 (dk_at dksX9_loud_0 14 rfl rfl)
theorem dX9_loud_17 : decode cX9_loud 17 = .ok (.ireturn, 1) := dk_172 (dk_at dksX9_loud_0 17 rfl rfl)
theorem dX9_loud_18 : decode cX9_loud 18 = .ok (.aload_n 0, 1) := dk_42 (dk_at dksX9_loud_0 18 rfl rfl)
theorem dX9_loud_19 : decode cX9_loud 19 = .ok (.getfield 13, 3) := dk_180 0 13 (dk_at dksX9_loud_0 19 rfl rfl)
theorem dX9_loud_22 : decode cX9_loud 22 = .ok (.iconst 5, 1) := dk_8 (dk_at dksX9_loud_0 22 rfl rfl)
theorem dX9_loud_23 : decode cX9_loud 23 = .ok (.iaload, 1) := dk_46 (dk_at dksX9_loud_0 23 rfl rfl)
theorem dX9_loud_24 : decode cX9_loud 24 = .ok (.istore_n 3, 1) := dk_62 (dk_at dksX9_loud_1 0 rfl rfl)
theorem dX9_loud_25 : decode cX9_loud 25 = .ok (.aload_n 0, 1) := dk_42 (dk_at dksX9_loud_1 1 rfl rfl)
theorem dX9_loud_26 : decode cX9_loud 26 = .ok (.getfield 13, 3) := dk_180 0 13 (dk_at dksX9_loud_1 2 rfl rfl)
theorem dX9_loud_29 : decode cX9_loud 29 = .ok (.iconst 5, 1) := dk_8 (dk_at dksX9_loud_1 5 rfl rfl)
theorem dX9_loud_30 : decode cX9_loud 30 = .ok (.iload_n 1, 1) := dk_27 (dk_at dksX9_loud_1 6 rfl rfl)
theorem dX9_loud_31 : decode cX9_loud 31 = .ok (.iastore, 1) := dk_79 (dk_at dksX9_loud_1 7 rfl rfl)
theorem dX9_loud_32 : decode cX9_loud 32 = .ok (.iload_n 3, 1) := dk_29 (dk_at dksX9_loud_1 8 rfl rfl)
theorem dX9_loud_33 : decode cX9_loud 33 = .ok (.ireturn, 1) := dk_172 (dk_at dksX9_loud_1 9 rfl rfl)
abbrev cX9_hour : ByteArray := prog_28_method_46_code
def yX9_hour : MethodName := ⟨RX9, "hour", "()I"⟩
def dkwX9_hour_1 : List UInt8 := [182, 0, 99, 172]
abbrev dktX9_hour_1 : List UInt8 := dkwX9_hour_1 ++ []
def dkwX9_hour_0 : List UInt8 := [42, 180, 0, 13, 7, 46, 17, 3, 231, 160, 0, 12, 42, 16, 250, 182, 0, 120, 167, 0, 7, 42]
abbrev dktX9_hour_0 : List UInt8 := dkwX9_hour_0 ++ dktX9_hour_1
theorem dksX9_hour_0 : cX9_hour.data.toList.drop 0 = dktX9_hour_0 := by decide +kernel
theorem dksX9_hour_1 : cX9_hour.data.toList.drop 22 = dktX9_hour_1 := dk_seg dksX9_hour_0 22 rfl rfl
theorem dX9_hour_0 : decode cX9_hour 0 = .ok (.aload_n 0, 1) := dk_42 (dk_at dksX9_hour_0 0 rfl rfl)
theorem dX9_hour_1 : decode cX9_hour 1 = .ok (.getfield 13, 3) := dk_180 0 13 (dk_at dksX9_hour_0 1 rfl rfl)
theorem dX9_hour_4 : decode cX9_hour 4 = .ok (.iconst 4, 1) := dk_7 (dk_at dksX9_hour_0 4 rfl rfl)
theorem dX9_hour_5 : decode cX9_hour 5 = .ok (.iaload, 1) := dk_46 (dk_at dksX9_hour_0 5 rfl rfl)
theorem dX9_hour_6 : decode cX9_hour 6 = .ok (.sipush 999, 3) := dk_17 3 231 (dk_at dksX9_hour_0 6 rfl rfl)
theorem dX9_hour_9 : decode cX9_hour 9 = .ok (.if_icmp .ne 12, 3) := dk_160 0 12 (dk_at dksX9_hour_0 9 rfl rfl)
theorem dX9_hour_12 : decode cX9_hour 12 = .ok (.aload_n 0, 1) := dk_42 (dk_at dksX9_hour_0 12 rfl rfl)
theorem dX9_hour_13 : decode cX9_hour 13 = .ok (.bipush (-6), 2) := dk_16 250 (dk_at dksX9_hour_0 13 rfl rfl)
theorem dX9_hour_15 : decode cX9_hour 15 = .ok (.invokevirtual 120, 3) := dk_182 0 120 (dk_at dksX9_hour_0 15 rfl rfl)
theorem dX9_hour_18 : decode cX9_hour 18 = .ok (.goto 7, 3) := dk_167 0 7 (dk_at dksX9_hour_0 18 rfl rfl)
theorem dX9_hour_21 : decode cX9_hour 21 = .ok (.aload_n 0, 1) := dk_42 (dk_at dksX9_hour_0 21 rfl rfl)
theorem dX9_hour_22 : decode cX9_hour 22 = .ok (.invokevirtual 99, 3) := dk_182 0 99 (dk_at dksX9_hour_1 0 rfl rfl)
theorem dX9_hour_25 : decode cX9_hour 25 = .ok (.ireturn, 1) := dk_172 (dk_at dksX9_hour_1 3 rfl rfl)
abbrev cX9_goes : ByteArray := prog_28_method_21_code
def yX9_goes : MethodName := ⟨RX9, "goes", "()I"⟩
def dkwX9_goes_8 : List UInt8 := [96, 79, 28, 172]
abbrev dktX9_goes_8 : List UInt8 := dkwX9_goes_8 ++ []
def dkwX9_goes_7 : List UInt8 := [29, 8, 182, 0, 61, 4, 100, 182, 0, 64, 132, 3, 1, 167, 255, 160, 42, 180, 0, 13, 7, 92, 46, 4]
abbrev dktX9_goes_7 : List UInt8 := dkwX9_goes_7 ++ dktX9_goes_8
def dkwX9_goes_6 : List UInt8 := [132, 2, 1, 167, 0, 8, 42, 29, 182, 0, 92, 42, 29, 8, 182, 0, 61, 158, 0, 17, 42, 29, 8, 42]
abbrev dktX9_goes_6 : List UInt8 := dkwX9_goes_6 ++ dktX9_goes_7
def dkwX9_goes_5 : List UInt8 := [180, 0, 28, 29, 46, 79, 42, 180, 0, 34, 29, 42, 180, 0, 37, 42, 180, 0, 28, 29, 46, 46, 79]
abbrev dktX9_goes_5 : List UInt8 := dkwX9_goes_5 ++ dktX9_goes_6
def dkwX9_goes_4 : List UInt8 := [29, 46, 155, 0, 49, 42, 29, 42, 180, 0, 25, 29, 46, 182, 0, 81, 42, 180, 0, 31, 29, 42]
abbrev dktX9_goes_4 : List UInt8 := dkwX9_goes_4 ++ dktX9_goes_5
def dkwX9_goes_3 : List UInt8 := [46, 79, 132, 3, 1, 167, 255, 225, 3, 62, 29, 42, 180, 0, 13, 6, 46, 162, 0, 92, 42, 180, 0, 25]
abbrev dktX9_goes_3 : List UInt8 := dkwX9_goes_3 ++ dktX9_goes_4
def dkwX9_goes_2 : List UInt8 := [180, 0, 13, 6, 46, 162, 0, 27, 42, 29, 27, 182, 0, 89, 42, 180, 0, 37, 29, 42, 180, 0, 34, 29]
abbrev dktX9_goes_2 : List UInt8 := dkwX9_goes_2 ++ dktX9_goes_3
def dkwX9_goes_1 : List UInt8 := [153, 0, 9, 4, 29, 120, 167, 0, 4, 3, 128, 60, 132, 3, 1, 167, 255, 225, 3, 62, 29, 42]
abbrev dktX9_goes_1 : List UInt8 := dkwX9_goes_1 ++ dktX9_goes_2
def dkwX9_goes_0 : List UInt8 := [3, 60, 3, 61, 3, 62, 29, 42, 180, 0, 13, 6, 46, 162, 0, 27, 27, 42, 29, 182, 0, 85]
abbrev dktX9_goes_0 : List UInt8 := dkwX9_goes_0 ++ dktX9_goes_1
theorem dksX9_goes_0 : cX9_goes.data.toList.drop 0 = dktX9_goes_0 := by decide +kernel
theorem dksX9_goes_1 : cX9_goes.data.toList.drop 22 = dktX9_goes_1 := dk_seg dksX9_goes_0 22 rfl rfl
theorem dksX9_goes_2 : cX9_goes.data.toList.drop 44 = dktX9_goes_2 := dk_seg dksX9_goes_1 22 rfl rfl
theorem dksX9_goes_3 : cX9_goes.data.toList.drop 68 = dktX9_goes_3 := dk_seg dksX9_goes_2 24 rfl rfl
theorem dksX9_goes_4 : cX9_goes.data.toList.drop 92 = dktX9_goes_4 := dk_seg dksX9_goes_3 24 rfl rfl
theorem dksX9_goes_5 : cX9_goes.data.toList.drop 114 = dktX9_goes_5 := dk_seg dksX9_goes_4 22 rfl rfl
theorem dksX9_goes_6 : cX9_goes.data.toList.drop 137 = dktX9_goes_6 := dk_seg dksX9_goes_5 23 rfl rfl
theorem dksX9_goes_7 : cX9_goes.data.toList.drop 161 = dktX9_goes_7 := dk_seg dksX9_goes_6 24 rfl rfl
theorem dksX9_goes_8 : cX9_goes.data.toList.drop 185 = dktX9_goes_8 := dk_seg dksX9_goes_7 24 rfl rfl
theorem dX9_goes_0 : decode cX9_goes 0 = .ok (.iconst 0, 1) := dk_3 (dk_at dksX9_goes_0 0 rfl rfl)
theorem dX9_goes_1 : decode cX9_goes 1 = .ok (.istore_n 1, 1) := dk_60 (dk_at dksX9_goes_0 1 rfl rfl)
theorem dX9_goes_2 : decode cX9_goes 2 = .ok (.iconst 0, 1) := dk_3 (dk_at dksX9_goes_0 2 rfl rfl)
theorem dX9_goes_3 : decode cX9_goes 3 = .ok (.istore_n 2, 1) := dk_61 (dk_at dksX9_goes_0 3 rfl rfl)
theorem dX9_goes_4 : decode cX9_goes 4 = .ok (.iconst 0, 1) := dk_3 (dk_at dksX9_goes_0 4 rfl rfl)
theorem dX9_goes_5 : decode cX9_goes 5 = .ok (.istore_n 3, 1) := dk_62 (dk_at dksX9_goes_0 5 rfl rfl)
theorem dX9_goes_6 : decode cX9_goes 6 = .ok (.iload_n 3, 1) := dk_29 (dk_at dksX9_goes_0 6 rfl rfl)
theorem dX9_goes_7 : decode cX9_goes 7 = .ok (.aload_n 0, 1) := dk_42 (dk_at dksX9_goes_0 7 rfl rfl)
theorem dX9_goes_8 : decode cX9_goes 8 = .ok (.getfield 13, 3) := dk_180 0 13 (dk_at dksX9_goes_0 8 rfl rfl)
theorem dX9_goes_11 : decode cX9_goes 11 = .ok (.iconst 3, 1) := dk_6 (dk_at dksX9_goes_0 11 rfl rfl)
theorem dX9_goes_12 : decode cX9_goes 12 = .ok (.iaload, 1) := dk_46 (dk_at dksX9_goes_0 12 rfl rfl)
theorem dX9_goes_13 : decode cX9_goes 13 = .ok (.if_icmp .ge 27, 3) := dk_162 0 27 (dk_at dksX9_goes_0 13 rfl rfl)
theorem dX9_goes_16 : decode cX9_goes 16 = .ok (.iload_n 1, 1) := dk_27 (dk_at dksX9_goes_0 16 rfl rfl)
theorem dX9_goes_17 : decode cX9_goes 17 = .ok (.aload_n 0, 1) := dk_42 (dk_at dksX9_goes_0 17 rfl rfl)
theorem dX9_goes_18 : decode cX9_goes 18 = .ok (.iload_n 3, 1) := dk_29 (dk_at dksX9_goes_0 18 rfl rfl)
theorem dX9_goes_19 : decode cX9_goes 19 = .ok (.invokevirtual 85, 3) := dk_182 0 85 (dk_at dksX9_goes_0 19 rfl rfl)
theorem dX9_goes_22 : decode cX9_goes 22 = .ok (.ifCond .eq 9, 3) := dk_153 0 9 (dk_at dksX9_goes_1 0 rfl rfl)
theorem dX9_goes_25 : decode cX9_goes 25 = .ok (.iconst 1, 1) := dk_4 (dk_at dksX9_goes_1 3 rfl rfl)
theorem dX9_goes_26 : decode cX9_goes 26 = .ok (.iload_n 3, 1) := dk_29 (dk_at dksX9_goes_1 4 rfl rfl)
theorem dX9_goes_27 : decode cX9_goes 27 = .ok (.ishl, 1) := dk_120 (dk_at dksX9_goes_1 5 rfl rfl)
theorem dX9_goes_28 : decode cX9_goes 28 = .ok (.goto 4, 3) := dk_167 0 4 (dk_at dksX9_goes_1 6 rfl rfl)
theorem dX9_goes_31 : decode cX9_goes 31 = .ok (.iconst 0, 1) := dk_3 (dk_at dksX9_goes_1 9 rfl rfl)
theorem dX9_goes_32 : decode cX9_goes 32 = .ok (.ior, 1) := dk_128 (dk_at dksX9_goes_1 10 rfl rfl)
theorem dX9_goes_33 : decode cX9_goes 33 = .ok (.istore_n 1, 1) := dk_60 (dk_at dksX9_goes_1 11 rfl rfl)
theorem dX9_goes_34 : decode cX9_goes 34 = .ok (.iinc 3 1, 3) := dk_132 3 1 (dk_at dksX9_goes_1 12 rfl rfl)
theorem dX9_goes_37 : decode cX9_goes 37 = .ok (.goto (-31), 3) := dk_167 255 225 (dk_at dksX9_goes_1 15 rfl rfl)
theorem dX9_goes_40 : decode cX9_goes 40 = .ok (.iconst 0, 1) := dk_3 (dk_at dksX9_goes_1 18 rfl rfl)
theorem dX9_goes_41 : decode cX9_goes 41 = .ok (.istore_n 3, 1) := dk_62 (dk_at dksX9_goes_1 19 rfl rfl)
theorem dX9_goes_42 : decode cX9_goes 42 = .ok (.iload_n 3, 1) := dk_29 (dk_at dksX9_goes_1 20 rfl rfl)
theorem dX9_goes_43 : decode cX9_goes 43 = .ok (.aload_n 0, 1) := dk_42 (dk_at dksX9_goes_1 21 rfl rfl)
theorem dX9_goes_44 : decode cX9_goes 44 = .ok (.getfield 13, 3) := dk_180 0 13 (dk_at dksX9_goes_2 0 rfl rfl)
theorem dX9_goes_47 : decode cX9_goes 47 = .ok (.iconst 3, 1) := dk_6 (dk_at dksX9_goes_2 3 rfl rfl)
theorem dX9_goes_48 : decode cX9_goes 48 = .ok (.iaload, 1) := dk_46 (dk_at dksX9_goes_2 4 rfl rfl)
theorem dX9_goes_49 : decode cX9_goes 49 = .ok (.if_icmp .ge 27, 3) := dk_162 0 27 (dk_at dksX9_goes_2 5 rfl rfl)
theorem dX9_goes_52 : decode cX9_goes 52 = .ok (.aload_n 0, 1) := dk_42 (dk_at dksX9_goes_2 8 rfl rfl)
theorem dX9_goes_53 : decode cX9_goes 53 = .ok (.iload_n 3, 1) := dk_29 (dk_at dksX9_goes_2 9 rfl rfl)
theorem dX9_goes_54 : decode cX9_goes 54 = .ok (.iload_n 1, 1) := dk_27 (dk_at dksX9_goes_2 10 rfl rfl)
theorem dX9_goes_55 : decode cX9_goes 55 = .ok (.invokevirtual 89, 3) := dk_182 0 89 (dk_at dksX9_goes_2 11 rfl rfl)
theorem dX9_goes_58 : decode cX9_goes 58 = .ok (.aload_n 0, 1) := dk_42 (dk_at dksX9_goes_2 14 rfl rfl)
theorem dX9_goes_59 : decode cX9_goes 59 = .ok (.getfield 37, 3) := dk_180 0 37 (dk_at dksX9_goes_2 15 rfl rfl)
theorem dX9_goes_62 : decode cX9_goes 62 = .ok (.iload_n 3, 1) := dk_29 (dk_at dksX9_goes_2 18 rfl rfl)
theorem dX9_goes_63 : decode cX9_goes 63 = .ok (.aload_n 0, 1) := dk_42 (dk_at dksX9_goes_2 19 rfl rfl)
theorem dX9_goes_64 : decode cX9_goes 64 = .ok (.getfield 34, 3) := dk_180 0 34 (dk_at dksX9_goes_2 20 rfl rfl)
theorem dX9_goes_67 : decode cX9_goes 67 = .ok (.iload_n 3, 1) := dk_29 (dk_at dksX9_goes_2 23 rfl rfl)
theorem dX9_goes_68 : decode cX9_goes 68 = .ok (.iaload, 1) := dk_46 (dk_at dksX9_goes_3 0 rfl rfl)
theorem dX9_goes_69 : decode cX9_goes 69 = .ok (.iastore, 1) := dk_79 (dk_at dksX9_goes_3 1 rfl rfl)
theorem dX9_goes_70 : decode cX9_goes 70 = .ok (.iinc 3 1, 3) := dk_132 3 1 (dk_at dksX9_goes_3 2 rfl rfl)
theorem dX9_goes_73 : decode cX9_goes 73 = .ok (.goto (-31), 3) := dk_167 255 225 (dk_at dksX9_goes_3 5 rfl rfl)
theorem dX9_goes_76 : decode cX9_goes 76 = .ok (.iconst 0, 1) := dk_3 (dk_at dksX9_goes_3 8 rfl rfl)
theorem dX9_goes_77 : decode cX9_goes 77 = .ok (.istore_n 3, 1) := dk_62 (dk_at dksX9_goes_3 9 rfl rfl)
theorem dX9_goes_78 : decode cX9_goes 78 = .ok (.iload_n 3, 1) := dk_29 (dk_at dksX9_goes_3 10 rfl rfl)
theorem dX9_goes_79 : decode cX9_goes 79 = .ok (.aload_n 0, 1) := dk_42 (dk_at dksX9_goes_3 11 rfl rfl)
theorem dX9_goes_80 : decode cX9_goes 80 = .ok (.getfield 13, 3) := dk_180 0 13 (dk_at dksX9_goes_3 12 rfl rfl)
theorem dX9_goes_83 : decode cX9_goes 83 = .ok (.iconst 3, 1) := dk_6 (dk_at dksX9_goes_3 15 rfl rfl)
theorem dX9_goes_84 : decode cX9_goes 84 = .ok (.iaload, 1) := dk_46 (dk_at dksX9_goes_3 16 rfl rfl)
theorem dX9_goes_85 : decode cX9_goes 85 = .ok (.if_icmp .ge 92, 3) := dk_162 0 92 (dk_at dksX9_goes_3 17 rfl rfl)
theorem dX9_goes_88 : decode cX9_goes 88 = .ok (.aload_n 0, 1) := dk_42 (dk_at dksX9_goes_3 20 rfl rfl)
theorem dX9_goes_89 : decode cX9_goes 89 = .ok (.getfield 25, 3) := dk_180 0 25 (dk_at dksX9_goes_3 21 rfl rfl)
theorem dX9_goes_92 : decode cX9_goes 92 = .ok (.iload_n 3, 1) := dk_29 (dk_at dksX9_goes_4 0 rfl rfl)
theorem dX9_goes_93 : decode cX9_goes 93 = .ok (.iaload, 1) := dk_46 (dk_at dksX9_goes_4 1 rfl rfl)
theorem dX9_goes_94 : decode cX9_goes 94 = .ok (.ifCond .lt 49, 3) := dk_155 0 49 (dk_at dksX9_goes_4 2 rfl rfl)
theorem dX9_goes_97 : decode cX9_goes 97 = .ok (.aload_n 0, 1) := dk_42 (dk_at dksX9_goes_4 5 rfl rfl)
theorem dX9_goes_98 : decode cX9_goes 98 = .ok (.iload_n 3, 1) := dk_29 (dk_at dksX9_goes_4 6 rfl rfl)
theorem dX9_goes_99 : decode cX9_goes 99 = .ok (.aload_n 0, 1) := dk_42 (dk_at dksX9_goes_4 7 rfl rfl)
theorem dX9_goes_100 : decode cX9_goes 100 = .ok (.getfield 25, 3) := dk_180 0 25 (dk_at dksX9_goes_4 8 rfl rfl)
theorem dX9_goes_103 : decode cX9_goes 103 = .ok (.iload_n 3, 1) := dk_29 (dk_at dksX9_goes_4 11 rfl rfl)
theorem dX9_goes_104 : decode cX9_goes 104 = .ok (.iaload, 1) := dk_46 (dk_at dksX9_goes_4 12 rfl rfl)
theorem dX9_goes_105 : decode cX9_goes 105 = .ok (.invokevirtual 81, 3) := dk_182 0 81 (dk_at dksX9_goes_4 13 rfl rfl)
theorem dX9_goes_108 : decode cX9_goes 108 = .ok (.aload_n 0, 1) := dk_42 (dk_at dksX9_goes_4 16 rfl rfl)
theorem dX9_goes_109 : decode cX9_goes 109 = .ok (.getfield 31, 3) := dk_180 0 31 (dk_at dksX9_goes_4 17 rfl rfl)
theorem dX9_goes_112 : decode cX9_goes 112 = .ok (.iload_n 3, 1) := dk_29 (dk_at dksX9_goes_4 20 rfl rfl)
theorem dX9_goes_113 : decode cX9_goes 113 = .ok (.aload_n 0, 1) := dk_42 (dk_at dksX9_goes_4 21 rfl rfl)
theorem dX9_goes_114 : decode cX9_goes 114 = .ok (.getfield 28, 3) := dk_180 0 28 (dk_at dksX9_goes_5 0 rfl rfl)
theorem dX9_goes_117 : decode cX9_goes 117 = .ok (.iload_n 3, 1) := dk_29 (dk_at dksX9_goes_5 3 rfl rfl)
theorem dX9_goes_118 : decode cX9_goes 118 = .ok (.iaload, 1) := dk_46 (dk_at dksX9_goes_5 4 rfl rfl)
theorem dX9_goes_119 : decode cX9_goes 119 = .ok (.iastore, 1) := dk_79 (dk_at dksX9_goes_5 5 rfl rfl)
theorem dX9_goes_120 : decode cX9_goes 120 = .ok (.aload_n 0, 1) := dk_42 (dk_at dksX9_goes_5 6 rfl rfl)
theorem dX9_goes_121 : decode cX9_goes 121 = .ok (.getfield 34, 3) := dk_180 0 34 (dk_at dksX9_goes_5 7 rfl rfl)
theorem dX9_goes_124 : decode cX9_goes 124 = .ok (.iload_n 3, 1) := dk_29 (dk_at dksX9_goes_5 10 rfl rfl)
theorem dX9_goes_125 : decode cX9_goes 125 = .ok (.aload_n 0, 1) := dk_42 (dk_at dksX9_goes_5 11 rfl rfl)
theorem dX9_goes_126 : decode cX9_goes 126 = .ok (.getfield 37, 3) := dk_180 0 37 (dk_at dksX9_goes_5 12 rfl rfl)
theorem dX9_goes_129 : decode cX9_goes 129 = .ok (.aload_n 0, 1) := dk_42 (dk_at dksX9_goes_5 15 rfl rfl)
theorem dX9_goes_130 : decode cX9_goes 130 = .ok (.getfield 28, 3) := dk_180 0 28 (dk_at dksX9_goes_5 16 rfl rfl)
theorem dX9_goes_133 : decode cX9_goes 133 = .ok (.iload_n 3, 1) := dk_29 (dk_at dksX9_goes_5 19 rfl rfl)
theorem dX9_goes_134 : decode cX9_goes 134 = .ok (.iaload, 1) := dk_46 (dk_at dksX9_goes_5 20 rfl rfl)
theorem dX9_goes_135 : decode cX9_goes 135 = .ok (.iaload, 1) := dk_46 (dk_at dksX9_goes_5 21 rfl rfl)
theorem dX9_goes_136 : decode cX9_goes 136 = .ok (.iastore, 1) := dk_79 (dk_at dksX9_goes_5 22 rfl rfl)
theorem dX9_goes_137 : decode cX9_goes 137 = .ok (.iinc 2 1, 3) := dk_132 2 1 (dk_at dksX9_goes_6 0 rfl rfl)
theorem dX9_goes_140 : decode cX9_goes 140 = .ok (.goto 8, 3) := dk_167 0 8 (dk_at dksX9_goes_6 3 rfl rfl)
theorem dX9_goes_143 : decode cX9_goes 143 = .ok (.aload_n 0, 1) := dk_42 (dk_at dksX9_goes_6 6 rfl rfl)
theorem dX9_goes_144 : decode cX9_goes 144 = .ok (.iload_n 3, 1) := dk_29 (dk_at dksX9_goes_6 7 rfl rfl)
theorem dX9_goes_145 : decode cX9_goes 145 = .ok (.invokevirtual 92, 3) := dk_182 0 92 (dk_at dksX9_goes_6 8 rfl rfl)
theorem dX9_goes_148 : decode cX9_goes 148 = .ok (.aload_n 0, 1) := dk_42 (dk_at dksX9_goes_6 11 rfl rfl)
theorem dX9_goes_149 : decode cX9_goes 149 = .ok (.iload_n 3, 1) := dk_29 (dk_at dksX9_goes_6 12 rfl rfl)
theorem dX9_goes_150 : decode cX9_goes 150 = .ok (.iconst 5, 1) := dk_8 (dk_at dksX9_goes_6 13 rfl rfl)
theorem dX9_goes_151 : decode cX9_goes 151 = .ok (.invokevirtual 61, 3) := dk_182 0 61 (dk_at dksX9_goes_6 14 rfl rfl)
theorem dX9_goes_154 : decode cX9_goes 154 = .ok (.ifCond .le 17, 3) := dk_158 0 17 (dk_at dksX9_goes_6 17 rfl rfl)
theorem dX9_goes_157 : decode cX9_goes 157 = .ok (.aload_n 0, 1) := dk_42 (dk_at dksX9_goes_6 20 rfl rfl)
theorem dX9_goes_158 : decode cX9_goes 158 = .ok (.iload_n 3, 1) := dk_29 (dk_at dksX9_goes_6 21 rfl rfl)
theorem dX9_goes_159 : decode cX9_goes 159 = .ok (.iconst 5, 1) := dk_8 (dk_at dksX9_goes_6 22 rfl rfl)
theorem dX9_goes_160 : decode cX9_goes 160 = .ok (.aload_n 0, 1) := dk_42 (dk_at dksX9_goes_6 23 rfl rfl)
theorem dX9_goes_161 : decode cX9_goes 161 = .ok (.iload_n 3, 1) := dk_29 (dk_at dksX9_goes_7 0 rfl rfl)
theorem dX9_goes_162 : decode cX9_goes 162 = .ok (.iconst 5, 1) := dk_8 (dk_at dksX9_goes_7 1 rfl rfl)
theorem dX9_goes_163 : decode cX9_goes 163 = .ok (.invokevirtual 61, 3) := dk_182 0 61 (dk_at dksX9_goes_7 2 rfl rfl)
theorem dX9_goes_166 : decode cX9_goes 166 = .ok (.iconst 1, 1) := dk_4 (dk_at dksX9_goes_7 5 rfl rfl)
theorem dX9_goes_167 : decode cX9_goes 167 = .ok (.isub, 1) := dk_100 (dk_at dksX9_goes_7 6 rfl rfl)
theorem dX9_goes_168 : decode cX9_goes 168 = .ok (.invokevirtual 64, 3) := dk_182 0 64 (dk_at dksX9_goes_7 7 rfl rfl)
theorem dX9_goes_171 : decode cX9_goes 171 = .ok (.iinc 3 1, 3) := dk_132 3 1 (dk_at dksX9_goes_7 10 rfl rfl)
theorem dX9_goes_174 : decode cX9_goes 174 = .ok (.goto (-96), 3) := dk_167 255 160 (dk_at dksX9_goes_7 13 rfl rfl)
theorem dX9_goes_177 : decode cX9_goes 177 = .ok (.aload_n 0, 1) := dk_42 (dk_at dksX9_goes_7 16 rfl rfl)
theorem dX9_goes_178 : decode cX9_goes 178 = .ok (.getfield 13, 3) := dk_180 0 13 (dk_at dksX9_goes_7 17 rfl rfl)
theorem dX9_goes_181 : decode cX9_goes 181 = .ok (.iconst 4, 1) := dk_7 (dk_at dksX9_goes_7 20 rfl rfl)
theorem dX9_goes_182 : decode cX9_goes 182 = .ok (.dup2, 1) := dk_92 (dk_at dksX9_goes_7 21 rfl rfl)
theorem dX9_goes_183 : decode cX9_goes 183 = .ok (.iaload, 1) := dk_46 (dk_at dksX9_goes_7 22 rfl rfl)
theorem dX9_goes_184 : decode cX9_goes 184 = .ok (.iconst 1, 1) := dk_4 (dk_at dksX9_goes_7 23 rfl rfl)
theorem dX9_goes_185 : decode cX9_goes 185 = .ok (.iadd, 1) := dk_96 (dk_at dksX9_goes_8 0 rfl rfl)
theorem dX9_goes_186 : decode cX9_goes 186 = .ok (.iastore, 1) := dk_79 (dk_at dksX9_goes_8 1 rfl rfl)
theorem dX9_goes_187 : decode cX9_goes 187 = .ok (.iload_n 2, 1) := dk_28 (dk_at dksX9_goes_8 2 rfl rfl)
theorem dX9_goes_188 : decode cX9_goes 188 = .ok (.ireturn, 1) := dk_172 (dk_at dksX9_goes_8 3 rfl rfl)
abbrev cX9_hears : ByteArray := prog_28_method_19_code
def yX9_hears : MethodName := ⟨RX9, "hears", "(II)V"⟩
def dkwX9_hears_10 : List UInt8 := [163, 0, 11, 42, 180, 0, 25, 27, 16, 247, 79, 177]
abbrev dktX9_hears_10 : List UInt8 := dkwX9_hears_10 ++ []
def dkwX9_hears_9 : List UInt8 := [182, 0, 75, 164, 0, 22, 42, 42, 180, 0, 25, 27, 46, 182, 0, 68, 42, 27, 7, 182, 0, 61]
abbrev dktX9_hears_9 : List UInt8 := dkwX9_hears_9 ++ dktX9_hears_10
def dkwX9_hears_8 : List UInt8 := [42, 180, 0, 25, 27, 46, 155, 0, 49, 42, 42, 180, 0, 25, 27, 46, 4, 182, 0, 57, 42, 27]
abbrev dktX9_hears_8 : List UInt8 := dkwX9_hears_8 ++ dktX9_hears_9
def dkwX9_hears_7 : List UInt8 := [27, 21, 5, 153, 0, 8, 21, 4, 167, 0, 9, 42, 180, 0, 25, 27, 46, 79, 132, 3, 1, 167, 255, 88]
abbrev dktX9_hears_7 : List UInt8 := dkwX9_hears_7 ++ dktX9_hears_8
def dkwX9_hears_6 : List UInt8 := [180, 0, 28, 27, 21, 5, 153, 0, 7, 29, 167, 0, 9, 42, 180, 0, 28, 27, 46, 79, 42, 180, 0, 25]
abbrev dktX9_hears_6 : List UInt8 := dkwX9_hears_6 ++ dktX9_hears_7
def dkwX9_hears_5 : List UInt8 := [160, 0, 18, 21, 4, 42, 180, 0, 25, 27, 46, 162, 0, 7, 4, 167, 0, 4, 3, 54, 5, 42]
abbrev dktX9_hears_5 : List UInt8 := dkwX9_hears_5 ++ dktX9_hears_6
def dkwX9_hears_4 : List UInt8 := [182, 0, 57, 163, 0, 35, 42, 21, 4, 4, 182, 0, 57, 42, 42, 180, 0, 25, 27, 46, 4, 182, 0, 57]
abbrev dktX9_hears_4 : List UInt8 := dkwX9_hears_4 ++ dktX9_hears_5
def dkwX9_hears_3 : List UInt8 := [180, 0, 25, 27, 46, 155, 0, 56, 42, 21, 4, 4, 182, 0, 57, 42, 42, 180, 0, 25, 27, 46, 4]
abbrev dktX9_hears_3 : List UInt8 := dkwX9_hears_3 ++ dktX9_hears_4
def dkwX9_hears_2 : List UInt8 := [182, 0, 61, 42, 27, 6, 182, 0, 61, 160, 0, 6, 167, 0, 123, 42, 29, 6, 182, 0, 61, 54, 4, 42]
abbrev dktX9_hears_2 : List UInt8 := dkwX9_hears_2 ++ dktX9_hears_3
def dkwX9_hears_1 : List UInt8 := [46, 162, 0, 164, 28, 29, 122, 4, 126, 153, 0, 150, 42, 27, 29, 182, 0, 72, 153, 0, 141, 42, 29, 6]
abbrev dktX9_hears_1 : List UInt8 := dkwX9_hears_1 ++ dktX9_hears_2
def dkwX9_hears_0 : List UInt8 := [42, 180, 0, 25, 27, 16, 247, 79, 42, 180, 0, 28, 27, 16, 247, 79, 3, 62, 29, 42, 180, 0, 13, 6]
abbrev dktX9_hears_0 : List UInt8 := dkwX9_hears_0 ++ dktX9_hears_1
theorem dksX9_hears_0 : cX9_hears.data.toList.drop 0 = dktX9_hears_0 := by decide +kernel
theorem dksX9_hears_1 : cX9_hears.data.toList.drop 24 = dktX9_hears_1 := dk_seg dksX9_hears_0 24 rfl rfl
theorem dksX9_hears_2 : cX9_hears.data.toList.drop 48 = dktX9_hears_2 := dk_seg dksX9_hears_1 24 rfl rfl
theorem dksX9_hears_3 : cX9_hears.data.toList.drop 72 = dktX9_hears_3 := dk_seg dksX9_hears_2 24 rfl rfl
theorem dksX9_hears_4 : cX9_hears.data.toList.drop 95 = dktX9_hears_4 := dk_seg dksX9_hears_3 23 rfl rfl
theorem dksX9_hears_5 : cX9_hears.data.toList.drop 119 = dktX9_hears_5 := dk_seg dksX9_hears_4 24 rfl rfl
theorem dksX9_hears_6 : cX9_hears.data.toList.drop 141 = dktX9_hears_6 := dk_seg dksX9_hears_5 22 rfl rfl
theorem dksX9_hears_7 : cX9_hears.data.toList.drop 165 = dktX9_hears_7 := dk_seg dksX9_hears_6 24 rfl rfl
theorem dksX9_hears_8 : cX9_hears.data.toList.drop 189 = dktX9_hears_8 := dk_seg dksX9_hears_7 24 rfl rfl
theorem dksX9_hears_9 : cX9_hears.data.toList.drop 211 = dktX9_hears_9 := dk_seg dksX9_hears_8 22 rfl rfl
theorem dksX9_hears_10 : cX9_hears.data.toList.drop 233 = dktX9_hears_10 := dk_seg dksX9_hears_9 22 rfl rfl
theorem dX9_hears_0 : decode cX9_hears 0 = .ok (.aload_n 0, 1) := dk_42 (dk_at dksX9_hears_0 0 rfl rfl)
theorem dX9_hears_1 : decode cX9_hears 1 = .ok (.getfield 25, 3) := dk_180 0 25 (dk_at dksX9_hears_0 1 rfl rfl)
theorem dX9_hears_4 : decode cX9_hears 4 = .ok (.iload_n 1, 1) := dk_27 (dk_at dksX9_hears_0 4 rfl rfl)
theorem dX9_hears_5 : decode cX9_hears 5 = .ok (.bipush (-9), 2) := dk_16 247 (dk_at dksX9_hears_0 5 rfl rfl)
theorem dX9_hears_7 : decode cX9_hears 7 = .ok (.iastore, 1) := dk_79 (dk_at dksX9_hears_0 7 rfl rfl)
theorem dX9_hears_8 : decode cX9_hears 8 = .ok (.aload_n 0, 1) := dk_42 (dk_at dksX9_hears_0 8 rfl rfl)
theorem dX9_hears_9 : decode cX9_hears 9 = .ok (.getfield 28, 3) := dk_180 0 28 (dk_at dksX9_hears_0 9 rfl rfl)
theorem dX9_hears_12 : decode cX9_hears 12 = .ok (.iload_n 1, 1) := dk_27 (dk_at dksX9_hears_0 12 rfl rfl)
theorem dX9_hears_13 : decode cX9_hears 13 = .ok (.bipush (-9), 2) := dk_16 247 (dk_at dksX9_hears_0 13 rfl rfl)
theorem dX9_hears_15 : decode cX9_hears 15 = .ok (.iastore, 1) := dk_79 (dk_at dksX9_hears_0 15 rfl rfl)
theorem dX9_hears_16 : decode cX9_hears 16 = .ok (.iconst 0, 1) := dk_3 (dk_at dksX9_hears_0 16 rfl rfl)
theorem dX9_hears_17 : decode cX9_hears 17 = .ok (.istore_n 3, 1) := dk_62 (dk_at dksX9_hears_0 17 rfl rfl)
theorem dX9_hears_18 : decode cX9_hears 18 = .ok (.iload_n 3, 1) := dk_29 (dk_at dksX9_hears_0 18 rfl rfl)
theorem dX9_hears_19 : decode cX9_hears 19 = .ok (.aload_n 0, 1) := dk_42 (dk_at dksX9_hears_0 19 rfl rfl)
theorem dX9_hears_20 : decode cX9_hears 20 = .ok (.getfield 13, 3) := dk_180 0 13 (dk_at dksX9_hears_0 20 rfl rfl)
theorem dX9_hears_23 : decode cX9_hears 23 = .ok (.iconst 3, 1) := dk_6 (dk_at dksX9_hears_0 23 rfl rfl)
theorem dX9_hears_24 : decode cX9_hears 24 = .ok (.iaload, 1) := dk_46 (dk_at dksX9_hears_1 0 rfl rfl)
theorem dX9_hears_25 : decode cX9_hears 25 = .ok (.if_icmp .ge 164, 3) := dk_162 0 164 (dk_at dksX9_hears_1 1 rfl rfl)
theorem dX9_hears_28 : decode cX9_hears 28 = .ok (.iload_n 2, 1) := dk_28 (dk_at dksX9_hears_1 4 rfl rfl)
theorem dX9_hears_29 : decode cX9_hears 29 = .ok (.iload_n 3, 1) := dk_29 (dk_at dksX9_hears_1 5 rfl rfl)
theorem dX9_hears_30 : decode cX9_hears 30 = .ok (.ishr, 1) := dk_122 (dk_at dksX9_hears_1 6 rfl rfl)
theorem dX9_hears_31 : decode cX9_hears 31 = .ok (.iconst 1, 1) := dk_4 (dk_at dksX9_hears_1 7 rfl rfl)
theorem dX9_hears_32 : decode cX9_hears 32 = .ok (.iand, 1) := dk_126 (dk_at dksX9_hears_1 8 rfl rfl)
theorem dX9_hears_33 : decode cX9_hears 33 = .ok (.ifCond .eq 150, 3) := dk_153 0 150 (dk_at dksX9_hears_1 9 rfl rfl)
theorem dX9_hears_36 : decode cX9_hears 36 = .ok (.aload_n 0, 1) := dk_42 (dk_at dksX9_hears_1 12 rfl rfl)
theorem dX9_hears_37 : decode cX9_hears 37 = .ok (.iload_n 1, 1) := dk_27 (dk_at dksX9_hears_1 13 rfl rfl)
theorem dX9_hears_38 : decode cX9_hears 38 = .ok (.iload_n 3, 1) := dk_29 (dk_at dksX9_hears_1 14 rfl rfl)
theorem dX9_hears_39 : decode cX9_hears 39 = .ok (.invokevirtual 72, 3) := dk_182 0 72 (dk_at dksX9_hears_1 15 rfl rfl)
theorem dX9_hears_42 : decode cX9_hears 42 = .ok (.ifCond .eq 141, 3) := dk_153 0 141 (dk_at dksX9_hears_1 18 rfl rfl)
theorem dX9_hears_45 : decode cX9_hears 45 = .ok (.aload_n 0, 1) := dk_42 (dk_at dksX9_hears_1 21 rfl rfl)
theorem dX9_hears_46 : decode cX9_hears 46 = .ok (.iload_n 3, 1) := dk_29 (dk_at dksX9_hears_1 22 rfl rfl)
theorem dX9_hears_47 : decode cX9_hears 47 = .ok (.iconst 3, 1) := dk_6 (dk_at dksX9_hears_1 23 rfl rfl)
theorem dX9_hears_48 : decode cX9_hears 48 = .ok (.invokevirtual 61, 3) := dk_182 0 61 (dk_at dksX9_hears_2 0 rfl rfl)
theorem dX9_hears_51 : decode cX9_hears 51 = .ok (.aload_n 0, 1) := dk_42 (dk_at dksX9_hears_2 3 rfl rfl)
theorem dX9_hears_52 : decode cX9_hears 52 = .ok (.iload_n 1, 1) := dk_27 (dk_at dksX9_hears_2 4 rfl rfl)
theorem dX9_hears_53 : decode cX9_hears 53 = .ok (.iconst 3, 1) := dk_6 (dk_at dksX9_hears_2 5 rfl rfl)
theorem dX9_hears_54 : decode cX9_hears 54 = .ok (.invokevirtual 61, 3) := dk_182 0 61 (dk_at dksX9_hears_2 6 rfl rfl)
theorem dX9_hears_57 : decode cX9_hears 57 = .ok (.if_icmp .ne 6, 3) := dk_160 0 6 (dk_at dksX9_hears_2 9 rfl rfl)
theorem dX9_hears_60 : decode cX9_hears 60 = .ok (.goto 123, 3) := dk_167 0 123 (dk_at dksX9_hears_2 12 rfl rfl)
theorem dX9_hears_63 : decode cX9_hears 63 = .ok (.aload_n 0, 1) := dk_42 (dk_at dksX9_hears_2 15 rfl rfl)
theorem dX9_hears_64 : decode cX9_hears 64 = .ok (.iload_n 3, 1) := dk_29 (dk_at dksX9_hears_2 16 rfl rfl)
theorem dX9_hears_65 : decode cX9_hears 65 = .ok (.iconst 3, 1) := dk_6 (dk_at dksX9_hears_2 17 rfl rfl)
theorem dX9_hears_66 : decode cX9_hears 66 = .ok (.invokevirtual 61, 3) := dk_182 0 61 (dk_at dksX9_hears_2 18 rfl rfl)
theorem dX9_hears_69 : decode cX9_hears 69 = .ok (.istore 4, 2) := dk_54 4 (dk_at dksX9_hears_2 21 rfl rfl)
theorem dX9_hears_71 : decode cX9_hears 71 = .ok (.aload_n 0, 1) := dk_42 (dk_at dksX9_hears_2 23 rfl rfl)
theorem dX9_hears_72 : decode cX9_hears 72 = .ok (.getfield 25, 3) := dk_180 0 25 (dk_at dksX9_hears_3 0 rfl rfl)
theorem dX9_hears_75 : decode cX9_hears 75 = .ok (.iload_n 1, 1) := dk_27 (dk_at dksX9_hears_3 3 rfl rfl)
theorem dX9_hears_76 : decode cX9_hears 76 = .ok (.iaload, 1) := dk_46 (dk_at dksX9_hears_3 4 rfl rfl)
theorem dX9_hears_77 : decode cX9_hears 77 = .ok (.ifCond .lt 56, 3) := dk_155 0 56 (dk_at dksX9_hears_3 5 rfl rfl)
theorem dX9_hears_80 : decode cX9_hears 80 = .ok (.aload_n 0, 1) := dk_42 (dk_at dksX9_hears_3 8 rfl rfl)
theorem dX9_hears_81 : decode cX9_hears 81 = .ok (.iload 4, 2) := dk_21 4 (dk_at dksX9_hears_3 9 rfl rfl)
theorem dX9_hears_83 : decode cX9_hears 83 = .ok (.iconst 1, 1) := dk_4 (dk_at dksX9_hears_3 11 rfl rfl)
theorem dX9_hears_84 : decode cX9_hears 84 = .ok (.invokevirtual 57, 3) := dk_182 0 57 (dk_at dksX9_hears_3 12 rfl rfl)
theorem dX9_hears_87 : decode cX9_hears 87 = .ok (.aload_n 0, 1) := dk_42 (dk_at dksX9_hears_3 15 rfl rfl)
theorem dX9_hears_88 : decode cX9_hears 88 = .ok (.aload_n 0, 1) := dk_42 (dk_at dksX9_hears_3 16 rfl rfl)
theorem dX9_hears_89 : decode cX9_hears 89 = .ok (.getfield 25, 3) := dk_180 0 25 (dk_at dksX9_hears_3 17 rfl rfl)
theorem dX9_hears_92 : decode cX9_hears 92 = .ok (.iload_n 1, 1) := dk_27 (dk_at dksX9_hears_3 20 rfl rfl)
theorem dX9_hears_93 : decode cX9_hears 93 = .ok (.iaload, 1) := dk_46 (dk_at dksX9_hears_3 21 rfl rfl)
theorem dX9_hears_94 : decode cX9_hears 94 = .ok (.iconst 1, 1) := dk_4 (dk_at dksX9_hears_3 22 rfl rfl)
theorem dX9_hears_95 : decode cX9_hears 95 = .ok (.invokevirtual 57, 3) := dk_182 0 57 (dk_at dksX9_hears_4 0 rfl rfl)
theorem dX9_hears_98 : decode cX9_hears 98 = .ok (.if_icmp .gt 35, 3) := dk_163 0 35 (dk_at dksX9_hears_4 3 rfl rfl)
theorem dX9_hears_101 : decode cX9_hears 101 = .ok (.aload_n 0, 1) := dk_42 (dk_at dksX9_hears_4 6 rfl rfl)
theorem dX9_hears_102 : decode cX9_hears 102 = .ok (.iload 4, 2) := dk_21 4 (dk_at dksX9_hears_4 7 rfl rfl)
theorem dX9_hears_104 : decode cX9_hears 104 = .ok (.iconst 1, 1) := dk_4 (dk_at dksX9_hears_4 9 rfl rfl)
theorem dX9_hears_105 : decode cX9_hears 105 = .ok (.invokevirtual 57, 3) := dk_182 0 57 (dk_at dksX9_hears_4 10 rfl rfl)
theorem dX9_hears_108 : decode cX9_hears 108 = .ok (.aload_n 0, 1) := dk_42 (dk_at dksX9_hears_4 13 rfl rfl)
theorem dX9_hears_109 : decode cX9_hears 109 = .ok (.aload_n 0, 1) := dk_42 (dk_at dksX9_hears_4 14 rfl rfl)
theorem dX9_hears_110 : decode cX9_hears 110 = .ok (.getfield 25, 3) := dk_180 0 25 (dk_at dksX9_hears_4 15 rfl rfl)
theorem dX9_hears_113 : decode cX9_hears 113 = .ok (.iload_n 1, 1) := dk_27 (dk_at dksX9_hears_4 18 rfl rfl)
theorem dX9_hears_114 : decode cX9_hears 114 = .ok (.iaload, 1) := dk_46 (dk_at dksX9_hears_4 19 rfl rfl)
theorem dX9_hears_115 : decode cX9_hears 115 = .ok (.iconst 1, 1) := dk_4 (dk_at dksX9_hears_4 20 rfl rfl)
theorem dX9_hears_116 : decode cX9_hears 116 = .ok (.invokevirtual 57, 3) := dk_182 0 57 (dk_at dksX9_hears_4 21 rfl rfl)
theorem dX9_hears_119 : decode cX9_hears 119 = .ok (.if_icmp .ne 18, 3) := dk_160 0 18 (dk_at dksX9_hears_5 0 rfl rfl)
theorem dX9_hears_122 : decode cX9_hears 122 = .ok (.iload 4, 2) := dk_21 4 (dk_at dksX9_hears_5 3 rfl rfl)
theorem dX9_hears_124 : decode cX9_hears 124 = .ok (.aload_n 0, 1) := dk_42 (dk_at dksX9_hears_5 5 rfl rfl)
theorem dX9_hears_125 : decode cX9_hears 125 = .ok (.getfield 25, 3) := dk_180 0 25 (dk_at dksX9_hears_5 6 rfl rfl)
theorem dX9_hears_128 : decode cX9_hears 128 = .ok (.iload_n 1, 1) := dk_27 (dk_at dksX9_hears_5 9 rfl rfl)
theorem dX9_hears_129 : decode cX9_hears 129 = .ok (.iaload, 1) := dk_46 (dk_at dksX9_hears_5 10 rfl rfl)
theorem dX9_hears_130 : decode cX9_hears 130 = .ok (.if_icmp .ge 7, 3) := dk_162 0 7 (dk_at dksX9_hears_5 11 rfl rfl)
theorem dX9_hears_133 : decode cX9_hears 133 = .ok (.iconst 1, 1) := dk_4 (dk_at dksX9_hears_5 14 rfl rfl)
theorem dX9_hears_134 : decode cX9_hears 134 = .ok (.goto 4, 3) := dk_167 0 4 (dk_at dksX9_hears_5 15 rfl rfl)
theorem dX9_hears_137 : decode cX9_hears 137 = .ok (.iconst 0, 1) := dk_3 (dk_at dksX9_hears_5 18 rfl rfl)
theorem dX9_hears_138 : decode cX9_hears 138 = .ok (.istore 5, 2) := dk_54 5 (dk_at dksX9_hears_5 19 rfl rfl)
theorem dX9_hears_140 : decode cX9_hears 140 = .ok (.aload_n 0, 1) := dk_42 (dk_at dksX9_hears_5 21 rfl rfl)
theorem dX9_hears_141 : decode cX9_hears 141 = .ok (.getfield 28, 3) := dk_180 0 28 (dk_at dksX9_hears_6 0 rfl rfl)
theorem dX9_hears_144 : decode cX9_hears 144 = .ok (.iload_n 1, 1) := dk_27 (dk_at dksX9_hears_6 3 rfl rfl)
theorem dX9_hears_145 : decode cX9_hears 145 = .ok (.iload 5, 2) := dk_21 5 (dk_at dksX9_hears_6 4 rfl rfl)
theorem dX9_hears_147 : decode cX9_hears 147 = .ok (.ifCond .eq 7, 3) := dk_153 0 7 (dk_at dksX9_hears_6 6 rfl rfl)
theorem dX9_hears_150 : decode cX9_hears 150 = .ok (.iload_n 3, 1) := dk_29 (dk_at dksX9_hears_6 9 rfl rfl)
theorem dX9_hears_151 : decode cX9_hears 151 = .ok (.goto 9, 3) := dk_167 0 9 (dk_at dksX9_hears_6 10 rfl rfl)
theorem dX9_hears_154 : decode cX9_hears 154 = .ok (.aload_n 0, 1) := dk_42 (dk_at dksX9_hears_6 13 rfl rfl)
theorem dX9_hears_155 : decode cX9_hears 155 = .ok (.getfield 28, 3) := dk_180 0 28 (dk_at dksX9_hears_6 14 rfl rfl)
theorem dX9_hears_158 : decode cX9_hears 158 = .ok (.iload_n 1, 1) := dk_27 (dk_at dksX9_hears_6 17 rfl rfl)
theorem dX9_hears_159 : decode cX9_hears 159 = .ok (.iaload, 1) := dk_46 (dk_at dksX9_hears_6 18 rfl rfl)
theorem dX9_hears_160 : decode cX9_hears 160 = .ok (.iastore, 1) := dk_79 (dk_at dksX9_hears_6 19 rfl rfl)
theorem dX9_hears_161 : decode cX9_hears 161 = .ok (.aload_n 0, 1) := dk_42 (dk_at dksX9_hears_6 20 rfl rfl)
theorem dX9_hears_162 : decode cX9_hears 162 = .ok (.getfield 25, 3) := dk_180 0 25 (dk_at dksX9_hears_6 21 rfl rfl)
theorem dX9_hears_165 : decode cX9_hears 165 = .ok (.iload_n 1, 1) := dk_27 (dk_at dksX9_hears_7 0 rfl rfl)
theorem dX9_hears_166 : decode cX9_hears 166 = .ok (.iload 5, 2) := dk_21 5 (dk_at dksX9_hears_7 1 rfl rfl)
theorem dX9_hears_168 : decode cX9_hears 168 = .ok (.ifCond .eq 8, 3) := dk_153 0 8 (dk_at dksX9_hears_7 3 rfl rfl)
theorem dX9_hears_171 : decode cX9_hears 171 = .ok (.iload 4, 2) := dk_21 4 (dk_at dksX9_hears_7 6 rfl rfl)
theorem dX9_hears_173 : decode cX9_hears 173 = .ok (.goto 9, 3) := dk_167 0 9 (dk_at dksX9_hears_7 8 rfl rfl)
theorem dX9_hears_176 : decode cX9_hears 176 = .ok (.aload_n 0, 1) := dk_42 (dk_at dksX9_hears_7 11 rfl rfl)
theorem dX9_hears_177 : decode cX9_hears 177 = .ok (.getfield 25, 3) := dk_180 0 25 (dk_at dksX9_hears_7 12 rfl rfl)
theorem dX9_hears_180 : decode cX9_hears 180 = .ok (.iload_n 1, 1) := dk_27 (dk_at dksX9_hears_7 15 rfl rfl)
theorem dX9_hears_181 : decode cX9_hears 181 = .ok (.iaload, 1) := dk_46 (dk_at dksX9_hears_7 16 rfl rfl)
theorem dX9_hears_182 : decode cX9_hears 182 = .ok (.iastore, 1) := dk_79 (dk_at dksX9_hears_7 17 rfl rfl)
theorem dX9_hears_183 : decode cX9_hears 183 = .ok (.iinc 3 1, 3) := dk_132 3 1 (dk_at dksX9_hears_7 18 rfl rfl)
theorem dX9_hears_186 : decode cX9_hears 186 = .ok (.goto (-168), 3) := dk_167 255 88 (dk_at dksX9_hears_7 21 rfl rfl)
theorem dX9_hears_189 : decode cX9_hears 189 = .ok (.aload_n 0, 1) := dk_42 (dk_at dksX9_hears_8 0 rfl rfl)
theorem dX9_hears_190 : decode cX9_hears 190 = .ok (.getfield 25, 3) := dk_180 0 25 (dk_at dksX9_hears_8 1 rfl rfl)
theorem dX9_hears_193 : decode cX9_hears 193 = .ok (.iload_n 1, 1) := dk_27 (dk_at dksX9_hears_8 4 rfl rfl)
theorem dX9_hears_194 : decode cX9_hears 194 = .ok (.iaload, 1) := dk_46 (dk_at dksX9_hears_8 5 rfl rfl)
theorem dX9_hears_195 : decode cX9_hears 195 = .ok (.ifCond .lt 49, 3) := dk_155 0 49 (dk_at dksX9_hears_8 6 rfl rfl)
theorem dX9_hears_198 : decode cX9_hears 198 = .ok (.aload_n 0, 1) := dk_42 (dk_at dksX9_hears_8 9 rfl rfl)
theorem dX9_hears_199 : decode cX9_hears 199 = .ok (.aload_n 0, 1) := dk_42 (dk_at dksX9_hears_8 10 rfl rfl)
theorem dX9_hears_200 : decode cX9_hears 200 = .ok (.getfield 25, 3) := dk_180 0 25 (dk_at dksX9_hears_8 11 rfl rfl)
theorem dX9_hears_203 : decode cX9_hears 203 = .ok (.iload_n 1, 1) := dk_27 (dk_at dksX9_hears_8 14 rfl rfl)
theorem dX9_hears_204 : decode cX9_hears 204 = .ok (.iaload, 1) := dk_46 (dk_at dksX9_hears_8 15 rfl rfl)
theorem dX9_hears_205 : decode cX9_hears 205 = .ok (.iconst 1, 1) := dk_4 (dk_at dksX9_hears_8 16 rfl rfl)
theorem dX9_hears_206 : decode cX9_hears 206 = .ok (.invokevirtual 57, 3) := dk_182 0 57 (dk_at dksX9_hears_8 17 rfl rfl)
theorem dX9_hears_209 : decode cX9_hears 209 = .ok (.aload_n 0, 1) := dk_42 (dk_at dksX9_hears_8 20 rfl rfl)
theorem dX9_hears_210 : decode cX9_hears 210 = .ok (.iload_n 1, 1) := dk_27 (dk_at dksX9_hears_8 21 rfl rfl)
theorem dX9_hears_211 : decode cX9_hears 211 = .ok (.invokevirtual 75, 3) := dk_182 0 75 (dk_at dksX9_hears_9 0 rfl rfl)
theorem dX9_hears_214 : decode cX9_hears 214 = .ok (.if_icmp .le 22, 3) := dk_164 0 22 (dk_at dksX9_hears_9 3 rfl rfl)
theorem dX9_hears_217 : decode cX9_hears 217 = .ok (.aload_n 0, 1) := dk_42 (dk_at dksX9_hears_9 6 rfl rfl)
theorem dX9_hears_218 : decode cX9_hears 218 = .ok (.aload_n 0, 1) := dk_42 (dk_at dksX9_hears_9 7 rfl rfl)
theorem dX9_hears_219 : decode cX9_hears 219 = .ok (.getfield 25, 3) := dk_180 0 25 (dk_at dksX9_hears_9 8 rfl rfl)
theorem dX9_hears_222 : decode cX9_hears 222 = .ok (.iload_n 1, 1) := dk_27 (dk_at dksX9_hears_9 11 rfl rfl)
theorem dX9_hears_223 : decode cX9_hears 223 = .ok (.iaload, 1) := dk_46 (dk_at dksX9_hears_9 12 rfl rfl)
theorem dX9_hears_224 : decode cX9_hears 224 = .ok (.invokevirtual 68, 3) := dk_182 0 68 (dk_at dksX9_hears_9 13 rfl rfl)
theorem dX9_hears_227 : decode cX9_hears 227 = .ok (.aload_n 0, 1) := dk_42 (dk_at dksX9_hears_9 16 rfl rfl)
theorem dX9_hears_228 : decode cX9_hears 228 = .ok (.iload_n 1, 1) := dk_27 (dk_at dksX9_hears_9 17 rfl rfl)
theorem dX9_hears_229 : decode cX9_hears 229 = .ok (.iconst 4, 1) := dk_7 (dk_at dksX9_hears_9 18 rfl rfl)
theorem dX9_hears_230 : decode cX9_hears 230 = .ok (.invokevirtual 61, 3) := dk_182 0 61 (dk_at dksX9_hears_9 19 rfl rfl)
theorem dX9_hears_233 : decode cX9_hears 233 = .ok (.if_icmp .gt 11, 3) := dk_163 0 11 (dk_at dksX9_hears_10 0 rfl rfl)
theorem dX9_hears_236 : decode cX9_hears 236 = .ok (.aload_n 0, 1) := dk_42 (dk_at dksX9_hears_10 3 rfl rfl)
theorem dX9_hears_237 : decode cX9_hears 237 = .ok (.getfield 25, 3) := dk_180 0 25 (dk_at dksX9_hears_10 4 rfl rfl)
theorem dX9_hears_240 : decode cX9_hears 240 = .ok (.iload_n 1, 1) := dk_27 (dk_at dksX9_hears_10 7 rfl rfl)
theorem dX9_hears_241 : decode cX9_hears 241 = .ok (.bipush (-9), 2) := dk_16 247 (dk_at dksX9_hears_10 8 rfl rfl)
theorem dX9_hears_243 : decode cX9_hears 243 = .ok (.iastore, 1) := dk_79 (dk_at dksX9_hears_10 10 rfl rfl)
theorem dX9_hears_244 : decode cX9_hears 244 = .ok (.return_, 1) := dk_177 (dk_at dksX9_hears_10 11 rfl rfl)
abbrev cX9_wanes : ByteArray := prog_28_method_20_code
def yX9_wanes : MethodName := ⟨RX9, "wanes", "(I)V"⟩
def dkwX9_wanes_3 : List UInt8 := [182, 0, 64, 177]
abbrev dktX9_wanes_3 : List UInt8 := dkwX9_wanes_3 ++ []
def dkwX9_wanes_2 : List UInt8 := [167, 0, 4, 29, 62, 29, 157, 0, 13, 42, 27, 16, 247, 182, 0, 81, 167, 0, 10, 42, 27, 7, 29]
abbrev dktX9_wanes_2 : List UInt8 := dkwX9_wanes_2 ++ dktX9_wanes_3
def dkwX9_wanes_1 : List UInt8 := [42, 27, 8, 182, 0, 61, 158, 0, 7, 4, 167, 0, 4, 3, 100, 62, 29, 16, 60, 164, 0, 8, 16, 60]
abbrev dktX9_wanes_1 : List UInt8 := dkwX9_wanes_1 ++ dktX9_wanes_2
def dkwX9_wanes_0 : List UInt8 := [42, 27, 6, 182, 0, 61, 61, 28, 156, 0, 4, 177, 42, 27, 7, 182, 0, 61, 42, 28, 182, 0, 78, 100]
abbrev dktX9_wanes_0 : List UInt8 := dkwX9_wanes_0 ++ dktX9_wanes_1
theorem dksX9_wanes_0 : cX9_wanes.data.toList.drop 0 = dktX9_wanes_0 := by decide +kernel
theorem dksX9_wanes_1 : cX9_wanes.data.toList.drop 24 = dktX9_wanes_1 := dk_seg dksX9_wanes_0 24 rfl rfl
theorem dksX9_wanes_2 : cX9_wanes.data.toList.drop 48 = dktX9_wanes_2 := dk_seg dksX9_wanes_1 24 rfl rfl
theorem dksX9_wanes_3 : cX9_wanes.data.toList.drop 71 = dktX9_wanes_3 := dk_seg dksX9_wanes_2 23 rfl rfl
theorem dX9_wanes_0 : decode cX9_wanes 0 = .ok (.aload_n 0, 1) := dk_42 (dk_at dksX9_wanes_0 0 rfl rfl)
theorem dX9_wanes_1 : decode cX9_wanes 1 = .ok (.iload_n 1, 1) := dk_27 (dk_at dksX9_wanes_0 1 rfl rfl)
theorem dX9_wanes_2 : decode cX9_wanes 2 = .ok (.iconst 3, 1) := dk_6 (dk_at dksX9_wanes_0 2 rfl rfl)
theorem dX9_wanes_3 : decode cX9_wanes 3 = .ok (.invokevirtual 61, 3) := dk_182 0 61 (dk_at dksX9_wanes_0 3 rfl rfl)
theorem dX9_wanes_6 : decode cX9_wanes 6 = .ok (.istore_n 2, 1) := dk_61 (dk_at dksX9_wanes_0 6 rfl rfl)
theorem dX9_wanes_7 : decode cX9_wanes 7 = .ok (.iload_n 2, 1) := dk_28 (dk_at dksX9_wanes_0 7 rfl rfl)
theorem dX9_wanes_8 : decode cX9_wanes 8 = .ok (.ifCond .ge 4, 3) := dk_156 0 4 (dk_at dksX9_wanes_0 8 rfl rfl)
theorem dX9_wanes_11 : decode cX9_wanes 11 = .ok (.return_, 1) := dk_177 (dk_at dksX9_wanes_0 11 rfl rfl)
theorem dX9_wanes_12 : decode cX9_wanes 12 = .ok (.aload_n 0, 1) := dk_42 (dk_at dksX9_wanes_0 12 rfl rfl)
theorem dX9_wanes_13 : decode cX9_wanes 13 = .ok (.iload_n 1, 1) := dk_27 (dk_at dksX9_wanes_0 13 rfl rfl)
theorem dX9_wanes_14 : decode cX9_wanes 14 = .ok (.iconst 4, 1) := dk_7 (dk_at dksX9_wanes_0 14 rfl rfl)
theorem dX9_wanes_15 : decode cX9_wanes 15 = .ok (.invokevirtual 61, 3) := dk_182 0 61 (dk_at dksX9_wanes_0 15 rfl rfl)
theorem dX9_wanes_18 : decode cX9_wanes 18 = .ok (.aload_n 0, 1) := dk_42 (dk_at dksX9_wanes_0 18 rfl rfl)
theorem dX9_wanes_19 : decode cX9_wanes 19 = .ok (.iload_n 2, 1) := dk_28 (dk_at dksX9_wanes_0 19 rfl rfl)
theorem dX9_wanes_20 : decode cX9_wanes 20 = .ok (.invokevirtual 78, 3) := dk_182 0 78 (dk_at dksX9_wanes_0 20 rfl rfl)
theorem dX9_wanes_23 : decode cX9_wanes 23 = .ok (.isub, 1) := dk_100 (dk_at dksX9_wanes_0 23 rfl rfl)
theorem dX9_wanes_24 : decode cX9_wanes 24 = .ok (.aload_n 0, 1) := dk_42 (dk_at dksX9_wanes_1 0 rfl rfl)
theorem dX9_wanes_25 : decode cX9_wanes 25 = .ok (.iload_n 1, 1) := dk_27 (dk_at dksX9_wanes_1 1 rfl rfl)
theorem dX9_wanes_26 : decode cX9_wanes 26 = .ok (.iconst 5, 1) := dk_8 (dk_at dksX9_wanes_1 2 rfl rfl)
theorem dX9_wanes_27 : decode cX9_wanes 27 = .ok (.invokevirtual 61, 3) := dk_182 0 61 (dk_at dksX9_wanes_1 3 rfl rfl)
theorem dX9_wanes_30 : decode cX9_wanes 30 = .ok (.ifCond .le 7, 3) := dk_158 0 7 (dk_at dksX9_wanes_1 6 rfl rfl)
theorem dX9_wanes_33 : decode cX9_wanes 33 = .ok (.iconst 1, 1) := dk_4 (dk_at dksX9_wanes_1 9 rfl rfl)
theorem dX9_wanes_34 : decode cX9_wanes 34 = .ok (.goto 4, 3) := dk_167 0 4 (dk_at dksX9_wanes_1 10 rfl rfl)
theorem dX9_wanes_37 : decode cX9_wanes 37 = .ok (.iconst 0, 1) := dk_3 (dk_at dksX9_wanes_1 13 rfl rfl)
theorem dX9_wanes_38 : decode cX9_wanes 38 = .ok (.isub, 1) := dk_100 (dk_at dksX9_wanes_1 14 rfl rfl)
theorem dX9_wanes_39 : decode cX9_wanes 39 = .ok (.istore_n 3, 1) := dk_62 (dk_at dksX9_wanes_1 15 rfl rfl)
theorem dX9_wanes_40 : decode cX9_wanes 40 = .ok (.iload_n 3, 1) := dk_29 (dk_at dksX9_wanes_1 16 rfl rfl)
theorem dX9_wanes_41 : decode cX9_wanes 41 = .ok (.bipush 60, 2) := dk_16 60 (dk_at dksX9_wanes_1 17 rfl rfl)
theorem dX9_wanes_43 : decode cX9_wanes 43 = .ok (.if_icmp .le 8, 3) := dk_164 0 8 (dk_at dksX9_wanes_1 19 rfl rfl)
theorem dX9_wanes_46 : decode cX9_wanes 46 = .ok (.bipush 60, 2) := dk_16 60 (dk_at dksX9_wanes_1 22 rfl rfl)
theorem dX9_wanes_48 : decode cX9_wanes 48 = .ok (.goto 4, 3) := dk_167 0 4 (dk_at dksX9_wanes_2 0 rfl rfl)
theorem dX9_wanes_51 : decode cX9_wanes 51 = .ok (.iload_n 3, 1) := dk_29 (dk_at dksX9_wanes_2 3 rfl rfl)
theorem dX9_wanes_52 : decode cX9_wanes 52 = .ok (.istore_n 3, 1) := dk_62 (dk_at dksX9_wanes_2 4 rfl rfl)
theorem dX9_wanes_53 : decode cX9_wanes 53 = .ok (.iload_n 3, 1) := dk_29 (dk_at dksX9_wanes_2 5 rfl rfl)
theorem dX9_wanes_54 : decode cX9_wanes 54 = .ok (.ifCond .gt 13, 3) := dk_157 0 13 (dk_at dksX9_wanes_2 6 rfl rfl)
theorem dX9_wanes_57 : decode cX9_wanes 57 = .ok (.aload_n 0, 1) := dk_42 (dk_at dksX9_wanes_2 9 rfl rfl)
theorem dX9_wanes_58 : decode cX9_wanes 58 = .ok (.iload_n 1, 1) := dk_27 (dk_at dksX9_wanes_2 10 rfl rfl)
theorem dX9_wanes_59 : decode cX9_wanes 59 = .ok (.bipush (-9), 2) := dk_16 247 (dk_at dksX9_wanes_2 11 rfl rfl)
theorem dX9_wanes_61 : decode cX9_wanes 61 = .ok (.invokevirtual 81, 3) := dk_182 0 81 (dk_at dksX9_wanes_2 13 rfl rfl)
theorem dX9_wanes_64 : decode cX9_wanes 64 = .ok (.goto 10, 3) := dk_167 0 10 (dk_at dksX9_wanes_2 16 rfl rfl)
theorem dX9_wanes_67 : decode cX9_wanes 67 = .ok (.aload_n 0, 1) := dk_42 (dk_at dksX9_wanes_2 19 rfl rfl)
theorem dX9_wanes_68 : decode cX9_wanes 68 = .ok (.iload_n 1, 1) := dk_27 (dk_at dksX9_wanes_2 20 rfl rfl)
theorem dX9_wanes_69 : decode cX9_wanes 69 = .ok (.iconst 4, 1) := dk_7 (dk_at dksX9_wanes_2 21 rfl rfl)
theorem dX9_wanes_70 : decode cX9_wanes 70 = .ok (.iload_n 3, 1) := dk_29 (dk_at dksX9_wanes_2 22 rfl rfl)
theorem dX9_wanes_71 : decode cX9_wanes 71 = .ok (.invokevirtual 64, 3) := dk_182 0 64 (dk_at dksX9_wanes_3 0 rfl rfl)
theorem dX9_wanes_74 : decode cX9_wanes 74 = .ok (.return_, 1) := dk_177 (dk_at dksX9_wanes_3 3 rfl rfl)
abbrev cX9_fades : ByteArray := prog_28_method_14_code
def yX9_fades : MethodName := ⟨RX9, "fades", "(I)I"⟩
def dkwX9_fades_3 : List UInt8 := [16, 6, 172, 42, 180, 0, 13, 7, 46, 5, 112, 4, 160, 0, 7, 3, 167, 0, 4, 4, 172, 5, 172]
abbrev dktX9_fades_3 : List UInt8 := dkwX9_fades_3 ++ []
def dkwX9_fades_2 : List UInt8 := [4, 172, 6, 172, 42, 180, 0, 13, 7, 46, 16, 6, 112, 154, 0, 8, 16, 252, 167, 0, 4, 4, 172]
abbrev dktX9_fades_2 : List UInt8 := dkwX9_fades_2 ++ dktX9_fades_3
def dkwX9_fades_1 : List UInt8 := [170, 0, 0, 0, 0, 78, 0, 0, 0, 1, 0, 0, 0, 5, 0, 0, 0, 34, 0, 0, 0, 36, 0, 0, 0, 38, 0, 0, 0, 57, 0, 0, 0, 60]
abbrev dktX9_fades_1 : List UInt8 := dkwX9_fades_1 ++ dktX9_fades_2
def dkwX9_fades_0 : List UInt8 := [42, 27, 3, 182, 0, 57]
abbrev dktX9_fades_0 : List UInt8 := dkwX9_fades_0 ++ dktX9_fades_1
theorem dksX9_fades_0 : cX9_fades.data.toList.drop 0 = dktX9_fades_0 := by decide +kernel
theorem dksX9_fades_1 : cX9_fades.data.toList.drop 6 = dktX9_fades_1 := dk_seg dksX9_fades_0 6 rfl rfl
theorem dksX9_fades_2 : cX9_fades.data.toList.drop 40 = dktX9_fades_2 := dk_seg dksX9_fades_1 34 rfl rfl
theorem dksX9_fades_3 : cX9_fades.data.toList.drop 63 = dktX9_fades_3 := dk_seg dksX9_fades_2 23 rfl rfl
theorem dX9_fades_0 : decode cX9_fades 0 = .ok (.aload_n 0, 1) := dk_42 (dk_at dksX9_fades_0 0 rfl rfl)
theorem dX9_fades_1 : decode cX9_fades 1 = .ok (.iload_n 1, 1) := dk_27 (dk_at dksX9_fades_0 1 rfl rfl)
theorem dX9_fades_2 : decode cX9_fades 2 = .ok (.iconst 0, 1) := dk_3 (dk_at dksX9_fades_0 2 rfl rfl)
theorem dX9_fades_3 : decode cX9_fades 3 = .ok (.invokevirtual 57, 3) := dk_182 0 57 (dk_at dksX9_fades_0 3 rfl rfl)
theorem dX9_fades_6 : decode cX9_fades 6 = .ok (.tableswitch 78 1 5 #[34, 36, 38, 57, 60], 34) := by decide +kernel
theorem dX9_fades_40 : decode cX9_fades 40 = .ok (.iconst 1, 1) := dk_4 (dk_at dksX9_fades_2 0 rfl rfl)
theorem dX9_fades_41 : decode cX9_fades 41 = .ok (.ireturn, 1) := dk_172 (dk_at dksX9_fades_2 1 rfl rfl)
theorem dX9_fades_42 : decode cX9_fades 42 = .ok (.iconst 3, 1) := dk_6 (dk_at dksX9_fades_2 2 rfl rfl)
theorem dX9_fades_43 : decode cX9_fades 43 = .ok (.ireturn, 1) := dk_172 (dk_at dksX9_fades_2 3 rfl rfl)
theorem dX9_fades_44 : decode cX9_fades 44 = .ok (.aload_n 0, 1) := dk_42 (dk_at dksX9_fades_2 4 rfl rfl)
theorem dX9_fades_45 : decode cX9_fades 45 = .ok (.getfield 13, 3) := dk_180 0 13 (dk_at dksX9_fades_2 5 rfl rfl)
theorem dX9_fades_48 : decode cX9_fades 48 = .ok (.iconst 4, 1) := dk_7 (dk_at dksX9_fades_2 8 rfl rfl)
theorem dX9_fades_49 : decode cX9_fades 49 = .ok (.iaload, 1) := dk_46 (dk_at dksX9_fades_2 9 rfl rfl)
theorem dX9_fades_50 : decode cX9_fades 50 = .ok (.bipush 6, 2) := dk_16 6 (dk_at dksX9_fades_2 10 rfl rfl)
theorem dX9_fades_52 : decode cX9_fades 52 = .ok (.irem, 1) := dk_112 (dk_at dksX9_fades_2 12 rfl rfl)
theorem dX9_fades_53 : decode cX9_fades 53 = .ok (.ifCond .ne 8, 3) := dk_154 0 8 (dk_at dksX9_fades_2 13 rfl rfl)
theorem dX9_fades_56 : decode cX9_fades 56 = .ok (.bipush (-4), 2) := dk_16 252 (dk_at dksX9_fades_2 16 rfl rfl)
theorem dX9_fades_58 : decode cX9_fades 58 = .ok (.goto 4, 3) := dk_167 0 4 (dk_at dksX9_fades_2 18 rfl rfl)
theorem dX9_fades_61 : decode cX9_fades 61 = .ok (.iconst 1, 1) := dk_4 (dk_at dksX9_fades_2 21 rfl rfl)
theorem dX9_fades_62 : decode cX9_fades 62 = .ok (.ireturn, 1) := dk_172 (dk_at dksX9_fades_2 22 rfl rfl)
theorem dX9_fades_63 : decode cX9_fades 63 = .ok (.bipush 6, 2) := dk_16 6 (dk_at dksX9_fades_3 0 rfl rfl)
theorem dX9_fades_65 : decode cX9_fades 65 = .ok (.ireturn, 1) := dk_172 (dk_at dksX9_fades_3 2 rfl rfl)
theorem dX9_fades_66 : decode cX9_fades 66 = .ok (.aload_n 0, 1) := dk_42 (dk_at dksX9_fades_3 3 rfl rfl)
theorem dX9_fades_67 : decode cX9_fades 67 = .ok (.getfield 13, 3) := dk_180 0 13 (dk_at dksX9_fades_3 4 rfl rfl)
theorem dX9_fades_70 : decode cX9_fades 70 = .ok (.iconst 4, 1) := dk_7 (dk_at dksX9_fades_3 7 rfl rfl)
theorem dX9_fades_71 : decode cX9_fades 71 = .ok (.iaload, 1) := dk_46 (dk_at dksX9_fades_3 8 rfl rfl)
theorem dX9_fades_72 : decode cX9_fades 72 = .ok (.iconst 2, 1) := dk_5 (dk_at dksX9_fades_3 9 rfl rfl)
theorem dX9_fades_73 : decode cX9_fades 73 = .ok (.irem, 1) := dk_112 (dk_at dksX9_fades_3 10 rfl rfl)
theorem dX9_fades_74 : decode cX9_fades 74 = .ok (.iconst 1, 1) := dk_4 (dk_at dksX9_fades_3 11 rfl rfl)
theorem dX9_fades_75 : decode cX9_fades 75 = .ok (.if_icmp .ne 7, 3) := dk_160 0 7 (dk_at dksX9_fades_3 12 rfl rfl)
theorem dX9_fades_78 : decode cX9_fades 78 = .ok (.iconst 0, 1) := dk_3 (dk_at dksX9_fades_3 15 rfl rfl)
theorem dX9_fades_79 : decode cX9_fades 79 = .ok (.goto 4, 3) := dk_167 0 4 (dk_at dksX9_fades_3 16 rfl rfl)
theorem dX9_fades_82 : decode cX9_fades 82 = .ok (.iconst 1, 1) := dk_4 (dk_at dksX9_fades_3 19 rfl rfl)
theorem dX9_fades_83 : decode cX9_fades 83 = .ok (.ireturn, 1) := dk_172 (dk_at dksX9_fades_3 20 rfl rfl)
theorem dX9_fades_84 : decode cX9_fades 84 = .ok (.iconst 2, 1) := dk_5 (dk_at dksX9_fades_3 21 rfl rfl)
theorem dX9_fades_85 : decode cX9_fades 85 = .ok (.ireturn, 1) := dk_172 (dk_at dksX9_fades_3 22 rfl rfl)
abbrev cX9_hold : ByteArray := prog_28_method_48_code
def yX9_hold : MethodName := ⟨RX9, "hold", "(III)I"⟩
def dkwX9_hold_2 : List UInt8 := [28, 182, 0, 103, 42, 27, 6, 29, 96, 182, 0, 61, 54, 5, 42, 182, 0, 109, 21, 5, 172]
abbrev dktX9_hold_2 : List UInt8 := dkwX9_hold_2 ++ []
def dkwX9_hold_1 : List UInt8 := [154, 0, 7, 16, 254, 54, 4, 21, 4, 153, 0, 10, 42, 21, 4, 182, 0, 120, 172, 42, 182, 0, 96, 42]
abbrev dktX9_hold_1 : List UInt8 := dkwX9_hold_1 ++ dktX9_hold_2
def dkwX9_hold_0 : List UInt8 := [42, 42, 27, 182, 0, 144, 28, 182, 0, 163, 54, 4, 21, 4, 154, 0, 15, 29, 5, 184, 0, 53]
abbrev dktX9_hold_0 : List UInt8 := dkwX9_hold_0 ++ dktX9_hold_1
theorem dksX9_hold_0 : cX9_hold.data.toList.drop 0 = dktX9_hold_0 := by decide +kernel
theorem dksX9_hold_1 : cX9_hold.data.toList.drop 22 = dktX9_hold_1 := dk_seg dksX9_hold_0 22 rfl rfl
theorem dksX9_hold_2 : cX9_hold.data.toList.drop 46 = dktX9_hold_2 := dk_seg dksX9_hold_1 24 rfl rfl
theorem dX9_hold_0 : decode cX9_hold 0 = .ok (.aload_n 0, 1) := dk_42 (dk_at dksX9_hold_0 0 rfl rfl)
theorem dX9_hold_1 : decode cX9_hold 1 = .ok (.aload_n 0, 1) := dk_42 (dk_at dksX9_hold_0 1 rfl rfl)
theorem dX9_hold_2 : decode cX9_hold 2 = .ok (.iload_n 1, 1) := dk_27 (dk_at dksX9_hold_0 2 rfl rfl)
theorem dX9_hold_3 : decode cX9_hold 3 = .ok (.invokevirtual 144, 3) := dk_182 0 144 (dk_at dksX9_hold_0 3 rfl rfl)
theorem dX9_hold_6 : decode cX9_hold 6 = .ok (.iload_n 2, 1) := dk_28 (dk_at dksX9_hold_0 6 rfl rfl)
theorem dX9_hold_7 : decode cX9_hold 7 = .ok (.invokevirtual 163, 3) := dk_182 0 163 (dk_at dksX9_hold_0 7 rfl rfl)
theorem dX9_hold_10 : decode cX9_hold 10 = .ok (.istore 4, 2) := dk_54 4 (dk_at dksX9_hold_0 10 rfl rfl)
theorem dX9_hold_12 : decode cX9_hold 12 = .ok (.iload 4, 2) := dk_21 4 (dk_at dksX9_hold_0 12 rfl rfl)
theorem dX9_hold_14 : decode cX9_hold 14 = .ok (.ifCond .ne 15, 3) := dk_154 0 15 (dk_at dksX9_hold_0 14 rfl rfl)
theorem dX9_hold_17 : decode cX9_hold 17 = .ok (.iload_n 3, 1) := dk_29 (dk_at dksX9_hold_0 17 rfl rfl)
theorem dX9_hold_18 : decode cX9_hold 18 = .ok (.iconst 2, 1) := dk_5 (dk_at dksX9_hold_0 18 rfl rfl)
theorem dX9_hold_19 : decode cX9_hold 19 = .ok (.invokestatic 53, 3) := dk_184 0 53 (dk_at dksX9_hold_0 19 rfl rfl)
theorem dX9_hold_22 : decode cX9_hold 22 = .ok (.ifCond .ne 7, 3) := dk_154 0 7 (dk_at dksX9_hold_1 0 rfl rfl)
theorem dX9_hold_25 : decode cX9_hold 25 = .ok (.bipush (-2), 2) := dk_16 254 (dk_at dksX9_hold_1 3 rfl rfl)
theorem dX9_hold_27 : decode cX9_hold 27 = .ok (.istore 4, 2) := dk_54 4 (dk_at dksX9_hold_1 5 rfl rfl)
theorem dX9_hold_29 : decode cX9_hold 29 = .ok (.iload 4, 2) := dk_21 4 (dk_at dksX9_hold_1 7 rfl rfl)
theorem dX9_hold_31 : decode cX9_hold 31 = .ok (.ifCond .eq 10, 3) := dk_153 0 10 (dk_at dksX9_hold_1 9 rfl rfl)
theorem dX9_hold_34 : decode cX9_hold 34 = .ok (.aload_n 0, 1) := dk_42 (dk_at dksX9_hold_1 12 rfl rfl)
theorem dX9_hold_35 : decode cX9_hold 35 = .ok (.iload 4, 2) := dk_21 4 (dk_at dksX9_hold_1 13 rfl rfl)
theorem dX9_hold_37 : decode cX9_hold 37 = .ok (.invokevirtual 120, 3) := dk_182 0 120 (dk_at dksX9_hold_1 15 rfl rfl)
theorem dX9_hold_40 : decode cX9_hold 40 = .ok (.ireturn, 1) := dk_172 (dk_at dksX9_hold_1 18 rfl rfl)
theorem dX9_hold_41 : decode cX9_hold 41 = .ok (.aload_n 0, 1) := dk_42 (dk_at dksX9_hold_1 19 rfl rfl)
theorem dX9_hold_42 : decode cX9_hold 42 = .ok (.invokevirtual 96, 3) := dk_182 0 96 (dk_at dksX9_hold_1 20 rfl rfl)
theorem dX9_hold_45 : decode cX9_hold 45 = .ok (.aload_n 0, 1) := dk_42 (dk_at dksX9_hold_1 23 rfl rfl)
theorem dX9_hold_46 : decode cX9_hold 46 = .ok (.iload_n 2, 1) := dk_28 (dk_at dksX9_hold_2 0 rfl rfl)
theorem dX9_hold_47 : decode cX9_hold 47 = .ok (.invokevirtual 103, 3) := dk_182 0 103 (dk_at dksX9_hold_2 1 rfl rfl)
theorem dX9_hold_50 : decode cX9_hold 50 = .ok (.aload_n 0, 1) := dk_42 (dk_at dksX9_hold_2 4 rfl rfl)
theorem dX9_hold_51 : decode cX9_hold 51 = .ok (.iload_n 1, 1) := dk_27 (dk_at dksX9_hold_2 5 rfl rfl)
theorem dX9_hold_52 : decode cX9_hold 52 = .ok (.iconst 3, 1) := dk_6 (dk_at dksX9_hold_2 6 rfl rfl)
theorem dX9_hold_53 : decode cX9_hold 53 = .ok (.iload_n 3, 1) := dk_29 (dk_at dksX9_hold_2 7 rfl rfl)
theorem dX9_hold_54 : decode cX9_hold 54 = .ok (.iadd, 1) := dk_96 (dk_at dksX9_hold_2 8 rfl rfl)
theorem dX9_hold_55 : decode cX9_hold 55 = .ok (.invokevirtual 61, 3) := dk_182 0 61 (dk_at dksX9_hold_2 9 rfl rfl)
theorem dX9_hold_58 : decode cX9_hold 58 = .ok (.istore 5, 2) := dk_54 5 (dk_at dksX9_hold_2 12 rfl rfl)
theorem dX9_hold_60 : decode cX9_hold 60 = .ok (.aload_n 0, 1) := dk_42 (dk_at dksX9_hold_2 14 rfl rfl)
theorem dX9_hold_61 : decode cX9_hold 61 = .ok (.invokevirtual 109, 3) := dk_182 0 109 (dk_at dksX9_hold_2 15 rfl rfl)
theorem dX9_hold_64 : decode cX9_hold 64 = .ok (.iload 5, 2) := dk_21 5 (dk_at dksX9_hold_2 18 rfl rfl)
theorem dX9_hold_66 : decode cX9_hold 66 = .ok (.ireturn, 1) := dk_172 (dk_at dksX9_hold_2 20 rfl rfl)
abbrev cX9_wrong : ByteArray := prog_28_method_47_code
def yX9_wrong : MethodName := ⟨RX9, "wrong", "(ZI)I"⟩
def dkwX9_wrong_0 : List UInt8 := [27, 153, 0, 13, 28, 3, 16, 60, 184, 0, 112, 167, 0, 4, 2, 172]
abbrev dktX9_wrong_0 : List UInt8 := dkwX9_wrong_0 ++ []
theorem dksX9_wrong_0 : cX9_wrong.data.toList.drop 0 = dktX9_wrong_0 := by decide +kernel
theorem dX9_wrong_0 : decode cX9_wrong 0 = .ok (.iload_n 1, 1) := dk_27 (dk_at dksX9_wrong_0 0 rfl rfl)
theorem dX9_wrong_1 : decode cX9_wrong 1 = .ok (.ifCond .eq 13, 3) := dk_153 0 13 (dk_at dksX9_wrong_0 1 rfl rfl)
theorem dX9_wrong_4 : decode cX9_wrong 4 = .ok (.iload_n 2, 1) := dk_28 (dk_at dksX9_wrong_0 4 rfl rfl)
theorem dX9_wrong_5 : decode cX9_wrong 5 = .ok (.iconst 0, 1) := dk_3 (dk_at dksX9_wrong_0 5 rfl rfl)
theorem dX9_wrong_6 : decode cX9_wrong 6 = .ok (.bipush 60, 2) := dk_16 60 (dk_at dksX9_wrong_0 6 rfl rfl)
theorem dX9_wrong_8 : decode cX9_wrong 8 = .ok (.invokestatic 112, 3) := dk_184 0 112 (dk_at dksX9_wrong_0 8 rfl rfl)
theorem dX9_wrong_11 : decode cX9_wrong 11 = .ok (.goto 4, 3) := dk_167 0 4 (dk_at dksX9_wrong_0 11 rfl rfl)
theorem dX9_wrong_14 : decode cX9_wrong 14 = .ok (.iconst (-1), 1) := dk_2 (dk_at dksX9_wrong_0 14 rfl rfl)
theorem dX9_wrong_15 : decode cX9_wrong 15 = .ok (.ireturn, 1) := dk_172 (dk_at dksX9_wrong_0 15 rfl rfl)
abbrev cX9_begins : ByteArray := prog_28_method_6_code
def yX9_begins : MethodName := ⟨RX9, "begins", "()V"⟩
def dkwX9_begins_0 : List UInt8 := [42, 180, 0, 13, 42, 180, 0, 22, 184, 0, 49, 177]
abbrev dktX9_begins_0 : List UInt8 := dkwX9_begins_0 ++ []
theorem dksX9_begins_0 : cX9_begins.data.toList.drop 0 = dktX9_begins_0 := by decide +kernel
theorem dX9_begins_0 : decode cX9_begins 0 = .ok (.aload_n 0, 1) := dk_42 (dk_at dksX9_begins_0 0 rfl rfl)
theorem dX9_begins_1 : decode cX9_begins 1 = .ok (.getfield 13, 3) := dk_180 0 13 (dk_at dksX9_begins_0 1 rfl rfl)
theorem dX9_begins_4 : decode cX9_begins 4 = .ok (.aload_n 0, 1) := dk_42 (dk_at dksX9_begins_0 4 rfl rfl)
theorem dX9_begins_5 : decode cX9_begins 5 = .ok (.getfield 22, 3) := dk_180 0 22 (dk_at dksX9_begins_0 5 rfl rfl)
theorem dX9_begins_8 : decode cX9_begins 8 = .ok (.invokestatic 49, 3) := dk_184 0 49 (dk_at dksX9_begins_0 8 rfl rfl)
theorem dX9_begins_11 : decode cX9_begins 11 = .ok (.return_, 1) := dk_177 (dk_at dksX9_begins_0 11 rfl rfl)
abbrev cX9_goesFor : ByteArray := prog_28_method_23_code
def yX9_goesFor : MethodName := ⟨RX9, "goesFor", "(I)V"⟩
def dkwX9_goesFor_0 : List UInt8 := [3, 61, 28, 27, 162, 0, 14, 42, 182, 0, 99, 87, 132, 2, 1, 167, 255, 243, 177]
abbrev dktX9_goesFor_0 : List UInt8 := dkwX9_goesFor_0 ++ []
theorem dksX9_goesFor_0 : cX9_goesFor.data.toList.drop 0 = dktX9_goesFor_0 := by decide +kernel
theorem dX9_goesFor_0 : decode cX9_goesFor 0 = .ok (.iconst 0, 1) := dk_3 (dk_at dksX9_goesFor_0 0 rfl rfl)
theorem dX9_goesFor_1 : decode cX9_goesFor 1 = .ok (.istore_n 2, 1) := dk_61 (dk_at dksX9_goesFor_0 1 rfl rfl)
theorem dX9_goesFor_2 : decode cX9_goesFor 2 = .ok (.iload_n 2, 1) := dk_28 (dk_at dksX9_goesFor_0 2 rfl rfl)
theorem dX9_goesFor_3 : decode cX9_goesFor 3 = .ok (.iload_n 1, 1) := dk_27 (dk_at dksX9_goesFor_0 3 rfl rfl)
theorem dX9_goesFor_4 : decode cX9_goesFor 4 = .ok (.if_icmp .ge 14, 3) := dk_162 0 14 (dk_at dksX9_goesFor_0 4 rfl rfl)
theorem dX9_goesFor_7 : decode cX9_goesFor 7 = .ok (.aload_n 0, 1) := dk_42 (dk_at dksX9_goesFor_0 7 rfl rfl)
theorem dX9_goesFor_8 : decode cX9_goesFor 8 = .ok (.invokevirtual 99, 3) := dk_182 0 99 (dk_at dksX9_goesFor_0 8 rfl rfl)
theorem dX9_goesFor_11 : decode cX9_goesFor 11 = .ok (.pop, 1) := dk_87 (dk_at dksX9_goesFor_0 11 rfl rfl)
theorem dX9_goesFor_12 : decode cX9_goesFor 12 = .ok (.iinc 2 1, 3) := dk_132 2 1 (dk_at dksX9_goesFor_0 12 rfl rfl)
theorem dX9_goesFor_15 : decode cX9_goesFor 15 = .ok (.goto (-13), 3) := dk_167 255 243 (dk_at dksX9_goesFor_0 15 rfl rfl)
theorem dX9_goesFor_18 : decode cX9_goesFor 18 = .ok (.return_, 1) := dk_177 (dk_at dksX9_goesFor_0 18 rfl rfl)
abbrev cX9_ends : ByteArray := prog_28_method_7_code
def yX9_ends : MethodName := ⟨RX9, "ends", "()V"⟩
def dkwX9_ends_0 : List UInt8 := [42, 180, 0, 22, 42, 180, 0, 13, 184, 0, 49, 177]
abbrev dktX9_ends_0 : List UInt8 := dkwX9_ends_0 ++ []
theorem dksX9_ends_0 : cX9_ends.data.toList.drop 0 = dktX9_ends_0 := by decide +kernel
theorem dX9_ends_0 : decode cX9_ends 0 = .ok (.aload_n 0, 1) := dk_42 (dk_at dksX9_ends_0 0 rfl rfl)
theorem dX9_ends_1 : decode cX9_ends 1 = .ok (.getfield 22, 3) := dk_180 0 22 (dk_at dksX9_ends_0 1 rfl rfl)
theorem dX9_ends_4 : decode cX9_ends 4 = .ok (.aload_n 0, 1) := dk_42 (dk_at dksX9_ends_0 4 rfl rfl)
theorem dX9_ends_5 : decode cX9_ends 5 = .ok (.getfield 13, 3) := dk_180 0 13 (dk_at dksX9_ends_0 5 rfl rfl)
theorem dX9_ends_8 : decode cX9_ends 8 = .ok (.invokestatic 49, 3) := dk_184 0 49 (dk_at dksX9_ends_0 8 rfl rfl)
theorem dX9_ends_11 : decode cX9_ends 11 = .ok (.return_, 1) := dk_177 (dk_at dksX9_ends_0 11 rfl rfl)
abbrev cX9_have : ByteArray := prog_28_method_49_code
def yX9_have : MethodName := ⟨RX9, "have", "(II)I"⟩
def dkwX9_have_1 : List UInt8 := [29, 153, 0, 9, 42, 29, 182, 0, 120, 172, 42, 182, 0, 96, 42, 27, 28, 182, 0, 167, 172]
abbrev dktX9_have_1 : List UInt8 := dkwX9_have_1 ++ []
def dkwX9_have_0 : List UInt8 := [42, 27, 2, 159, 0, 11, 42, 27, 182, 0, 147, 153, 0, 7, 4, 167, 0, 4, 3, 28, 182, 0, 163, 62]
abbrev dktX9_have_0 : List UInt8 := dkwX9_have_0 ++ dktX9_have_1
theorem dksX9_have_0 : cX9_have.data.toList.drop 0 = dktX9_have_0 := by decide +kernel
theorem dksX9_have_1 : cX9_have.data.toList.drop 24 = dktX9_have_1 := dk_seg dksX9_have_0 24 rfl rfl
theorem dX9_have_0 : decode cX9_have 0 = .ok (.aload_n 0, 1) := dk_42 (dk_at dksX9_have_0 0 rfl rfl)
theorem dX9_have_1 : decode cX9_have 1 = .ok (.iload_n 1, 1) := dk_27 (dk_at dksX9_have_0 1 rfl rfl)
theorem dX9_have_2 : decode cX9_have 2 = .ok (.iconst (-1), 1) := dk_2 (dk_at dksX9_have_0 2 rfl rfl)
theorem dX9_have_3 : decode cX9_have 3 = .ok (.if_icmp .eq 11, 3) := dk_159 0 11 (dk_at dksX9_have_0 3 rfl rfl)
theorem dX9_have_6 : decode cX9_have 6 = .ok (.aload_n 0, 1) := dk_42 (dk_at dksX9_have_0 6 rfl rfl)
theorem dX9_have_7 : decode cX9_have 7 = .ok (.iload_n 1, 1) := dk_27 (dk_at dksX9_have_0 7 rfl rfl)
theorem dX9_have_8 : decode cX9_have 8 = .ok (.invokevirtual 147, 3) := dk_182 0 147 (dk_at dksX9_have_0 8 rfl rfl)
theorem dX9_have_11 : decode cX9_have 11 = .ok (.ifCond .eq 7, 3) := dk_153 0 7 (dk_at dksX9_have_0 11 rfl rfl)
theorem dX9_have_14 : decode cX9_have 14 = .ok (.iconst 1, 1) := dk_4 (dk_at dksX9_have_0 14 rfl rfl)
theorem dX9_have_15 : decode cX9_have 15 = .ok (.goto 4, 3) := dk_167 0 4 (dk_at dksX9_have_0 15 rfl rfl)
theorem dX9_have_18 : decode cX9_have 18 = .ok (.iconst 0, 1) := dk_3 (dk_at dksX9_have_0 18 rfl rfl)
theorem dX9_have_19 : decode cX9_have 19 = .ok (.iload_n 2, 1) := dk_28 (dk_at dksX9_have_0 19 rfl rfl)
theorem dX9_have_20 : decode cX9_have 20 = .ok (.invokevirtual 163, 3) := dk_182 0 163 (dk_at dksX9_have_0 20 rfl rfl)
theorem dX9_have_23 : decode cX9_have 23 = .ok (.istore_n 3, 1) := dk_62 (dk_at dksX9_have_0 23 rfl rfl)
theorem dX9_have_24 : decode cX9_have 24 = .ok (.iload_n 3, 1) := dk_29 (dk_at dksX9_have_1 0 rfl rfl)
theorem dX9_have_25 : decode cX9_have 25 = .ok (.ifCond .eq 9, 3) := dk_153 0 9 (dk_at dksX9_have_1 1 rfl rfl)
theorem dX9_have_28 : decode cX9_have 28 = .ok (.aload_n 0, 1) := dk_42 (dk_at dksX9_have_1 4 rfl rfl)
theorem dX9_have_29 : decode cX9_have 29 = .ok (.iload_n 3, 1) := dk_29 (dk_at dksX9_have_1 5 rfl rfl)
theorem dX9_have_30 : decode cX9_have 30 = .ok (.invokevirtual 120, 3) := dk_182 0 120 (dk_at dksX9_have_1 6 rfl rfl)
theorem dX9_have_33 : decode cX9_have 33 = .ok (.ireturn, 1) := dk_172 (dk_at dksX9_have_1 9 rfl rfl)
theorem dX9_have_34 : decode cX9_have 34 = .ok (.aload_n 0, 1) := dk_42 (dk_at dksX9_have_1 10 rfl rfl)
theorem dX9_have_35 : decode cX9_have 35 = .ok (.invokevirtual 96, 3) := dk_182 0 96 (dk_at dksX9_have_1 11 rfl rfl)
theorem dX9_have_38 : decode cX9_have 38 = .ok (.aload_n 0, 1) := dk_42 (dk_at dksX9_have_1 14 rfl rfl)
theorem dX9_have_39 : decode cX9_have 39 = .ok (.iload_n 1, 1) := dk_27 (dk_at dksX9_have_1 15 rfl rfl)
theorem dX9_have_40 : decode cX9_have 40 = .ok (.iload_n 2, 1) := dk_28 (dk_at dksX9_have_1 16 rfl rfl)
theorem dX9_have_41 : decode cX9_have 41 = .ok (.invokevirtual 167, 3) := dk_182 0 167 (dk_at dksX9_have_1 17 rfl rfl)
theorem dX9_have_44 : decode cX9_have 44 = .ok (.ireturn, 1) := dk_172 (dk_at dksX9_have_1 20 rfl rfl)
abbrev cX9_haveBehind : ByteArray := prog_28_method_25_code
def yX9_haveBehind : MethodName := ⟨RX9, "haveBehind", "(II)I"⟩
def dkwX9_haveBehind_0 : List UInt8 := [42, 28, 182, 0, 103, 42, 27, 182, 0, 106, 62, 42, 182, 0, 109, 29, 172]
abbrev dktX9_haveBehind_0 : List UInt8 := dkwX9_haveBehind_0 ++ []
theorem dksX9_haveBehind_0 : cX9_haveBehind.data.toList.drop 0 = dktX9_haveBehind_0 := by decide +kernel
theorem dX9_haveBehind_0 : decode cX9_haveBehind 0 = .ok (.aload_n 0, 1) := dk_42 (dk_at dksX9_haveBehind_0 0 rfl rfl)
theorem dX9_haveBehind_1 : decode cX9_haveBehind 1 = .ok (.iload_n 2, 1) := dk_28 (dk_at dksX9_haveBehind_0 1 rfl rfl)
theorem dX9_haveBehind_2 : decode cX9_haveBehind 2 = .ok (.invokevirtual 103, 3) := dk_182 0 103 (dk_at dksX9_haveBehind_0 2 rfl rfl)
theorem dX9_haveBehind_5 : decode cX9_haveBehind 5 = .ok (.aload_n 0, 1) := dk_42 (dk_at dksX9_haveBehind_0 5 rfl rfl)
theorem dX9_haveBehind_6 : decode cX9_haveBehind 6 = .ok (.iload_n 1, 1) := dk_27 (dk_at dksX9_haveBehind_0 6 rfl rfl)
theorem dX9_haveBehind_7 : decode cX9_haveBehind 7 = .ok (.invokevirtual 106, 3) := dk_182 0 106 (dk_at dksX9_haveBehind_0 7 rfl rfl)
theorem dX9_haveBehind_10 : decode cX9_haveBehind 10 = .ok (.istore_n 3, 1) := dk_62 (dk_at dksX9_haveBehind_0 10 rfl rfl)
theorem dX9_haveBehind_11 : decode cX9_haveBehind 11 = .ok (.aload_n 0, 1) := dk_42 (dk_at dksX9_haveBehind_0 11 rfl rfl)
theorem dX9_haveBehind_12 : decode cX9_haveBehind 12 = .ok (.invokevirtual 109, 3) := dk_182 0 109 (dk_at dksX9_haveBehind_0 12 rfl rfl)
theorem dX9_haveBehind_15 : decode cX9_haveBehind 15 = .ok (.iload_n 3, 1) := dk_29 (dk_at dksX9_haveBehind_0 15 rfl rfl)
theorem dX9_haveBehind_16 : decode cX9_haveBehind 16 = .ok (.ireturn, 1) := dk_172 (dk_at dksX9_haveBehind_0 16 rfl rfl)
abbrev cX9_takes_2 : ByteArray := prog_28_method_50_code
def yX9_takes_2 : MethodName := ⟨RX9, "takes", "(II)I"⟩
def dkwX9_takes_2_3 : List UInt8 := [167, 255, 219, 42, 182, 0, 109, 29, 172]
abbrev dktX9_takes_2_3 : List UInt8 := dkwX9_takes_2_3 ++ []
def dkwX9_takes_2_2 : List UInt8 := [182, 0, 61, 28, 160, 0, 8, 21, 4, 167, 0, 5, 16, 247, 62, 42, 182, 0, 99, 87, 132, 4, 1]
abbrev dktX9_takes_2_2 : List UInt8 := dkwX9_takes_2_2 ++ dktX9_takes_2_3
def dkwX9_takes_2_1 : List UInt8 := [182, 0, 96, 16, 247, 62, 3, 54, 4, 21, 4, 16, 60, 163, 0, 36, 29, 156, 0, 32, 42, 27, 6]
abbrev dktX9_takes_2_1 : List UInt8 := dkwX9_takes_2_1 ++ dktX9_takes_2_2
def dkwX9_takes_2_0 : List UInt8 := [42, 27, 182, 0, 144, 153, 0, 11, 42, 28, 182, 0, 147, 154, 0, 9, 42, 2, 182, 0, 120, 172, 42]
abbrev dktX9_takes_2_0 : List UInt8 := dkwX9_takes_2_0 ++ dktX9_takes_2_1
theorem dksX9_takes_2_0 : cX9_takes_2.data.toList.drop 0 = dktX9_takes_2_0 := by decide +kernel
theorem dksX9_takes_2_1 : cX9_takes_2.data.toList.drop 23 = dktX9_takes_2_1 := dk_seg dksX9_takes_2_0 23 rfl rfl
theorem dksX9_takes_2_2 : cX9_takes_2.data.toList.drop 46 = dktX9_takes_2_2 := dk_seg dksX9_takes_2_1 23 rfl rfl
theorem dksX9_takes_2_3 : cX9_takes_2.data.toList.drop 69 = dktX9_takes_2_3 := dk_seg dksX9_takes_2_2 23 rfl rfl
theorem dX9_takes_2_0 : decode cX9_takes_2 0 = .ok (.aload_n 0, 1) := dk_42 (dk_at dksX9_takes_2_0 0 rfl rfl)
theorem dX9_takes_2_1 : decode cX9_takes_2 1 = .ok (.iload_n 1, 1) := dk_27 (dk_at dksX9_takes_2_0 1 rfl rfl)
theorem dX9_takes_2_2 : decode cX9_takes_2 2 = .ok (.invokevirtual 144, 3) := dk_182 0 144 (dk_at dksX9_takes_2_0 2 rfl rfl)
theorem dX9_takes_2_5 : decode cX9_takes_2 5 = .ok (.ifCond .eq 11, 3) := dk_153 0 11 (dk_at dksX9_takes_2_0 5 rfl rfl)
theorem dX9_takes_2_8 : decode cX9_takes_2 8 = .ok (.aload_n 0, 1) := dk_42 (dk_at dksX9_takes_2_0 8 rfl rfl)
theorem dX9_takes_2_9 : decode cX9_takes_2 9 = .ok (.iload_n 2, 1) := dk_28 (dk_at dksX9_takes_2_0 9 rfl rfl)
theorem dX9_takes_2_10 : decode cX9_takes_2 10 = .ok (.invokevirtual 147, 3) := dk_182 0 147 (dk_at dksX9_takes_2_0 10 rfl rfl)
theorem dX9_takes_2_13 : decode cX9_takes_2 13 = .ok (.ifCond .ne 9, 3) := dk_154 0 9 (dk_at dksX9_takes_2_0 13 rfl rfl)
theorem dX9_takes_2_16 : decode cX9_takes_2 16 = .ok (.aload_n 0, 1) := dk_42 (dk_at dksX9_takes_2_0 16 rfl rfl)
theorem dX9_takes_2_17 : decode cX9_takes_2 17 = .ok (.iconst (-1), 1) := dk_2 (dk_at dksX9_takes_2_0 17 rfl rfl)
theorem dX9_takes_2_18 : decode cX9_takes_2 18 = .ok (.invokevirtual 120, 3) := dk_182 0 120 (dk_at dksX9_takes_2_0 18 rfl rfl)
theorem dX9_takes_2_21 : decode cX9_takes_2 21 = .ok (.ireturn, 1) := dk_172 (dk_at dksX9_takes_2_0 21 rfl rfl)
theorem dX9_takes_2_22 : decode cX9_takes_2 22 = .ok (.aload_n 0, 1) := dk_42 (dk_at dksX9_takes_2_0 22 rfl rfl)
theorem dX9_takes_2_23 : decode cX9_takes_2 23 = .ok (.invokevirtual 96, 3) := dk_182 0 96 (dk_at dksX9_takes_2_1 0 rfl rfl)
theorem dX9_takes_2_26 : decode cX9_takes_2 26 = .ok (.bipush (-9), 2) := dk_16 247 (dk_at dksX9_takes_2_1 3 rfl rfl)
theorem dX9_takes_2_28 : decode cX9_takes_2 28 = .ok (.istore_n 3, 1) := dk_62 (dk_at dksX9_takes_2_1 5 rfl rfl)
theorem dX9_takes_2_29 : decode cX9_takes_2 29 = .ok (.iconst 0, 1) := dk_3 (dk_at dksX9_takes_2_1 6 rfl rfl)
theorem dX9_takes_2_30 : decode cX9_takes_2 30 = .ok (.istore 4, 2) := dk_54 4 (dk_at dksX9_takes_2_1 7 rfl rfl)
theorem dX9_takes_2_32 : decode cX9_takes_2 32 = .ok (.iload 4, 2) := dk_21 4 (dk_at dksX9_takes_2_1 9 rfl rfl)
theorem dX9_takes_2_34 : decode cX9_takes_2 34 = .ok (.bipush 60, 2) := dk_16 60 (dk_at dksX9_takes_2_1 11 rfl rfl)
theorem dX9_takes_2_36 : decode cX9_takes_2 36 = .ok (.if_icmp .gt 36, 3) := dk_163 0 36 (dk_at dksX9_takes_2_1 13 rfl rfl)
theorem dX9_takes_2_39 : decode cX9_takes_2 39 = .ok (.iload_n 3, 1) := dk_29 (dk_at dksX9_takes_2_1 16 rfl rfl)
theorem dX9_takes_2_40 : decode cX9_takes_2 40 = .ok (.ifCond .ge 32, 3) := dk_156 0 32 (dk_at dksX9_takes_2_1 17 rfl rfl)
theorem dX9_takes_2_43 : decode cX9_takes_2 43 = .ok (.aload_n 0, 1) := dk_42 (dk_at dksX9_takes_2_1 20 rfl rfl)
theorem dX9_takes_2_44 : decode cX9_takes_2 44 = .ok (.iload_n 1, 1) := dk_27 (dk_at dksX9_takes_2_1 21 rfl rfl)
theorem dX9_takes_2_45 : decode cX9_takes_2 45 = .ok (.iconst 3, 1) := dk_6 (dk_at dksX9_takes_2_1 22 rfl rfl)
theorem dX9_takes_2_46 : decode cX9_takes_2 46 = .ok (.invokevirtual 61, 3) := dk_182 0 61 (dk_at dksX9_takes_2_2 0 rfl rfl)
theorem dX9_takes_2_49 : decode cX9_takes_2 49 = .ok (.iload_n 2, 1) := dk_28 (dk_at dksX9_takes_2_2 3 rfl rfl)
theorem dX9_takes_2_50 : decode cX9_takes_2 50 = .ok (.if_icmp .ne 8, 3) := dk_160 0 8 (dk_at dksX9_takes_2_2 4 rfl rfl)
theorem dX9_takes_2_53 : decode cX9_takes_2 53 = .ok (.iload 4, 2) := dk_21 4 (dk_at dksX9_takes_2_2 7 rfl rfl)
theorem dX9_takes_2_55 : decode cX9_takes_2 55 = .ok (.goto 5, 3) := dk_167 0 5 (dk_at dksX9_takes_2_2 9 rfl rfl)
theorem dX9_takes_2_58 : decode cX9_takes_2 58 = .ok (.bipush (-9), 2) := dk_16 247 (dk_at dksX9_takes_2_2 12 rfl rfl)
theorem dX9_takes_2_60 : decode cX9_takes_2 60 = .ok (.istore_n 3, 1) := dk_62 (dk_at dksX9_takes_2_2 14 rfl rfl)
theorem dX9_takes_2_61 : decode cX9_takes_2 61 = .ok (.aload_n 0, 1) := dk_42 (dk_at dksX9_takes_2_2 15 rfl rfl)
theorem dX9_takes_2_62 : decode cX9_takes_2 62 = .ok (.invokevirtual 99, 3) := dk_182 0 99 (dk_at dksX9_takes_2_2 16 rfl rfl)
theorem dX9_takes_2_65 : decode cX9_takes_2 65 = .ok (.pop, 1) := dk_87 (dk_at dksX9_takes_2_2 19 rfl rfl)
theorem dX9_takes_2_66 : decode cX9_takes_2 66 = .ok (.iinc 4 1, 3) := dk_132 4 1 (dk_at dksX9_takes_2_2 20 rfl rfl)
theorem dX9_takes_2_69 : decode cX9_takes_2 69 = .ok (.goto (-37), 3) := dk_167 255 219 (dk_at dksX9_takes_2_3 0 rfl rfl)
theorem dX9_takes_2_72 : decode cX9_takes_2 72 = .ok (.aload_n 0, 1) := dk_42 (dk_at dksX9_takes_2_3 3 rfl rfl)
theorem dX9_takes_2_73 : decode cX9_takes_2 73 = .ok (.invokevirtual 109, 3) := dk_182 0 109 (dk_at dksX9_takes_2_3 4 rfl rfl)
theorem dX9_takes_2_76 : decode cX9_takes_2 76 = .ok (.iload_n 3, 1) := dk_29 (dk_at dksX9_takes_2_3 7 rfl rfl)
theorem dX9_takes_2_77 : decode cX9_takes_2 77 = .ok (.ireturn, 1) := dk_172 (dk_at dksX9_takes_2_3 8 rfl rfl)
abbrev cX9_still : ByteArray := prog_28_method_51_code
def yX9_still : MethodName := ⟨RX9, "still", "()I"⟩
def dkwX9_still_2 : List UInt8 := [182, 0, 109, 27, 172]
abbrev dktX9_still_2 : List UInt8 := dkwX9_still_2 ++ []
def dkwX9_still_1 : List UInt8 := [154, 0, 7, 28, 167, 0, 5, 16, 247, 60, 42, 182, 0, 99, 87, 132, 2, 1, 167, 255, 223, 42]
abbrev dktX9_still_1 : List UInt8 := dkwX9_still_1 ++ dktX9_still_2
def dkwX9_still_0 : List UInt8 := [42, 182, 0, 96, 16, 247, 60, 3, 61, 28, 16, 60, 163, 0, 33, 27, 156, 0, 29, 42, 2, 182, 0, 106]
abbrev dktX9_still_0 : List UInt8 := dkwX9_still_0 ++ dktX9_still_1
theorem dksX9_still_0 : cX9_still.data.toList.drop 0 = dktX9_still_0 := by decide +kernel
theorem dksX9_still_1 : cX9_still.data.toList.drop 24 = dktX9_still_1 := dk_seg dksX9_still_0 24 rfl rfl
theorem dksX9_still_2 : cX9_still.data.toList.drop 46 = dktX9_still_2 := dk_seg dksX9_still_1 22 rfl rfl
theorem dX9_still_0 : decode cX9_still 0 = .ok (.aload_n 0, 1) := dk_42 (dk_at dksX9_still_0 0 rfl rfl)
theorem dX9_still_1 : decode cX9_still 1 = .ok (.invokevirtual 96, 3) := dk_182 0 96 (dk_at dksX9_still_0 1 rfl rfl)
theorem dX9_still_4 : decode cX9_still 4 = .ok (.bipush (-9), 2) := dk_16 247 (dk_at dksX9_still_0 4 rfl rfl)
theorem dX9_still_6 : decode cX9_still 6 = .ok (.istore_n 1, 1) := dk_60 (dk_at dksX9_still_0 6 rfl rfl)
theorem dX9_still_7 : decode cX9_still 7 = .ok (.iconst 0, 1) := dk_3 (dk_at dksX9_still_0 7 rfl rfl)
theorem dX9_still_8 : decode cX9_still 8 = .ok (.istore_n 2, 1) := dk_61 (dk_at dksX9_still_0 8 rfl rfl)
theorem dX9_still_9 : decode cX9_still 9 = .ok (.iload_n 2, 1) := dk_28 (dk_at dksX9_still_0 9 rfl rfl)
theorem dX9_still_10 : decode cX9_still 10 = .ok (.bipush 60, 2) := dk_16 60 (dk_at dksX9_still_0 10 rfl rfl)
theorem dX9_still_12 : decode cX9_still 12 = .ok (.if_icmp .gt 33, 3) := dk_163 0 33 (dk_at dksX9_still_0 12 rfl rfl)
theorem dX9_still_15 : decode cX9_still 15 = .ok (.iload_n 1, 1) := dk_27 (dk_at dksX9_still_0 15 rfl rfl)
theorem dX9_still_16 : decode cX9_still 16 = .ok (.ifCond .ge 29, 3) := dk_156 0 29 (dk_at dksX9_still_0 16 rfl rfl)
theorem dX9_still_19 : decode cX9_still 19 = .ok (.aload_n 0, 1) := dk_42 (dk_at dksX9_still_0 19 rfl rfl)
theorem dX9_still_20 : decode cX9_still 20 = .ok (.iconst (-1), 1) := dk_2 (dk_at dksX9_still_0 20 rfl rfl)
theorem dX9_still_21 : decode cX9_still 21 = .ok (.invokevirtual 106, 3) := dk_182 0 106 (dk_at dksX9_still_0 21 rfl rfl)
theorem dX9_still_24 : decode cX9_still 24 = .ok (.ifCond .ne 7, 3) := dk_154 0 7 (dk_at dksX9_still_1 0 rfl rfl)
theorem dX9_still_27 : decode cX9_still 27 = .ok (.iload_n 2, 1) := dk_28 (dk_at dksX9_still_1 3 rfl rfl)
theorem dX9_still_28 : decode cX9_still 28 = .ok (.goto 5, 3) := dk_167 0 5 (dk_at dksX9_still_1 4 rfl rfl)
theorem dX9_still_31 : decode cX9_still 31 = .ok (.bipush (-9), 2) := dk_16 247 (dk_at dksX9_still_1 7 rfl rfl)
theorem dX9_still_33 : decode cX9_still 33 = .ok (.istore_n 1, 1) := dk_60 (dk_at dksX9_still_1 9 rfl rfl)
theorem dX9_still_34 : decode cX9_still 34 = .ok (.aload_n 0, 1) := dk_42 (dk_at dksX9_still_1 10 rfl rfl)
theorem dX9_still_35 : decode cX9_still 35 = .ok (.invokevirtual 99, 3) := dk_182 0 99 (dk_at dksX9_still_1 11 rfl rfl)
theorem dX9_still_38 : decode cX9_still 38 = .ok (.pop, 1) := dk_87 (dk_at dksX9_still_1 14 rfl rfl)
theorem dX9_still_39 : decode cX9_still 39 = .ok (.iinc 2 1, 3) := dk_132 2 1 (dk_at dksX9_still_1 15 rfl rfl)
theorem dX9_still_42 : decode cX9_still 42 = .ok (.goto (-33), 3) := dk_167 255 223 (dk_at dksX9_still_1 18 rfl rfl)
theorem dX9_still_45 : decode cX9_still 45 = .ok (.aload_n 0, 1) := dk_42 (dk_at dksX9_still_1 21 rfl rfl)
theorem dX9_still_46 : decode cX9_still 46 = .ok (.invokevirtual 109, 3) := dk_182 0 109 (dk_at dksX9_still_2 0 rfl rfl)
theorem dX9_still_49 : decode cX9_still 49 = .ok (.iload_n 1, 1) := dk_27 (dk_at dksX9_still_2 3 rfl rfl)
theorem dX9_still_50 : decode cX9_still 50 = .ok (.ireturn, 1) := dk_172 (dk_at dksX9_still_2 4 rfl rfl)
abbrev cX9_most : ByteArray := prog_28_method_52_code
def yX9_most : MethodName := ⟨RX9, "most", "(III)I"⟩
def dkwX9_most_5 : List UInt8 := [87, 132, 7, 1, 167, 255, 203, 42, 182, 0, 109, 29, 154, 0, 8, 21, 5, 167, 0, 5, 21, 6, 172]
abbrev dktX9_most_5 : List UInt8 := dkwX9_most_5 ++ []
def dkwX9_most_4 : List UInt8 := [21, 5, 54, 5, 21, 8, 21, 6, 164, 0, 8, 21, 8, 167, 0, 5, 21, 6, 54, 6, 42, 182, 0, 99]
abbrev dktX9_most_4 : List UInt8 := dkwX9_most_4 ++ dktX9_most_5
def dkwX9_most_3 : List UInt8 := [28, 163, 0, 53, 42, 27, 182, 0, 106, 54, 8, 21, 8, 21, 6, 164, 0, 8, 21, 7, 167, 0, 5]
abbrev dktX9_most_3 : List UInt8 := dkwX9_most_3 ++ dktX9_most_4
def dkwX9_most_2 : List UInt8 := [42, 21, 4, 182, 0, 120, 172, 42, 182, 0, 96, 16, 247, 54, 5, 16, 247, 54, 6, 3, 54, 7, 21, 7]
abbrev dktX9_most_2 : List UInt8 := dkwX9_most_2 ++ dktX9_most_3
def dkwX9_most_1 : List UInt8 := [54, 4, 21, 4, 154, 0, 15, 29, 5, 184, 0, 53, 154, 0, 7, 16, 254, 54, 4, 21, 4, 153, 0, 10]
abbrev dktX9_most_1 : List UInt8 := dkwX9_most_1 ++ dktX9_most_2
def dkwX9_most_0 : List UInt8 := [42, 27, 2, 159, 0, 11, 42, 27, 182, 0, 147, 153, 0, 7, 4, 167, 0, 4, 3, 28, 182, 0, 163]
abbrev dktX9_most_0 : List UInt8 := dkwX9_most_0 ++ dktX9_most_1
theorem dksX9_most_0 : cX9_most.data.toList.drop 0 = dktX9_most_0 := by decide +kernel
theorem dksX9_most_1 : cX9_most.data.toList.drop 23 = dktX9_most_1 := dk_seg dksX9_most_0 23 rfl rfl
theorem dksX9_most_2 : cX9_most.data.toList.drop 47 = dktX9_most_2 := dk_seg dksX9_most_1 24 rfl rfl
theorem dksX9_most_3 : cX9_most.data.toList.drop 71 = dktX9_most_3 := dk_seg dksX9_most_2 24 rfl rfl
theorem dksX9_most_4 : cX9_most.data.toList.drop 94 = dktX9_most_4 := dk_seg dksX9_most_3 23 rfl rfl
theorem dksX9_most_5 : cX9_most.data.toList.drop 118 = dktX9_most_5 := dk_seg dksX9_most_4 24 rfl rfl
theorem dX9_most_0 : decode cX9_most 0 = .ok (.aload_n 0, 1) := dk_42 (dk_at dksX9_most_0 0 rfl rfl)
theorem dX9_most_1 : decode cX9_most 1 = .ok (.iload_n 1, 1) := dk_27 (dk_at dksX9_most_0 1 rfl rfl)
theorem dX9_most_2 : decode cX9_most 2 = .ok (.iconst (-1), 1) := dk_2 (dk_at dksX9_most_0 2 rfl rfl)
theorem dX9_most_3 : decode cX9_most 3 = .ok (.if_icmp .eq 11, 3) := dk_159 0 11 (dk_at dksX9_most_0 3 rfl rfl)
theorem dX9_most_6 : decode cX9_most 6 = .ok (.aload_n 0, 1) := dk_42 (dk_at dksX9_most_0 6 rfl rfl)
theorem dX9_most_7 : decode cX9_most 7 = .ok (.iload_n 1, 1) := dk_27 (dk_at dksX9_most_0 7 rfl rfl)
theorem dX9_most_8 : decode cX9_most 8 = .ok (.invokevirtual 147, 3) := dk_182 0 147 (dk_at dksX9_most_0 8 rfl rfl)
theorem dX9_most_11 : decode cX9_most 11 = .ok (.ifCond .eq 7, 3) := dk_153 0 7 (dk_at dksX9_most_0 11 rfl rfl)
theorem dX9_most_14 : decode cX9_most 14 = .ok (.iconst 1, 1) := dk_4 (dk_at dksX9_most_0 14 rfl rfl)
theorem dX9_most_15 : decode cX9_most 15 = .ok (.goto 4, 3) := dk_167 0 4 (dk_at dksX9_most_0 15 rfl rfl)
theorem dX9_most_18 : decode cX9_most 18 = .ok (.iconst 0, 1) := dk_3 (dk_at dksX9_most_0 18 rfl rfl)
theorem dX9_most_19 : decode cX9_most 19 = .ok (.iload_n 2, 1) := dk_28 (dk_at dksX9_most_0 19 rfl rfl)
theorem dX9_most_20 : decode cX9_most 20 = .ok (.invokevirtual 163, 3) := dk_182 0 163 (dk_at dksX9_most_0 20 rfl rfl)
theorem dX9_most_23 : decode cX9_most 23 = .ok (.istore 4, 2) := dk_54 4 (dk_at dksX9_most_1 0 rfl rfl)
theorem dX9_most_25 : decode cX9_most 25 = .ok (.iload 4, 2) := dk_21 4 (dk_at dksX9_most_1 2 rfl rfl)
theorem dX9_most_27 : decode cX9_most 27 = .ok (.ifCond .ne 15, 3) := dk_154 0 15 (dk_at dksX9_most_1 4 rfl rfl)
theorem dX9_most_30 : decode cX9_most 30 = .ok (.iload_n 3, 1) := dk_29 (dk_at dksX9_most_1 7 rfl rfl)
theorem dX9_most_31 : decode cX9_most 31 = .ok (.iconst 2, 1) := dk_5 (dk_at dksX9_most_1 8 rfl rfl)
theorem dX9_most_32 : decode cX9_most 32 = .ok (.invokestatic 53, 3) := dk_184 0 53 (dk_at dksX9_most_1 9 rfl rfl)
theorem dX9_most_35 : decode cX9_most 35 = .ok (.ifCond .ne 7, 3) := dk_154 0 7 (dk_at dksX9_most_1 12 rfl rfl)
theorem dX9_most_38 : decode cX9_most 38 = .ok (.bipush (-2), 2) := dk_16 254 (dk_at dksX9_most_1 15 rfl rfl)
theorem dX9_most_40 : decode cX9_most 40 = .ok (.istore 4, 2) := dk_54 4 (dk_at dksX9_most_1 17 rfl rfl)
theorem dX9_most_42 : decode cX9_most 42 = .ok (.iload 4, 2) := dk_21 4 (dk_at dksX9_most_1 19 rfl rfl)
theorem dX9_most_44 : decode cX9_most 44 = .ok (.ifCond .eq 10, 3) := dk_153 0 10 (dk_at dksX9_most_1 21 rfl rfl)
theorem dX9_most_47 : decode cX9_most 47 = .ok (.aload_n 0, 1) := dk_42 (dk_at dksX9_most_2 0 rfl rfl)
theorem dX9_most_48 : decode cX9_most 48 = .ok (.iload 4, 2) := dk_21 4 (dk_at dksX9_most_2 1 rfl rfl)
theorem dX9_most_50 : decode cX9_most 50 = .ok (.invokevirtual 120, 3) := dk_182 0 120 (dk_at dksX9_most_2 3 rfl rfl)
theorem dX9_most_53 : decode cX9_most 53 = .ok (.ireturn, 1) := dk_172 (dk_at dksX9_most_2 6 rfl rfl)
theorem dX9_most_54 : decode cX9_most 54 = .ok (.aload_n 0, 1) := dk_42 (dk_at dksX9_most_2 7 rfl rfl)
theorem dX9_most_55 : decode cX9_most 55 = .ok (.invokevirtual 96, 3) := dk_182 0 96 (dk_at dksX9_most_2 8 rfl rfl)
theorem dX9_most_58 : decode cX9_most 58 = .ok (.bipush (-9), 2) := dk_16 247 (dk_at dksX9_most_2 11 rfl rfl)
theorem dX9_most_60 : decode cX9_most 60 = .ok (.istore 5, 2) := dk_54 5 (dk_at dksX9_most_2 13 rfl rfl)
theorem dX9_most_62 : decode cX9_most 62 = .ok (.bipush (-9), 2) := dk_16 247 (dk_at dksX9_most_2 15 rfl rfl)
theorem dX9_most_64 : decode cX9_most 64 = .ok (.istore 6, 2) := dk_54 6 (dk_at dksX9_most_2 17 rfl rfl)
theorem dX9_most_66 : decode cX9_most 66 = .ok (.iconst 0, 1) := dk_3 (dk_at dksX9_most_2 19 rfl rfl)
theorem dX9_most_67 : decode cX9_most 67 = .ok (.istore 7, 2) := dk_54 7 (dk_at dksX9_most_2 20 rfl rfl)
theorem dX9_most_69 : decode cX9_most 69 = .ok (.iload 7, 2) := dk_21 7 (dk_at dksX9_most_2 22 rfl rfl)
theorem dX9_most_71 : decode cX9_most 71 = .ok (.iload_n 2, 1) := dk_28 (dk_at dksX9_most_3 0 rfl rfl)
theorem dX9_most_72 : decode cX9_most 72 = .ok (.if_icmp .gt 53, 3) := dk_163 0 53 (dk_at dksX9_most_3 1 rfl rfl)
theorem dX9_most_75 : decode cX9_most 75 = .ok (.aload_n 0, 1) := dk_42 (dk_at dksX9_most_3 4 rfl rfl)
theorem dX9_most_76 : decode cX9_most 76 = .ok (.iload_n 1, 1) := dk_27 (dk_at dksX9_most_3 5 rfl rfl)
theorem dX9_most_77 : decode cX9_most 77 = .ok (.invokevirtual 106, 3) := dk_182 0 106 (dk_at dksX9_most_3 6 rfl rfl)
theorem dX9_most_80 : decode cX9_most 80 = .ok (.istore 8, 2) := dk_54 8 (dk_at dksX9_most_3 9 rfl rfl)
theorem dX9_most_82 : decode cX9_most 82 = .ok (.iload 8, 2) := dk_21 8 (dk_at dksX9_most_3 11 rfl rfl)
theorem dX9_most_84 : decode cX9_most 84 = .ok (.iload 6, 2) := dk_21 6 (dk_at dksX9_most_3 13 rfl rfl)
theorem dX9_most_86 : decode cX9_most 86 = .ok (.if_icmp .le 8, 3) := dk_164 0 8 (dk_at dksX9_most_3 15 rfl rfl)
theorem dX9_most_89 : decode cX9_most 89 = .ok (.iload 7, 2) := dk_21 7 (dk_at dksX9_most_3 18 rfl rfl)
theorem dX9_most_91 : decode cX9_most 91 = .ok (.goto 5, 3) := dk_167 0 5 (dk_at dksX9_most_3 20 rfl rfl)
theorem dX9_most_94 : decode cX9_most 94 = .ok (.iload 5, 2) := dk_21 5 (dk_at dksX9_most_4 0 rfl rfl)
theorem dX9_most_96 : decode cX9_most 96 = .ok (.istore 5, 2) := dk_54 5 (dk_at dksX9_most_4 2 rfl rfl)
theorem dX9_most_98 : decode cX9_most 98 = .ok (.iload 8, 2) := dk_21 8 (dk_at dksX9_most_4 4 rfl rfl)
theorem dX9_most_100 : decode cX9_most 100 = .ok (.iload 6, 2) := dk_21 6 (dk_at dksX9_most_4 6 rfl rfl)
theorem dX9_most_102 : decode cX9_most 102 = .ok (.if_icmp .le 8, 3) := dk_164 0 8 (dk_at dksX9_most_4 8 rfl rfl)
theorem dX9_most_105 : decode cX9_most 105 = .ok (.iload 8, 2) := dk_21 8 (dk_at dksX9_most_4 11 rfl rfl)
theorem dX9_most_107 : decode cX9_most 107 = .ok (.goto 5, 3) := dk_167 0 5 (dk_at dksX9_most_4 13 rfl rfl)
theorem dX9_most_110 : decode cX9_most 110 = .ok (.iload 6, 2) := dk_21 6 (dk_at dksX9_most_4 16 rfl rfl)
theorem dX9_most_112 : decode cX9_most 112 = .ok (.istore 6, 2) := dk_54 6 (dk_at dksX9_most_4 18 rfl rfl)
theorem dX9_most_114 : decode cX9_most 114 = .ok (.aload_n 0, 1) := dk_42 (dk_at dksX9_most_4 20 rfl rfl)
theorem dX9_most_115 : decode cX9_most 115 = .ok (.invokevirtual 99, 3) := dk_182 0 99 (dk_at dksX9_most_4 21 rfl rfl)
theorem dX9_most_118 : decode cX9_most 118 = .ok (.pop, 1) := dk_87 (dk_at dksX9_most_5 0 rfl rfl)
theorem dX9_most_119 : decode cX9_most 119 = .ok (.iinc 7 1, 3) := dk_132 7 1 (dk_at dksX9_most_5 1 rfl rfl)
theorem dX9_most_122 : decode cX9_most 122 = .ok (.goto (-53), 3) := dk_167 255 203 (dk_at dksX9_most_5 4 rfl rfl)
theorem dX9_most_125 : decode cX9_most 125 = .ok (.aload_n 0, 1) := dk_42 (dk_at dksX9_most_5 7 rfl rfl)
theorem dX9_most_126 : decode cX9_most 126 = .ok (.invokevirtual 109, 3) := dk_182 0 109 (dk_at dksX9_most_5 8 rfl rfl)
theorem dX9_most_129 : decode cX9_most 129 = .ok (.iload_n 3, 1) := dk_29 (dk_at dksX9_most_5 11 rfl rfl)
theorem dX9_most_130 : decode cX9_most 130 = .ok (.ifCond .ne 8, 3) := dk_154 0 8 (dk_at dksX9_most_5 12 rfl rfl)
theorem dX9_most_133 : decode cX9_most 133 = .ok (.iload 5, 2) := dk_21 5 (dk_at dksX9_most_5 15 rfl rfl)
theorem dX9_most_135 : decode cX9_most 135 = .ok (.goto 5, 3) := dk_167 0 5 (dk_at dksX9_most_5 17 rfl rfl)
theorem dX9_most_138 : decode cX9_most 138 = .ok (.iload 6, 2) := dk_21 6 (dk_at dksX9_most_5 20 rfl rfl)
theorem dX9_most_140 : decode cX9_most 140 = .ok (.ireturn, 1) := dk_172 (dk_at dksX9_most_5 22 rfl rfl)
abbrev cX9_lasts : ByteArray := prog_28_method_53_code
def yX9_lasts : MethodName := ⟨RX9, "lasts", "(I)I"⟩
def dkwX9_lasts_4 : List UInt8 := [42, 182, 0, 109, 29, 172]
abbrev dktX9_lasts_4 : List UInt8 := dkwX9_lasts_4 ++ []
def dkwX9_lasts_3 : List UInt8 := [21, 4, 164, 0, 12, 42, 21, 5, 182, 0, 106, 167, 0, 5, 21, 4, 54, 4, 132, 5, 1, 167, 255, 200]
abbrev dktX9_lasts_3 : List UInt8 := dkwX9_lasts_3 ++ dktX9_lasts_4
def dkwX9_lasts_2 : List UInt8 := [21, 5, 182, 0, 106, 21, 4, 164, 0, 8, 21, 5, 167, 0, 4, 29, 62, 42, 21, 5, 182, 0, 106]
abbrev dktX9_lasts_2 : List UInt8 := dkwX9_lasts_2 ++ dktX9_lasts_3
def dkwX9_lasts_1 : List UInt8 := [182, 0, 103, 16, 247, 62, 3, 54, 4, 3, 54, 5, 21, 5, 42, 180, 0, 13, 5, 46, 162, 0, 51, 42]
abbrev dktX9_lasts_1 : List UInt8 := dkwX9_lasts_1 ++ dktX9_lasts_2
def dkwX9_lasts_0 : List UInt8 := [27, 3, 16, 60, 184, 0, 112, 61, 28, 153, 0, 9, 42, 28, 182, 0, 120, 172, 42, 182, 0, 96, 42, 27]
abbrev dktX9_lasts_0 : List UInt8 := dkwX9_lasts_0 ++ dktX9_lasts_1
theorem dksX9_lasts_0 : cX9_lasts.data.toList.drop 0 = dktX9_lasts_0 := by decide +kernel
theorem dksX9_lasts_1 : cX9_lasts.data.toList.drop 24 = dktX9_lasts_1 := dk_seg dksX9_lasts_0 24 rfl rfl
theorem dksX9_lasts_2 : cX9_lasts.data.toList.drop 48 = dktX9_lasts_2 := dk_seg dksX9_lasts_1 24 rfl rfl
theorem dksX9_lasts_3 : cX9_lasts.data.toList.drop 71 = dktX9_lasts_3 := dk_seg dksX9_lasts_2 23 rfl rfl
theorem dksX9_lasts_4 : cX9_lasts.data.toList.drop 95 = dktX9_lasts_4 := dk_seg dksX9_lasts_3 24 rfl rfl
theorem dX9_lasts_0 : decode cX9_lasts 0 = .ok (.iload_n 1, 1) := dk_27 (dk_at dksX9_lasts_0 0 rfl rfl)
theorem dX9_lasts_1 : decode cX9_lasts 1 = .ok (.iconst 0, 1) := dk_3 (dk_at dksX9_lasts_0 1 rfl rfl)
theorem dX9_lasts_2 : decode cX9_lasts 2 = .ok (.bipush 60, 2) := dk_16 60 (dk_at dksX9_lasts_0 2 rfl rfl)
theorem dX9_lasts_4 : decode cX9_lasts 4 = .ok (.invokestatic 112, 3) := dk_184 0 112 (dk_at dksX9_lasts_0 4 rfl rfl)
theorem dX9_lasts_7 : decode cX9_lasts 7 = .ok (.istore_n 2, 1) := dk_61 (dk_at dksX9_lasts_0 7 rfl rfl)
theorem dX9_lasts_8 : decode cX9_lasts 8 = .ok (.iload_n 2, 1) := dk_28 (dk_at dksX9_lasts_0 8 rfl rfl)
theorem dX9_lasts_9 : decode cX9_lasts 9 = .ok (.ifCond .eq 9, 3) := dk_153 0 9 (dk_at dksX9_lasts_0 9 rfl rfl)
theorem dX9_lasts_12 : decode cX9_lasts 12 = .ok (.aload_n 0, 1) := dk_42 (dk_at dksX9_lasts_0 12 rfl rfl)
theorem dX9_lasts_13 : decode cX9_lasts 13 = .ok (.iload_n 2, 1) := dk_28 (dk_at dksX9_lasts_0 13 rfl rfl)
theorem dX9_lasts_14 : decode cX9_lasts 14 = .ok (.invokevirtual 120, 3) := dk_182 0 120 (dk_at dksX9_lasts_0 14 rfl rfl)
theorem dX9_lasts_17 : decode cX9_lasts 17 = .ok (.ireturn, 1) := dk_172 (dk_at dksX9_lasts_0 17 rfl rfl)
theorem dX9_lasts_18 : decode cX9_lasts 18 = .ok (.aload_n 0, 1) := dk_42 (dk_at dksX9_lasts_0 18 rfl rfl)
theorem dX9_lasts_19 : decode cX9_lasts 19 = .ok (.invokevirtual 96, 3) := dk_182 0 96 (dk_at dksX9_lasts_0 19 rfl rfl)
theorem dX9_lasts_22 : decode cX9_lasts 22 = .ok (.aload_n 0, 1) := dk_42 (dk_at dksX9_lasts_0 22 rfl rfl)
theorem dX9_lasts_23 : decode cX9_lasts 23 = .ok (.iload_n 1, 1) := dk_27 (dk_at dksX9_lasts_0 23 rfl rfl)
theorem dX9_lasts_24 : decode cX9_lasts 24 = .ok (.invokevirtual 103, 3) := dk_182 0 103 (dk_at dksX9_lasts_1 0 rfl rfl)
theorem dX9_lasts_27 : decode cX9_lasts 27 = .ok (.bipush (-9), 2) := dk_16 247 (dk_at dksX9_lasts_1 3 rfl rfl)
theorem dX9_lasts_29 : decode cX9_lasts 29 = .ok (.istore_n 3, 1) := dk_62 (dk_at dksX9_lasts_1 5 rfl rfl)
theorem dX9_lasts_30 : decode cX9_lasts 30 = .ok (.iconst 0, 1) := dk_3 (dk_at dksX9_lasts_1 6 rfl rfl)
theorem dX9_lasts_31 : decode cX9_lasts 31 = .ok (.istore 4, 2) := dk_54 4 (dk_at dksX9_lasts_1 7 rfl rfl)
theorem dX9_lasts_33 : decode cX9_lasts 33 = .ok (.iconst 0, 1) := dk_3 (dk_at dksX9_lasts_1 9 rfl rfl)
theorem dX9_lasts_34 : decode cX9_lasts 34 = .ok (.istore 5, 2) := dk_54 5 (dk_at dksX9_lasts_1 10 rfl rfl)
theorem dX9_lasts_36 : decode cX9_lasts 36 = .ok (.iload 5, 2) := dk_21 5 (dk_at dksX9_lasts_1 12 rfl rfl)
theorem dX9_lasts_38 : decode cX9_lasts 38 = .ok (.aload_n 0, 1) := dk_42 (dk_at dksX9_lasts_1 14 rfl rfl)
theorem dX9_lasts_39 : decode cX9_lasts 39 = .ok (.getfield 13, 3) := dk_180 0 13 (dk_at dksX9_lasts_1 15 rfl rfl)
theorem dX9_lasts_42 : decode cX9_lasts 42 = .ok (.iconst 2, 1) := dk_5 (dk_at dksX9_lasts_1 18 rfl rfl)
theorem dX9_lasts_43 : decode cX9_lasts 43 = .ok (.iaload, 1) := dk_46 (dk_at dksX9_lasts_1 19 rfl rfl)
theorem dX9_lasts_44 : decode cX9_lasts 44 = .ok (.if_icmp .ge 51, 3) := dk_162 0 51 (dk_at dksX9_lasts_1 20 rfl rfl)
theorem dX9_lasts_47 : decode cX9_lasts 47 = .ok (.aload_n 0, 1) := dk_42 (dk_at dksX9_lasts_1 23 rfl rfl)
theorem dX9_lasts_48 : decode cX9_lasts 48 = .ok (.iload 5, 2) := dk_21 5 (dk_at dksX9_lasts_2 0 rfl rfl)
theorem dX9_lasts_50 : decode cX9_lasts 50 = .ok (.invokevirtual 106, 3) := dk_182 0 106 (dk_at dksX9_lasts_2 2 rfl rfl)
theorem dX9_lasts_53 : decode cX9_lasts 53 = .ok (.iload 4, 2) := dk_21 4 (dk_at dksX9_lasts_2 5 rfl rfl)
theorem dX9_lasts_55 : decode cX9_lasts 55 = .ok (.if_icmp .le 8, 3) := dk_164 0 8 (dk_at dksX9_lasts_2 7 rfl rfl)
theorem dX9_lasts_58 : decode cX9_lasts 58 = .ok (.iload 5, 2) := dk_21 5 (dk_at dksX9_lasts_2 10 rfl rfl)
theorem dX9_lasts_60 : decode cX9_lasts 60 = .ok (.goto 4, 3) := dk_167 0 4 (dk_at dksX9_lasts_2 12 rfl rfl)
theorem dX9_lasts_63 : decode cX9_lasts 63 = .ok (.iload_n 3, 1) := dk_29 (dk_at dksX9_lasts_2 15 rfl rfl)
theorem dX9_lasts_64 : decode cX9_lasts 64 = .ok (.istore_n 3, 1) := dk_62 (dk_at dksX9_lasts_2 16 rfl rfl)
theorem dX9_lasts_65 : decode cX9_lasts 65 = .ok (.aload_n 0, 1) := dk_42 (dk_at dksX9_lasts_2 17 rfl rfl)
theorem dX9_lasts_66 : decode cX9_lasts 66 = .ok (.iload 5, 2) := dk_21 5 (dk_at dksX9_lasts_2 18 rfl rfl)
theorem dX9_lasts_68 : decode cX9_lasts 68 = .ok (.invokevirtual 106, 3) := dk_182 0 106 (dk_at dksX9_lasts_2 20 rfl rfl)
theorem dX9_lasts_71 : decode cX9_lasts 71 = .ok (.iload 4, 2) := dk_21 4 (dk_at dksX9_lasts_3 0 rfl rfl)
theorem dX9_lasts_73 : decode cX9_lasts 73 = .ok (.if_icmp .le 12, 3) := dk_164 0 12 (dk_at dksX9_lasts_3 2 rfl rfl)
theorem dX9_lasts_76 : decode cX9_lasts 76 = .ok (.aload_n 0, 1) := dk_42 (dk_at dksX9_lasts_3 5 rfl rfl)
theorem dX9_lasts_77 : decode cX9_lasts 77 = .ok (.iload 5, 2) := dk_21 5 (dk_at dksX9_lasts_3 6 rfl rfl)
theorem dX9_lasts_79 : decode cX9_lasts 79 = .ok (.invokevirtual 106, 3) := dk_182 0 106 (dk_at dksX9_lasts_3 8 rfl rfl)
theorem dX9_lasts_82 : decode cX9_lasts 82 = .ok (.goto 5, 3) := dk_167 0 5 (dk_at dksX9_lasts_3 11 rfl rfl)
theorem dX9_lasts_85 : decode cX9_lasts 85 = .ok (.iload 4, 2) := dk_21 4 (dk_at dksX9_lasts_3 14 rfl rfl)
theorem dX9_lasts_87 : decode cX9_lasts 87 = .ok (.istore 4, 2) := dk_54 4 (dk_at dksX9_lasts_3 16 rfl rfl)
theorem dX9_lasts_89 : decode cX9_lasts 89 = .ok (.iinc 5 1, 3) := dk_132 5 1 (dk_at dksX9_lasts_3 18 rfl rfl)
theorem dX9_lasts_92 : decode cX9_lasts 92 = .ok (.goto (-56), 3) := dk_167 255 200 (dk_at dksX9_lasts_3 21 rfl rfl)
theorem dX9_lasts_95 : decode cX9_lasts 95 = .ok (.aload_n 0, 1) := dk_42 (dk_at dksX9_lasts_4 0 rfl rfl)
theorem dX9_lasts_96 : decode cX9_lasts 96 = .ok (.invokevirtual 109, 3) := dk_182 0 109 (dk_at dksX9_lasts_4 1 rfl rfl)
theorem dX9_lasts_99 : decode cX9_lasts 99 = .ok (.iload_n 3, 1) := dk_29 (dk_at dksX9_lasts_4 4 rfl rfl)
theorem dX9_lasts_100 : decode cX9_lasts 100 = .ok (.ireturn, 1) := dk_172 (dk_at dksX9_lasts_4 5 rfl rfl)
abbrev cX9_from : ByteArray := prog_28_method_55_code
def yX9_from : MethodName := ⟨RX9, "from", "(II)I"⟩
def dkwX9_from_0 : List UInt8 := [42, 27, 28, 3, 182, 0, 173, 172]
abbrev dktX9_from_0 : List UInt8 := dkwX9_from_0 ++ []
theorem dksX9_from_0 : cX9_from.data.toList.drop 0 = dktX9_from_0 := by decide +kernel
theorem dX9_from_0 : decode cX9_from 0 = .ok (.aload_n 0, 1) := dk_42 (dk_at dksX9_from_0 0 rfl rfl)
theorem dX9_from_1 : decode cX9_from 1 = .ok (.iload_n 1, 1) := dk_27 (dk_at dksX9_from_0 1 rfl rfl)
theorem dX9_from_2 : decode cX9_from 2 = .ok (.iload_n 2, 1) := dk_28 (dk_at dksX9_from_0 2 rfl rfl)
theorem dX9_from_3 : decode cX9_from 3 = .ok (.iconst 0, 1) := dk_3 (dk_at dksX9_from_0 3 rfl rfl)
theorem dX9_from_4 : decode cX9_from 4 = .ok (.invokevirtual 173, 3) := dk_182 0 173 (dk_at dksX9_from_0 4 rfl rfl)
theorem dX9_from_7 : decode cX9_from 7 = .ok (.ireturn, 1) := dk_172 (dk_at dksX9_from_0 7 rfl rfl)
abbrev cX9_wentBy : ByteArray := prog_28_method_54_code
def yX9_wentBy : MethodName := ⟨RX9, "wentBy", "(IIZ)I"⟩
def dkwX9_wentBy_3 : List UInt8 := [21, 5, 172]
abbrev dktX9_wentBy_3 : List UInt8 := dkwX9_wentBy_3 ++ []
def dkwX9_wentBy_2 : List UInt8 := [153, 0, 12, 42, 180, 0, 34, 27, 46, 167, 0, 9, 42, 180, 0, 31, 27, 46, 54, 5, 42, 182, 0, 109]
abbrev dktX9_wentBy_2 : List UInt8 := dkwX9_wentBy_2 ++ dktX9_wentBy_3
def dkwX9_wentBy_1 : List UInt8 := [42, 182, 0, 170, 42, 28, 182, 0, 103, 42, 27, 6, 182, 0, 61, 156, 0, 8, 16, 247, 167, 0, 22, 29]
abbrev dktX9_wentBy_1 : List UInt8 := dkwX9_wentBy_1 ++ dktX9_wentBy_2
def dkwX9_wentBy_0 : List UInt8 := [42, 42, 27, 182, 0, 144, 28, 182, 0, 163, 54, 4, 21, 4, 153, 0, 10, 42, 21, 4, 182, 0, 120, 172]
abbrev dktX9_wentBy_0 : List UInt8 := dkwX9_wentBy_0 ++ dktX9_wentBy_1
theorem dksX9_wentBy_0 : cX9_wentBy.data.toList.drop 0 = dktX9_wentBy_0 := by decide +kernel
theorem dksX9_wentBy_1 : cX9_wentBy.data.toList.drop 24 = dktX9_wentBy_1 := dk_seg dksX9_wentBy_0 24 rfl rfl
theorem dksX9_wentBy_2 : cX9_wentBy.data.toList.drop 48 = dktX9_wentBy_2 := dk_seg dksX9_wentBy_1 24 rfl rfl
theorem dksX9_wentBy_3 : cX9_wentBy.data.toList.drop 72 = dktX9_wentBy_3 := dk_seg dksX9_wentBy_2 24 rfl rfl
theorem dX9_wentBy_0 : decode cX9_wentBy 0 = .ok (.aload_n 0, 1) := dk_42 (dk_at dksX9_wentBy_0 0 rfl rfl)
theorem dX9_wentBy_1 : decode cX9_wentBy 1 = .ok (.aload_n 0, 1) := dk_42 (dk_at dksX9_wentBy_0 1 rfl rfl)
theorem dX9_wentBy_2 : decode cX9_wentBy 2 = .ok (.iload_n 1, 1) := dk_27 (dk_at dksX9_wentBy_0 2 rfl rfl)
theorem dX9_wentBy_3 : decode cX9_wentBy 3 = .ok (.invokevirtual 144, 3) := dk_182 0 144 (dk_at dksX9_wentBy_0 3 rfl rfl)
theorem dX9_wentBy_6 : decode cX9_wentBy 6 = .ok (.iload_n 2, 1) := dk_28 (dk_at dksX9_wentBy_0 6 rfl rfl)
theorem dX9_wentBy_7 : decode cX9_wentBy 7 = .ok (.invokevirtual 163, 3) := dk_182 0 163 (dk_at dksX9_wentBy_0 7 rfl rfl)
theorem dX9_wentBy_10 : decode cX9_wentBy 10 = .ok (.istore 4, 2) := dk_54 4 (dk_at dksX9_wentBy_0 10 rfl rfl)
theorem dX9_wentBy_12 : decode cX9_wentBy 12 = .ok (.iload 4, 2) := dk_21 4 (dk_at dksX9_wentBy_0 12 rfl rfl)
theorem dX9_wentBy_14 : decode cX9_wentBy 14 = .ok (.ifCond .eq 10, 3) := dk_153 0 10 (dk_at dksX9_wentBy_0 14 rfl rfl)
theorem dX9_wentBy_17 : decode cX9_wentBy 17 = .ok (.aload_n 0, 1) := dk_42 (dk_at dksX9_wentBy_0 17 rfl rfl)
theorem dX9_wentBy_18 : decode cX9_wentBy 18 = .ok (.iload 4, 2) := dk_21 4 (dk_at dksX9_wentBy_0 18 rfl rfl)
theorem dX9_wentBy_20 : decode cX9_wentBy 20 = .ok (.invokevirtual 120, 3) := dk_182 0 120 (dk_at dksX9_wentBy_0 20 rfl rfl)
theorem dX9_wentBy_23 : decode cX9_wentBy 23 = .ok (.ireturn, 1) := dk_172 (dk_at dksX9_wentBy_0 23 rfl rfl)
theorem dX9_wentBy_24 : decode cX9_wentBy 24 = .ok (.aload_n 0, 1) := dk_42 (dk_at dksX9_wentBy_1 0 rfl rfl)
theorem dX9_wentBy_25 : decode cX9_wentBy 25 = .ok (.invokevirtual 170, 3) := dk_182 0 170 (dk_at dksX9_wentBy_1 1 rfl rfl)
theorem dX9_wentBy_28 : decode cX9_wentBy 28 = .ok (.aload_n 0, 1) := dk_42 (dk_at dksX9_wentBy_1 4 rfl rfl)
theorem dX9_wentBy_29 : decode cX9_wentBy 29 = .ok (.iload_n 2, 1) := dk_28 (dk_at dksX9_wentBy_1 5 rfl rfl)
theorem dX9_wentBy_30 : decode cX9_wentBy 30 = .ok (.invokevirtual 103, 3) := dk_182 0 103 (dk_at dksX9_wentBy_1 6 rfl rfl)
theorem dX9_wentBy_33 : decode cX9_wentBy 33 = .ok (.aload_n 0, 1) := dk_42 (dk_at dksX9_wentBy_1 9 rfl rfl)
theorem dX9_wentBy_34 : decode cX9_wentBy 34 = .ok (.iload_n 1, 1) := dk_27 (dk_at dksX9_wentBy_1 10 rfl rfl)
theorem dX9_wentBy_35 : decode cX9_wentBy 35 = .ok (.iconst 3, 1) := dk_6 (dk_at dksX9_wentBy_1 11 rfl rfl)
theorem dX9_wentBy_36 : decode cX9_wentBy 36 = .ok (.invokevirtual 61, 3) := dk_182 0 61 (dk_at dksX9_wentBy_1 12 rfl rfl)
theorem dX9_wentBy_39 : decode cX9_wentBy 39 = .ok (.ifCond .ge 8, 3) := dk_156 0 8 (dk_at dksX9_wentBy_1 15 rfl rfl)
theorem dX9_wentBy_42 : decode cX9_wentBy 42 = .ok (.bipush (-9), 2) := dk_16 247 (dk_at dksX9_wentBy_1 18 rfl rfl)
theorem dX9_wentBy_44 : decode cX9_wentBy 44 = .ok (.goto 22, 3) := dk_167 0 22 (dk_at dksX9_wentBy_1 20 rfl rfl)
theorem dX9_wentBy_47 : decode cX9_wentBy 47 = .ok (.iload_n 3, 1) := dk_29 (dk_at dksX9_wentBy_1 23 rfl rfl)
theorem dX9_wentBy_48 : decode cX9_wentBy 48 = .ok (.ifCond .eq 12, 3) := dk_153 0 12 (dk_at dksX9_wentBy_2 0 rfl rfl)
theorem dX9_wentBy_51 : decode cX9_wentBy 51 = .ok (.aload_n 0, 1) := dk_42 (dk_at dksX9_wentBy_2 3 rfl rfl)
theorem dX9_wentBy_52 : decode cX9_wentBy 52 = .ok (.getfield 34, 3) := dk_180 0 34 (dk_at dksX9_wentBy_2 4 rfl rfl)
theorem dX9_wentBy_55 : decode cX9_wentBy 55 = .ok (.iload_n 1, 1) := dk_27 (dk_at dksX9_wentBy_2 7 rfl rfl)
theorem dX9_wentBy_56 : decode cX9_wentBy 56 = .ok (.iaload, 1) := dk_46 (dk_at dksX9_wentBy_2 8 rfl rfl)
theorem dX9_wentBy_57 : decode cX9_wentBy 57 = .ok (.goto 9, 3) := dk_167 0 9 (dk_at dksX9_wentBy_2 9 rfl rfl)
theorem dX9_wentBy_60 : decode cX9_wentBy 60 = .ok (.aload_n 0, 1) := dk_42 (dk_at dksX9_wentBy_2 12 rfl rfl)
theorem dX9_wentBy_61 : decode cX9_wentBy 61 = .ok (.getfield 31, 3) := dk_180 0 31 (dk_at dksX9_wentBy_2 13 rfl rfl)
theorem dX9_wentBy_64 : decode cX9_wentBy 64 = .ok (.iload_n 1, 1) := dk_27 (dk_at dksX9_wentBy_2 16 rfl rfl)
theorem dX9_wentBy_65 : decode cX9_wentBy 65 = .ok (.iaload, 1) := dk_46 (dk_at dksX9_wentBy_2 17 rfl rfl)
theorem dX9_wentBy_66 : decode cX9_wentBy 66 = .ok (.istore 5, 2) := dk_54 5 (dk_at dksX9_wentBy_2 18 rfl rfl)
theorem dX9_wentBy_68 : decode cX9_wentBy 68 = .ok (.aload_n 0, 1) := dk_42 (dk_at dksX9_wentBy_2 20 rfl rfl)
theorem dX9_wentBy_69 : decode cX9_wentBy 69 = .ok (.invokevirtual 109, 3) := dk_182 0 109 (dk_at dksX9_wentBy_2 21 rfl rfl)
theorem dX9_wentBy_72 : decode cX9_wentBy 72 = .ok (.iload 5, 2) := dk_21 5 (dk_at dksX9_wentBy_3 0 rfl rfl)
theorem dX9_wentBy_74 : decode cX9_wentBy 74 = .ok (.ireturn, 1) := dk_172 (dk_at dksX9_wentBy_3 2 rfl rfl)
abbrev cX9_starts : ByteArray := prog_28_method_22_code
def yX9_starts : MethodName := ⟨RX9, "starts", "()V"⟩
def dkwX9_starts_1 : List UInt8 := [27, 79, 132, 1, 1, 167, 255, 233, 177]
abbrev dktX9_starts_1 : List UInt8 := dkwX9_starts_1 ++ []
def dkwX9_starts_0 : List UInt8 := [42, 182, 0, 96, 3, 60, 27, 16, 6, 162, 0, 23, 42, 180, 0, 31, 27, 27, 79, 42, 180, 0, 34, 27]
abbrev dktX9_starts_0 : List UInt8 := dkwX9_starts_0 ++ dktX9_starts_1
theorem dksX9_starts_0 : cX9_starts.data.toList.drop 0 = dktX9_starts_0 := by decide +kernel
theorem dksX9_starts_1 : cX9_starts.data.toList.drop 24 = dktX9_starts_1 := dk_seg dksX9_starts_0 24 rfl rfl
theorem dX9_starts_0 : decode cX9_starts 0 = .ok (.aload_n 0, 1) := dk_42 (dk_at dksX9_starts_0 0 rfl rfl)
theorem dX9_starts_1 : decode cX9_starts 1 = .ok (.invokevirtual 96, 3) := dk_182 0 96 (dk_at dksX9_starts_0 1 rfl rfl)
theorem dX9_starts_4 : decode cX9_starts 4 = .ok (.iconst 0, 1) := dk_3 (dk_at dksX9_starts_0 4 rfl rfl)
theorem dX9_starts_5 : decode cX9_starts 5 = .ok (.istore_n 1, 1) := dk_60 (dk_at dksX9_starts_0 5 rfl rfl)
theorem dX9_starts_6 : decode cX9_starts 6 = .ok (.iload_n 1, 1) := dk_27 (dk_at dksX9_starts_0 6 rfl rfl)
theorem dX9_starts_7 : decode cX9_starts 7 = .ok (.bipush 6, 2) := dk_16 6 (dk_at dksX9_starts_0 7 rfl rfl)
theorem dX9_starts_9 : decode cX9_starts 9 = .ok (.if_icmp .ge 23, 3) := dk_162 0 23 (dk_at dksX9_starts_0 9 rfl rfl)
theorem dX9_starts_12 : decode cX9_starts 12 = .ok (.aload_n 0, 1) := dk_42 (dk_at dksX9_starts_0 12 rfl rfl)
theorem dX9_starts_13 : decode cX9_starts 13 = .ok (.getfield 31, 3) := dk_180 0 31 (dk_at dksX9_starts_0 13 rfl rfl)
theorem dX9_starts_16 : decode cX9_starts 16 = .ok (.iload_n 1, 1) := dk_27 (dk_at dksX9_starts_0 16 rfl rfl)
theorem dX9_starts_17 : decode cX9_starts 17 = .ok (.iload_n 1, 1) := dk_27 (dk_at dksX9_starts_0 17 rfl rfl)
theorem dX9_starts_18 : decode cX9_starts 18 = .ok (.iastore, 1) := dk_79 (dk_at dksX9_starts_0 18 rfl rfl)
theorem dX9_starts_19 : decode cX9_starts 19 = .ok (.aload_n 0, 1) := dk_42 (dk_at dksX9_starts_0 19 rfl rfl)
theorem dX9_starts_20 : decode cX9_starts 20 = .ok (.getfield 34, 3) := dk_180 0 34 (dk_at dksX9_starts_0 20 rfl rfl)
theorem dX9_starts_23 : decode cX9_starts 23 = .ok (.iload_n 1, 1) := dk_27 (dk_at dksX9_starts_0 23 rfl rfl)
theorem dX9_starts_24 : decode cX9_starts 24 = .ok (.iload_n 1, 1) := dk_27 (dk_at dksX9_starts_1 0 rfl rfl)
theorem dX9_starts_25 : decode cX9_starts 25 = .ok (.iastore, 1) := dk_79 (dk_at dksX9_starts_1 1 rfl rfl)
theorem dX9_starts_26 : decode cX9_starts 26 = .ok (.iinc 1 1, 3) := dk_132 1 1 (dk_at dksX9_starts_1 2 rfl rfl)
theorem dX9_starts_29 : decode cX9_starts 29 = .ok (.goto (-23), 3) := dk_167 255 233 (dk_at dksX9_starts_1 5 rfl rfl)
theorem dX9_starts_32 : decode cX9_starts 32 = .ok (.return_, 1) := dk_177 (dk_at dksX9_starts_1 8 rfl rfl)
abbrev cX9_first : ByteArray := prog_28_method_56_code
def yX9_first : MethodName := ⟨RX9, "first", "(II)I"⟩
def dkwX9_first_0 : List UInt8 := [42, 27, 28, 4, 182, 0, 173, 172]
abbrev dktX9_first_0 : List UInt8 := dkwX9_first_0 ++ []
theorem dksX9_first_0 : cX9_first.data.toList.drop 0 = dktX9_first_0 := by decide +kernel
theorem dX9_first_0 : decode cX9_first 0 = .ok (.aload_n 0, 1) := dk_42 (dk_at dksX9_first_0 0 rfl rfl)
theorem dX9_first_1 : decode cX9_first 1 = .ok (.iload_n 1, 1) := dk_27 (dk_at dksX9_first_0 1 rfl rfl)
theorem dX9_first_2 : decode cX9_first 2 = .ok (.iload_n 2, 1) := dk_28 (dk_at dksX9_first_0 2 rfl rfl)
theorem dX9_first_3 : decode cX9_first 3 = .ok (.iconst 1, 1) := dk_4 (dk_at dksX9_first_0 3 rfl rfl)
theorem dX9_first_4 : decode cX9_first 4 = .ok (.invokevirtual 173, 3) := dk_182 0 173 (dk_at dksX9_first_0 4 rfl rfl)
theorem dX9_first_7 : decode cX9_first 7 = .ok (.ireturn, 1) := dk_172 (dk_at dksX9_first_0 7 rfl rfl)
abbrev cX9_rid : ByteArray := prog_28_method_58_code
def yX9_rid : MethodName := ⟨RX9, "rid", "(II)I"⟩
def dkwX9_rid_5 : List UInt8 := [167, 255, 205, 28, 154, 0, 8, 21, 4, 167, 0, 5, 21, 5, 172]
abbrev dktX9_rid_5 : List UInt8 := dkwX9_rid_5 ++ []
def dkwX9_rid_4 : List UInt8 := [155, 0, 13, 21, 7, 21, 5, 161, 0, 6, 167, 0, 11, 21, 6, 54, 4, 21, 7, 54, 5, 132, 6, 1]
abbrev dktX9_rid_4 : List UInt8 := dkwX9_rid_4 ++ dktX9_rid_5
def dkwX9_rid_3 : List UInt8 := [162, 0, 51, 42, 27, 21, 6, 182, 0, 160, 42, 27, 182, 0, 177, 54, 7, 21, 7, 155, 0, 26, 21, 5]
abbrev dktX9_rid_3 : List UInt8 := dkwX9_rid_3 ++ dktX9_rid_4
def dkwX9_rid_2 : List UInt8 := [29, 182, 0, 120, 172, 42, 182, 0, 96, 16, 247, 54, 4, 16, 247, 54, 5, 3, 54, 6, 21, 6, 7]
abbrev dktX9_rid_2 : List UInt8 := dkwX9_rid_2 ++ dktX9_rid_3
def dkwX9_rid_1 : List UInt8 := [167, 0, 18, 42, 27, 6, 182, 0, 61, 156, 0, 8, 16, 253, 167, 0, 4, 3, 62, 29, 153, 0, 9, 42]
abbrev dktX9_rid_1 : List UInt8 := dkwX9_rid_1 ++ dktX9_rid_2
def dkwX9_rid_0 : List UInt8 := [42, 27, 182, 0, 144, 154, 0, 7, 2, 167, 0, 31, 28, 5, 184, 0, 53, 154, 0, 8, 16, 254]
abbrev dktX9_rid_0 : List UInt8 := dkwX9_rid_0 ++ dktX9_rid_1
theorem dksX9_rid_0 : cX9_rid.data.toList.drop 0 = dktX9_rid_0 := by decide +kernel
theorem dksX9_rid_1 : cX9_rid.data.toList.drop 22 = dktX9_rid_1 := dk_seg dksX9_rid_0 22 rfl rfl
theorem dksX9_rid_2 : cX9_rid.data.toList.drop 46 = dktX9_rid_2 := dk_seg dksX9_rid_1 24 rfl rfl
theorem dksX9_rid_3 : cX9_rid.data.toList.drop 69 = dktX9_rid_3 := dk_seg dksX9_rid_2 23 rfl rfl
theorem dksX9_rid_4 : cX9_rid.data.toList.drop 93 = dktX9_rid_4 := dk_seg dksX9_rid_3 24 rfl rfl
theorem dksX9_rid_5 : cX9_rid.data.toList.drop 117 = dktX9_rid_5 := dk_seg dksX9_rid_4 24 rfl rfl
theorem dX9_rid_0 : decode cX9_rid 0 = .ok (.aload_n 0, 1) := dk_42 (dk_at dksX9_rid_0 0 rfl rfl)
theorem dX9_rid_1 : decode cX9_rid 1 = .ok (.iload_n 1, 1) := dk_27 (dk_at dksX9_rid_0 1 rfl rfl)
theorem dX9_rid_2 : decode cX9_rid 2 = .ok (.invokevirtual 144, 3) := dk_182 0 144 (dk_at dksX9_rid_0 2 rfl rfl)
theorem dX9_rid_5 : decode cX9_rid 5 = .ok (.ifCond .ne 7, 3) := dk_154 0 7 (dk_at dksX9_rid_0 5 rfl rfl)
theorem dX9_rid_8 : decode cX9_rid 8 = .ok (.iconst (-1), 1) := dk_2 (dk_at dksX9_rid_0 8 rfl rfl)
theorem dX9_rid_9 : decode cX9_rid 9 = .ok (.goto 31, 3) := dk_167 0 31 (dk_at dksX9_rid_0 9 rfl rfl)
theorem dX9_rid_12 : decode cX9_rid 12 = .ok (.iload_n 2, 1) := dk_28 (dk_at dksX9_rid_0 12 rfl rfl)
theorem dX9_rid_13 : decode cX9_rid 13 = .ok (.iconst 2, 1) := dk_5 (dk_at dksX9_rid_0 13 rfl rfl)
theorem dX9_rid_14 : decode cX9_rid 14 = .ok (.invokestatic 53, 3) := dk_184 0 53 (dk_at dksX9_rid_0 14 rfl rfl)
theorem dX9_rid_17 : decode cX9_rid 17 = .ok (.ifCond .ne 8, 3) := dk_154 0 8 (dk_at dksX9_rid_0 17 rfl rfl)
theorem dX9_rid_20 : decode cX9_rid 20 = .ok (.bipush (-2), 2) := dk_16 254 (dk_at dksX9_rid_0 20 rfl rfl)
theorem dX9_rid_22 : decode cX9_rid 22 = .ok (.goto 18, 3) := dk_167 0 18 (dk_at dksX9_rid_1 0 rfl rfl)
theorem dX9_rid_25 : decode cX9_rid 25 = .ok (.aload_n 0, 1) := dk_42 (dk_at dksX9_rid_1 3 rfl rfl)
theorem dX9_rid_26 : decode cX9_rid 26 = .ok (.iload_n 1, 1) := dk_27 (dk_at dksX9_rid_1 4 rfl rfl)
theorem dX9_rid_27 : decode cX9_rid 27 = .ok (.iconst 3, 1) := dk_6 (dk_at dksX9_rid_1 5 rfl rfl)
theorem dX9_rid_28 : decode cX9_rid 28 = .ok (.invokevirtual 61, 3) := dk_182 0 61 (dk_at dksX9_rid_1 6 rfl rfl)
theorem dX9_rid_31 : decode cX9_rid 31 = .ok (.ifCond .ge 8, 3) := dk_156 0 8 (dk_at dksX9_rid_1 9 rfl rfl)
theorem dX9_rid_34 : decode cX9_rid 34 = .ok (.bipush (-3), 2) := dk_16 253 (dk_at dksX9_rid_1 12 rfl rfl)
theorem dX9_rid_36 : decode cX9_rid 36 = .ok (.goto 4, 3) := dk_167 0 4 (dk_at dksX9_rid_1 14 rfl rfl)
theorem dX9_rid_39 : decode cX9_rid 39 = .ok (.iconst 0, 1) := dk_3 (dk_at dksX9_rid_1 17 rfl rfl)
theorem dX9_rid_40 : decode cX9_rid 40 = .ok (.istore_n 3, 1) := dk_62 (dk_at dksX9_rid_1 18 rfl rfl)
theorem dX9_rid_41 : decode cX9_rid 41 = .ok (.iload_n 3, 1) := dk_29 (dk_at dksX9_rid_1 19 rfl rfl)
theorem dX9_rid_42 : decode cX9_rid 42 = .ok (.ifCond .eq 9, 3) := dk_153 0 9 (dk_at dksX9_rid_1 20 rfl rfl)
theorem dX9_rid_45 : decode cX9_rid 45 = .ok (.aload_n 0, 1) := dk_42 (dk_at dksX9_rid_1 23 rfl rfl)
theorem dX9_rid_46 : decode cX9_rid 46 = .ok (.iload_n 3, 1) := dk_29 (dk_at dksX9_rid_2 0 rfl rfl)
theorem dX9_rid_47 : decode cX9_rid 47 = .ok (.invokevirtual 120, 3) := dk_182 0 120 (dk_at dksX9_rid_2 1 rfl rfl)
theorem dX9_rid_50 : decode cX9_rid 50 = .ok (.ireturn, 1) := dk_172 (dk_at dksX9_rid_2 4 rfl rfl)
theorem dX9_rid_51 : decode cX9_rid 51 = .ok (.aload_n 0, 1) := dk_42 (dk_at dksX9_rid_2 5 rfl rfl)
theorem dX9_rid_52 : decode cX9_rid 52 = .ok (.invokevirtual 96, 3) := dk_182 0 96 (dk_at dksX9_rid_2 6 rfl rfl)
theorem dX9_rid_55 : decode cX9_rid 55 = .ok (.bipush (-9), 2) := dk_16 247 (dk_at dksX9_rid_2 9 rfl rfl)
theorem dX9_rid_57 : decode cX9_rid 57 = .ok (.istore 4, 2) := dk_54 4 (dk_at dksX9_rid_2 11 rfl rfl)
theorem dX9_rid_59 : decode cX9_rid 59 = .ok (.bipush (-9), 2) := dk_16 247 (dk_at dksX9_rid_2 13 rfl rfl)
theorem dX9_rid_61 : decode cX9_rid 61 = .ok (.istore 5, 2) := dk_54 5 (dk_at dksX9_rid_2 15 rfl rfl)
theorem dX9_rid_63 : decode cX9_rid 63 = .ok (.iconst 0, 1) := dk_3 (dk_at dksX9_rid_2 17 rfl rfl)
theorem dX9_rid_64 : decode cX9_rid 64 = .ok (.istore 6, 2) := dk_54 6 (dk_at dksX9_rid_2 18 rfl rfl)
theorem dX9_rid_66 : decode cX9_rid 66 = .ok (.iload 6, 2) := dk_21 6 (dk_at dksX9_rid_2 20 rfl rfl)
theorem dX9_rid_68 : decode cX9_rid 68 = .ok (.iconst 4, 1) := dk_7 (dk_at dksX9_rid_2 22 rfl rfl)
theorem dX9_rid_69 : decode cX9_rid 69 = .ok (.if_icmp .ge 51, 3) := dk_162 0 51 (dk_at dksX9_rid_3 0 rfl rfl)
theorem dX9_rid_72 : decode cX9_rid 72 = .ok (.aload_n 0, 1) := dk_42 (dk_at dksX9_rid_3 3 rfl rfl)
theorem dX9_rid_73 : decode cX9_rid 73 = .ok (.iload_n 1, 1) := dk_27 (dk_at dksX9_rid_3 4 rfl rfl)
theorem dX9_rid_74 : decode cX9_rid 74 = .ok (.iload 6, 2) := dk_21 6 (dk_at dksX9_rid_3 5 rfl rfl)
theorem dX9_rid_76 : decode cX9_rid 76 = .ok (.invokevirtual 160, 3) := dk_182 0 160 (dk_at dksX9_rid_3 7 rfl rfl)
theorem dX9_rid_79 : decode cX9_rid 79 = .ok (.aload_n 0, 1) := dk_42 (dk_at dksX9_rid_3 10 rfl rfl)
theorem dX9_rid_80 : decode cX9_rid 80 = .ok (.iload_n 1, 1) := dk_27 (dk_at dksX9_rid_3 11 rfl rfl)
theorem dX9_rid_81 : decode cX9_rid 81 = .ok (.invokevirtual 177, 3) := dk_182 0 177 (dk_at dksX9_rid_3 12 rfl rfl)
theorem dX9_rid_84 : decode cX9_rid 84 = .ok (.istore 7, 2) := dk_54 7 (dk_at dksX9_rid_3 15 rfl rfl)
theorem dX9_rid_86 : decode cX9_rid 86 = .ok (.iload 7, 2) := dk_21 7 (dk_at dksX9_rid_3 17 rfl rfl)
theorem dX9_rid_88 : decode cX9_rid 88 = .ok (.ifCond .lt 26, 3) := dk_155 0 26 (dk_at dksX9_rid_3 19 rfl rfl)
theorem dX9_rid_91 : decode cX9_rid 91 = .ok (.iload 5, 2) := dk_21 5 (dk_at dksX9_rid_3 22 rfl rfl)
theorem dX9_rid_93 : decode cX9_rid 93 = .ok (.ifCond .lt 13, 3) := dk_155 0 13 (dk_at dksX9_rid_4 0 rfl rfl)
theorem dX9_rid_96 : decode cX9_rid 96 = .ok (.iload 7, 2) := dk_21 7 (dk_at dksX9_rid_4 3 rfl rfl)
theorem dX9_rid_98 : decode cX9_rid 98 = .ok (.iload 5, 2) := dk_21 5 (dk_at dksX9_rid_4 5 rfl rfl)
theorem dX9_rid_100 : decode cX9_rid 100 = .ok (.if_icmp .lt 6, 3) := dk_161 0 6 (dk_at dksX9_rid_4 7 rfl rfl)
theorem dX9_rid_103 : decode cX9_rid 103 = .ok (.goto 11, 3) := dk_167 0 11 (dk_at dksX9_rid_4 10 rfl rfl)
theorem dX9_rid_106 : decode cX9_rid 106 = .ok (.iload 6, 2) := dk_21 6 (dk_at dksX9_rid_4 13 rfl rfl)
theorem dX9_rid_108 : decode cX9_rid 108 = .ok (.istore 4, 2) := dk_54 4 (dk_at dksX9_rid_4 15 rfl rfl)
theorem dX9_rid_110 : decode cX9_rid 110 = .ok (.iload 7, 2) := dk_21 7 (dk_at dksX9_rid_4 17 rfl rfl)
theorem dX9_rid_112 : decode cX9_rid 112 = .ok (.istore 5, 2) := dk_54 5 (dk_at dksX9_rid_4 19 rfl rfl)
theorem dX9_rid_114 : decode cX9_rid 114 = .ok (.iinc 6 1, 3) := dk_132 6 1 (dk_at dksX9_rid_4 21 rfl rfl)
theorem dX9_rid_117 : decode cX9_rid 117 = .ok (.goto (-51), 3) := dk_167 255 205 (dk_at dksX9_rid_5 0 rfl rfl)
theorem dX9_rid_120 : decode cX9_rid 120 = .ok (.iload_n 2, 1) := dk_28 (dk_at dksX9_rid_5 3 rfl rfl)
theorem dX9_rid_121 : decode cX9_rid 121 = .ok (.ifCond .ne 8, 3) := dk_154 0 8 (dk_at dksX9_rid_5 4 rfl rfl)
theorem dX9_rid_124 : decode cX9_rid 124 = .ok (.iload 4, 2) := dk_21 4 (dk_at dksX9_rid_5 7 rfl rfl)
theorem dX9_rid_126 : decode cX9_rid 126 = .ok (.goto 5, 3) := dk_167 0 5 (dk_at dksX9_rid_5 9 rfl rfl)
theorem dX9_rid_129 : decode cX9_rid 129 = .ok (.iload 5, 2) := dk_21 5 (dk_at dksX9_rid_5 12 rfl rfl)
theorem dX9_rid_131 : decode cX9_rid 131 = .ok (.ireturn, 1) := dk_172 (dk_at dksX9_rid_5 14 rfl rfl)
abbrev cX9_ridOf : ByteArray := prog_28_method_57_code
def yX9_ridOf : MethodName := ⟨RX9, "ridOf", "(I)I"⟩
def dkwX9_ridOf_1 : List UInt8 := [29, 167, 0, 5, 16, 247, 61, 42, 182, 0, 99, 87, 132, 3, 1, 167, 255, 222, 42, 182, 0, 109, 28, 172]
abbrev dktX9_ridOf_1 : List UInt8 := dkwX9_ridOf_1 ++ []
def dkwX9_ridOf_0 : List UInt8 := [16, 247, 61, 3, 62, 29, 16, 60, 163, 0, 34, 28, 156, 0, 30, 42, 27, 6, 182, 0, 61, 156, 0, 7]
abbrev dktX9_ridOf_0 : List UInt8 := dkwX9_ridOf_0 ++ dktX9_ridOf_1
theorem dksX9_ridOf_0 : cX9_ridOf.data.toList.drop 0 = dktX9_ridOf_0 := by decide +kernel
theorem dksX9_ridOf_1 : cX9_ridOf.data.toList.drop 24 = dktX9_ridOf_1 := dk_seg dksX9_ridOf_0 24 rfl rfl
theorem dX9_ridOf_0 : decode cX9_ridOf 0 = .ok (.bipush (-9), 2) := dk_16 247 (dk_at dksX9_ridOf_0 0 rfl rfl)
theorem dX9_ridOf_2 : decode cX9_ridOf 2 = .ok (.istore_n 2, 1) := dk_61 (dk_at dksX9_ridOf_0 2 rfl rfl)
theorem dX9_ridOf_3 : decode cX9_ridOf 3 = .ok (.iconst 0, 1) := dk_3 (dk_at dksX9_ridOf_0 3 rfl rfl)
theorem dX9_ridOf_4 : decode cX9_ridOf 4 = .ok (.istore_n 3, 1) := dk_62 (dk_at dksX9_ridOf_0 4 rfl rfl)
theorem dX9_ridOf_5 : decode cX9_ridOf 5 = .ok (.iload_n 3, 1) := dk_29 (dk_at dksX9_ridOf_0 5 rfl rfl)
theorem dX9_ridOf_6 : decode cX9_ridOf 6 = .ok (.bipush 60, 2) := dk_16 60 (dk_at dksX9_ridOf_0 6 rfl rfl)
theorem dX9_ridOf_8 : decode cX9_ridOf 8 = .ok (.if_icmp .gt 34, 3) := dk_163 0 34 (dk_at dksX9_ridOf_0 8 rfl rfl)
theorem dX9_ridOf_11 : decode cX9_ridOf 11 = .ok (.iload_n 2, 1) := dk_28 (dk_at dksX9_ridOf_0 11 rfl rfl)
theorem dX9_ridOf_12 : decode cX9_ridOf 12 = .ok (.ifCond .ge 30, 3) := dk_156 0 30 (dk_at dksX9_ridOf_0 12 rfl rfl)
theorem dX9_ridOf_15 : decode cX9_ridOf 15 = .ok (.aload_n 0, 1) := dk_42 (dk_at dksX9_ridOf_0 15 rfl rfl)
theorem dX9_ridOf_16 : decode cX9_ridOf 16 = .ok (.iload_n 1, 1) := dk_27 (dk_at dksX9_ridOf_0 16 rfl rfl)
theorem dX9_ridOf_17 : decode cX9_ridOf 17 = .ok (.iconst 3, 1) := dk_6 (dk_at dksX9_ridOf_0 17 rfl rfl)
theorem dX9_ridOf_18 : decode cX9_ridOf 18 = .ok (.invokevirtual 61, 3) := dk_182 0 61 (dk_at dksX9_ridOf_0 18 rfl rfl)
theorem dX9_ridOf_21 : decode cX9_ridOf 21 = .ok (.ifCond .ge 7, 3) := dk_156 0 7 (dk_at dksX9_ridOf_0 21 rfl rfl)
theorem dX9_ridOf_24 : decode cX9_ridOf 24 = .ok (.iload_n 3, 1) := dk_29 (dk_at dksX9_ridOf_1 0 rfl rfl)
theorem dX9_ridOf_25 : decode cX9_ridOf 25 = .ok (.goto 5, 3) := dk_167 0 5 (dk_at dksX9_ridOf_1 1 rfl rfl)
theorem dX9_ridOf_28 : decode cX9_ridOf 28 = .ok (.bipush (-9), 2) := dk_16 247 (dk_at dksX9_ridOf_1 4 rfl rfl)
theorem dX9_ridOf_30 : decode cX9_ridOf 30 = .ok (.istore_n 2, 1) := dk_61 (dk_at dksX9_ridOf_1 6 rfl rfl)
theorem dX9_ridOf_31 : decode cX9_ridOf 31 = .ok (.aload_n 0, 1) := dk_42 (dk_at dksX9_ridOf_1 7 rfl rfl)
theorem dX9_ridOf_32 : decode cX9_ridOf 32 = .ok (.invokevirtual 99, 3) := dk_182 0 99 (dk_at dksX9_ridOf_1 8 rfl rfl)
theorem dX9_ridOf_35 : decode cX9_ridOf 35 = .ok (.pop, 1) := dk_87 (dk_at dksX9_ridOf_1 11 rfl rfl)
theorem dX9_ridOf_36 : decode cX9_ridOf 36 = .ok (.iinc 3 1, 3) := dk_132 3 1 (dk_at dksX9_ridOf_1 12 rfl rfl)
theorem dX9_ridOf_39 : decode cX9_ridOf 39 = .ok (.goto (-34), 3) := dk_167 255 222 (dk_at dksX9_ridOf_1 15 rfl rfl)
theorem dX9_ridOf_42 : decode cX9_ridOf 42 = .ok (.aload_n 0, 1) := dk_42 (dk_at dksX9_ridOf_1 18 rfl rfl)
theorem dX9_ridOf_43 : decode cX9_ridOf 43 = .ok (.invokevirtual 109, 3) := dk_182 0 109 (dk_at dksX9_ridOf_1 19 rfl rfl)
theorem dX9_ridOf_46 : decode cX9_ridOf 46 = .ok (.iload_n 2, 1) := dk_28 (dk_at dksX9_ridOf_1 22 rfl rfl)
theorem dX9_ridOf_47 : decode cX9_ridOf 47 = .ok (.ireturn, 1) := dk_172 (dk_at dksX9_ridOf_1 23 rfl rfl)
abbrev cX9_instead : ByteArray := prog_28_method_59_code
def yX9_instead : MethodName := ⟨RX9, "instead", "(I)I"⟩
def dkwX9_instead_5 : List UInt8 := [167, 0, 11, 21, 6, 54, 5, 21, 7, 54, 4, 132, 6, 1, 167, 255, 191, 21, 5, 172]
abbrev dktX9_instead_5 : List UInt8 := dkwX9_instead_5 ++ []
def dkwX9_instead_4 : List UInt8 := [182, 0, 177, 54, 7, 21, 7, 155, 0, 26, 21, 4, 155, 0, 13, 21, 7, 21, 4, 161, 0, 6]
abbrev dktX9_instead_4 : List UInt8 := dkwX9_instead_4 ++ dktX9_instead_5
def dkwX9_instead_3 : List UInt8 := [5, 46, 162, 0, 60, 21, 6, 29, 160, 0, 6, 167, 0, 45, 42, 27, 21, 6, 182, 0, 81, 42, 27]
abbrev dktX9_instead_3 : List UInt8 := dkwX9_instead_3 ++ dktX9_instead_4
def dkwX9_instead_2 : List UInt8 := [182, 0, 61, 62, 42, 27, 182, 0, 177, 54, 4, 16, 247, 54, 5, 3, 54, 6, 21, 6, 42, 180, 0, 13]
abbrev dktX9_instead_2 : List UInt8 := dkwX9_instead_2 ++ dktX9_instead_3
def dkwX9_instead_1 : List UInt8 := [167, 0, 4, 3, 61, 28, 153, 0, 9, 42, 28, 182, 0, 120, 172, 42, 182, 0, 96, 42, 27, 6]
abbrev dktX9_instead_1 : List UInt8 := dkwX9_instead_1 ++ dktX9_instead_2
def dkwX9_instead_0 : List UInt8 := [42, 27, 182, 0, 144, 154, 0, 7, 2, 167, 0, 18, 42, 27, 6, 182, 0, 61, 156, 0, 8, 16, 253]
abbrev dktX9_instead_0 : List UInt8 := dkwX9_instead_0 ++ dktX9_instead_1
theorem dksX9_instead_0 : cX9_instead.data.toList.drop 0 = dktX9_instead_0 := by decide +kernel
theorem dksX9_instead_1 : cX9_instead.data.toList.drop 23 = dktX9_instead_1 := dk_seg dksX9_instead_0 23 rfl rfl
theorem dksX9_instead_2 : cX9_instead.data.toList.drop 45 = dktX9_instead_2 := dk_seg dksX9_instead_1 22 rfl rfl
theorem dksX9_instead_3 : cX9_instead.data.toList.drop 69 = dktX9_instead_3 := dk_seg dksX9_instead_2 24 rfl rfl
theorem dksX9_instead_4 : cX9_instead.data.toList.drop 92 = dktX9_instead_4 := dk_seg dksX9_instead_3 23 rfl rfl
theorem dksX9_instead_5 : cX9_instead.data.toList.drop 114 = dktX9_instead_5 := dk_seg dksX9_instead_4 22 rfl rfl
theorem dX9_instead_0 : decode cX9_instead 0 = .ok (.aload_n 0, 1) := dk_42 (dk_at dksX9_instead_0 0 rfl rfl)
theorem dX9_instead_1 : decode cX9_instead 1 = .ok (.iload_n 1, 1) := dk_27 (dk_at dksX9_instead_0 1 rfl rfl)
theorem dX9_instead_2 : decode cX9_instead 2 = .ok (.invokevirtual 144, 3) := dk_182 0 144 (dk_at dksX9_instead_0 2 rfl rfl)
theorem dX9_instead_5 : decode cX9_instead 5 = .ok (.ifCond .ne 7, 3) := dk_154 0 7 (dk_at dksX9_instead_0 5 rfl rfl)
theorem dX9_instead_8 : decode cX9_instead 8 = .ok (.iconst (-1), 1) := dk_2 (dk_at dksX9_instead_0 8 rfl rfl)
theorem dX9_instead_9 : decode cX9_instead 9 = .ok (.goto 18, 3) := dk_167 0 18 (dk_at dksX9_instead_0 9 rfl rfl)
theorem dX9_instead_12 : decode cX9_instead 12 = .ok (.aload_n 0, 1) := dk_42 (dk_at dksX9_instead_0 12 rfl rfl)
theorem dX9_instead_13 : decode cX9_instead 13 = .ok (.iload_n 1, 1) := dk_27 (dk_at dksX9_instead_0 13 rfl rfl)
theorem dX9_instead_14 : decode cX9_instead 14 = .ok (.iconst 3, 1) := dk_6 (dk_at dksX9_instead_0 14 rfl rfl)
theorem dX9_instead_15 : decode cX9_instead 15 = .ok (.invokevirtual 61, 3) := dk_182 0 61 (dk_at dksX9_instead_0 15 rfl rfl)
theorem dX9_instead_18 : decode cX9_instead 18 = .ok (.ifCond .ge 8, 3) := dk_156 0 8 (dk_at dksX9_instead_0 18 rfl rfl)
theorem dX9_instead_21 : decode cX9_instead 21 = .ok (.bipush (-3), 2) := dk_16 253 (dk_at dksX9_instead_0 21 rfl rfl)
theorem dX9_instead_23 : decode cX9_instead 23 = .ok (.goto 4, 3) := dk_167 0 4 (dk_at dksX9_instead_1 0 rfl rfl)
theorem dX9_instead_26 : decode cX9_instead 26 = .ok (.iconst 0, 1) := dk_3 (dk_at dksX9_instead_1 3 rfl rfl)
theorem dX9_instead_27 : decode cX9_instead 27 = .ok (.istore_n 2, 1) := dk_61 (dk_at dksX9_instead_1 4 rfl rfl)
theorem dX9_instead_28 : decode cX9_instead 28 = .ok (.iload_n 2, 1) := dk_28 (dk_at dksX9_instead_1 5 rfl rfl)
theorem dX9_instead_29 : decode cX9_instead 29 = .ok (.ifCond .eq 9, 3) := dk_153 0 9 (dk_at dksX9_instead_1 6 rfl rfl)
theorem dX9_instead_32 : decode cX9_instead 32 = .ok (.aload_n 0, 1) := dk_42 (dk_at dksX9_instead_1 9 rfl rfl)
theorem dX9_instead_33 : decode cX9_instead 33 = .ok (.iload_n 2, 1) := dk_28 (dk_at dksX9_instead_1 10 rfl rfl)
theorem dX9_instead_34 : decode cX9_instead 34 = .ok (.invokevirtual 120, 3) := dk_182 0 120 (dk_at dksX9_instead_1 11 rfl rfl)
theorem dX9_instead_37 : decode cX9_instead 37 = .ok (.ireturn, 1) := dk_172 (dk_at dksX9_instead_1 14 rfl rfl)
theorem dX9_instead_38 : decode cX9_instead 38 = .ok (.aload_n 0, 1) := dk_42 (dk_at dksX9_instead_1 15 rfl rfl)
theorem dX9_instead_39 : decode cX9_instead 39 = .ok (.invokevirtual 96, 3) := dk_182 0 96 (dk_at dksX9_instead_1 16 rfl rfl)
theorem dX9_instead_42 : decode cX9_instead 42 = .ok (.aload_n 0, 1) := dk_42 (dk_at dksX9_instead_1 19 rfl rfl)
theorem dX9_instead_43 : decode cX9_instead 43 = .ok (.iload_n 1, 1) := dk_27 (dk_at dksX9_instead_1 20 rfl rfl)
theorem dX9_instead_44 : decode cX9_instead 44 = .ok (.iconst 3, 1) := dk_6 (dk_at dksX9_instead_1 21 rfl rfl)
theorem dX9_instead_45 : decode cX9_instead 45 = .ok (.invokevirtual 61, 3) := dk_182 0 61 (dk_at dksX9_instead_2 0 rfl rfl)
theorem dX9_instead_48 : decode cX9_instead 48 = .ok (.istore_n 3, 1) := dk_62 (dk_at dksX9_instead_2 3 rfl rfl)
theorem dX9_instead_49 : decode cX9_instead 49 = .ok (.aload_n 0, 1) := dk_42 (dk_at dksX9_instead_2 4 rfl rfl)
theorem dX9_instead_50 : decode cX9_instead 50 = .ok (.iload_n 1, 1) := dk_27 (dk_at dksX9_instead_2 5 rfl rfl)
theorem dX9_instead_51 : decode cX9_instead 51 = .ok (.invokevirtual 177, 3) := dk_182 0 177 (dk_at dksX9_instead_2 6 rfl rfl)
theorem dX9_instead_54 : decode cX9_instead 54 = .ok (.istore 4, 2) := dk_54 4 (dk_at dksX9_instead_2 9 rfl rfl)
theorem dX9_instead_56 : decode cX9_instead 56 = .ok (.bipush (-9), 2) := dk_16 247 (dk_at dksX9_instead_2 11 rfl rfl)
theorem dX9_instead_58 : decode cX9_instead 58 = .ok (.istore 5, 2) := dk_54 5 (dk_at dksX9_instead_2 13 rfl rfl)
theorem dX9_instead_60 : decode cX9_instead 60 = .ok (.iconst 0, 1) := dk_3 (dk_at dksX9_instead_2 15 rfl rfl)
theorem dX9_instead_61 : decode cX9_instead 61 = .ok (.istore 6, 2) := dk_54 6 (dk_at dksX9_instead_2 16 rfl rfl)
theorem dX9_instead_63 : decode cX9_instead 63 = .ok (.iload 6, 2) := dk_21 6 (dk_at dksX9_instead_2 18 rfl rfl)
theorem dX9_instead_65 : decode cX9_instead 65 = .ok (.aload_n 0, 1) := dk_42 (dk_at dksX9_instead_2 20 rfl rfl)
theorem dX9_instead_66 : decode cX9_instead 66 = .ok (.getfield 13, 3) := dk_180 0 13 (dk_at dksX9_instead_2 21 rfl rfl)
theorem dX9_instead_69 : decode cX9_instead 69 = .ok (.iconst 2, 1) := dk_5 (dk_at dksX9_instead_3 0 rfl rfl)
theorem dX9_instead_70 : decode cX9_instead 70 = .ok (.iaload, 1) := dk_46 (dk_at dksX9_instead_3 1 rfl rfl)
theorem dX9_instead_71 : decode cX9_instead 71 = .ok (.if_icmp .ge 60, 3) := dk_162 0 60 (dk_at dksX9_instead_3 2 rfl rfl)
theorem dX9_instead_74 : decode cX9_instead 74 = .ok (.iload 6, 2) := dk_21 6 (dk_at dksX9_instead_3 5 rfl rfl)
theorem dX9_instead_76 : decode cX9_instead 76 = .ok (.iload_n 3, 1) := dk_29 (dk_at dksX9_instead_3 7 rfl rfl)
theorem dX9_instead_77 : decode cX9_instead 77 = .ok (.if_icmp .ne 6, 3) := dk_160 0 6 (dk_at dksX9_instead_3 8 rfl rfl)
theorem dX9_instead_80 : decode cX9_instead 80 = .ok (.goto 45, 3) := dk_167 0 45 (dk_at dksX9_instead_3 11 rfl rfl)
theorem dX9_instead_83 : decode cX9_instead 83 = .ok (.aload_n 0, 1) := dk_42 (dk_at dksX9_instead_3 14 rfl rfl)
theorem dX9_instead_84 : decode cX9_instead 84 = .ok (.iload_n 1, 1) := dk_27 (dk_at dksX9_instead_3 15 rfl rfl)
theorem dX9_instead_85 : decode cX9_instead 85 = .ok (.iload 6, 2) := dk_21 6 (dk_at dksX9_instead_3 16 rfl rfl)
theorem dX9_instead_87 : decode cX9_instead 87 = .ok (.invokevirtual 81, 3) := dk_182 0 81 (dk_at dksX9_instead_3 18 rfl rfl)
theorem dX9_instead_90 : decode cX9_instead 90 = .ok (.aload_n 0, 1) := dk_42 (dk_at dksX9_instead_3 21 rfl rfl)
theorem dX9_instead_91 : decode cX9_instead 91 = .ok (.iload_n 1, 1) := dk_27 (dk_at dksX9_instead_3 22 rfl rfl)
theorem dX9_instead_92 : decode cX9_instead 92 = .ok (.invokevirtual 177, 3) := dk_182 0 177 (dk_at dksX9_instead_4 0 rfl rfl)
theorem dX9_instead_95 : decode cX9_instead 95 = .ok (.istore 7, 2) := dk_54 7 (dk_at dksX9_instead_4 3 rfl rfl)
theorem dX9_instead_97 : decode cX9_instead 97 = .ok (.iload 7, 2) := dk_21 7 (dk_at dksX9_instead_4 5 rfl rfl)
theorem dX9_instead_99 : decode cX9_instead 99 = .ok (.ifCond .lt 26, 3) := dk_155 0 26 (dk_at dksX9_instead_4 7 rfl rfl)
theorem dX9_instead_102 : decode cX9_instead 102 = .ok (.iload 4, 2) := dk_21 4 (dk_at dksX9_instead_4 10 rfl rfl)
theorem dX9_instead_104 : decode cX9_instead 104 = .ok (.ifCond .lt 13, 3) := dk_155 0 13 (dk_at dksX9_instead_4 12 rfl rfl)
theorem dX9_instead_107 : decode cX9_instead 107 = .ok (.iload 7, 2) := dk_21 7 (dk_at dksX9_instead_4 15 rfl rfl)
theorem dX9_instead_109 : decode cX9_instead 109 = .ok (.iload 4, 2) := dk_21 4 (dk_at dksX9_instead_4 17 rfl rfl)
theorem dX9_instead_111 : decode cX9_instead 111 = .ok (.if_icmp .lt 6, 3) := dk_161 0 6 (dk_at dksX9_instead_4 19 rfl rfl)
theorem dX9_instead_114 : decode cX9_instead 114 = .ok (.goto 11, 3) := dk_167 0 11 (dk_at dksX9_instead_5 0 rfl rfl)
theorem dX9_instead_117 : decode cX9_instead 117 = .ok (.iload 6, 2) := dk_21 6 (dk_at dksX9_instead_5 3 rfl rfl)
theorem dX9_instead_119 : decode cX9_instead 119 = .ok (.istore 5, 2) := dk_54 5 (dk_at dksX9_instead_5 5 rfl rfl)
theorem dX9_instead_121 : decode cX9_instead 121 = .ok (.iload 7, 2) := dk_21 7 (dk_at dksX9_instead_5 7 rfl rfl)
theorem dX9_instead_123 : decode cX9_instead 123 = .ok (.istore 4, 2) := dk_54 4 (dk_at dksX9_instead_5 9 rfl rfl)
theorem dX9_instead_125 : decode cX9_instead 125 = .ok (.iinc 6 1, 3) := dk_132 6 1 (dk_at dksX9_instead_5 11 rfl rfl)
theorem dX9_instead_128 : decode cX9_instead 128 = .ok (.goto (-65), 3) := dk_167 255 191 (dk_at dksX9_instead_5 14 rfl rfl)
theorem dX9_instead_131 : decode cX9_instead 131 = .ok (.iload 5, 2) := dk_21 5 (dk_at dksX9_instead_5 17 rfl rfl)
theorem dX9_instead_133 : decode cX9_instead 133 = .ok (.ireturn, 1) := dk_172 (dk_at dksX9_instead_5 19 rfl rfl)
abbrev cX9_shut : ByteArray := prog_28_method_60_code
def yX9_shut : MethodName := ⟨RX9, "shut", "(I)I"⟩
def dkwX9_shut_5 : List UInt8 := [167, 255, 174, 21, 4, 172]
abbrev dktX9_shut_5 : List UInt8 := dkwX9_shut_5 ++ []
def dkwX9_shut_4 : List UInt8 := [167, 0, 5, 21, 4, 54, 4, 21, 6, 29, 162, 0, 8, 21, 6, 167, 0, 4, 29, 62, 132, 5, 1]
abbrev dktX9_shut_4 : List UInt8 := dkwX9_shut_4 ++ dktX9_shut_5
def dkwX9_shut_3 : List UInt8 := [21, 5, 120, 2, 130, 126, 79, 42, 2, 27, 182, 0, 167, 54, 6, 21, 6, 29, 162, 0, 8, 21, 5]
abbrev dktX9_shut_3 : List UInt8 := dkwX9_shut_3 ++ dktX9_shut_4
def dkwX9_shut_2 : List UInt8 := [180, 0, 13, 4, 46, 21, 5, 122, 4, 126, 154, 0, 6, 167, 0, 54, 42, 180, 0, 13, 4, 92, 46, 4]
abbrev dktX9_shut_2 : List UInt8 := dkwX9_shut_2 ++ dktX9_shut_3
def dkwX9_shut_1 : List UInt8 := [27, 182, 0, 167, 62, 16, 247, 54, 4, 3, 54, 5, 21, 5, 42, 180, 0, 13, 3, 46, 162, 0, 77, 42]
abbrev dktX9_shut_1 : List UInt8 := dkwX9_shut_1 ++ dktX9_shut_2
def dkwX9_shut_0 : List UInt8 := [27, 3, 16, 60, 184, 0, 112, 61, 28, 153, 0, 9, 42, 28, 182, 0, 120, 172, 42, 182, 0, 96, 42, 2]
abbrev dktX9_shut_0 : List UInt8 := dkwX9_shut_0 ++ dktX9_shut_1
theorem dksX9_shut_0 : cX9_shut.data.toList.drop 0 = dktX9_shut_0 := by decide +kernel
theorem dksX9_shut_1 : cX9_shut.data.toList.drop 24 = dktX9_shut_1 := dk_seg dksX9_shut_0 24 rfl rfl
theorem dksX9_shut_2 : cX9_shut.data.toList.drop 48 = dktX9_shut_2 := dk_seg dksX9_shut_1 24 rfl rfl
theorem dksX9_shut_3 : cX9_shut.data.toList.drop 72 = dktX9_shut_3 := dk_seg dksX9_shut_2 24 rfl rfl
theorem dksX9_shut_4 : cX9_shut.data.toList.drop 95 = dktX9_shut_4 := dk_seg dksX9_shut_3 23 rfl rfl
theorem dksX9_shut_5 : cX9_shut.data.toList.drop 118 = dktX9_shut_5 := dk_seg dksX9_shut_4 23 rfl rfl
theorem dX9_shut_0 : decode cX9_shut 0 = .ok (.iload_n 1, 1) := dk_27 (dk_at dksX9_shut_0 0 rfl rfl)
theorem dX9_shut_1 : decode cX9_shut 1 = .ok (.iconst 0, 1) := dk_3 (dk_at dksX9_shut_0 1 rfl rfl)
theorem dX9_shut_2 : decode cX9_shut 2 = .ok (.bipush 60, 2) := dk_16 60 (dk_at dksX9_shut_0 2 rfl rfl)
theorem dX9_shut_4 : decode cX9_shut 4 = .ok (.invokestatic 112, 3) := dk_184 0 112 (dk_at dksX9_shut_0 4 rfl rfl)
theorem dX9_shut_7 : decode cX9_shut 7 = .ok (.istore_n 2, 1) := dk_61 (dk_at dksX9_shut_0 7 rfl rfl)
theorem dX9_shut_8 : decode cX9_shut 8 = .ok (.iload_n 2, 1) := dk_28 (dk_at dksX9_shut_0 8 rfl rfl)
theorem dX9_shut_9 : decode cX9_shut 9 = .ok (.ifCond .eq 9, 3) := dk_153 0 9 (dk_at dksX9_shut_0 9 rfl rfl)
theorem dX9_shut_12 : decode cX9_shut 12 = .ok (.aload_n 0, 1) := dk_42 (dk_at dksX9_shut_0 12 rfl rfl)
theorem dX9_shut_13 : decode cX9_shut 13 = .ok (.iload_n 2, 1) := dk_28 (dk_at dksX9_shut_0 13 rfl rfl)
theorem dX9_shut_14 : decode cX9_shut 14 = .ok (.invokevirtual 120, 3) := dk_182 0 120 (dk_at dksX9_shut_0 14 rfl rfl)
theorem dX9_shut_17 : decode cX9_shut 17 = .ok (.ireturn, 1) := dk_172 (dk_at dksX9_shut_0 17 rfl rfl)
theorem dX9_shut_18 : decode cX9_shut 18 = .ok (.aload_n 0, 1) := dk_42 (dk_at dksX9_shut_0 18 rfl rfl)
theorem dX9_shut_19 : decode cX9_shut 19 = .ok (.invokevirtual 96, 3) := dk_182 0 96 (dk_at dksX9_shut_0 19 rfl rfl)
theorem dX9_shut_22 : decode cX9_shut 22 = .ok (.aload_n 0, 1) := dk_42 (dk_at dksX9_shut_0 22 rfl rfl)
theorem dX9_shut_23 : decode cX9_shut 23 = .ok (.iconst (-1), 1) := dk_2 (dk_at dksX9_shut_0 23 rfl rfl)
theorem dX9_shut_24 : decode cX9_shut 24 = .ok (.iload_n 1, 1) := dk_27 (dk_at dksX9_shut_1 0 rfl rfl)
theorem dX9_shut_25 : decode cX9_shut 25 = .ok (.invokevirtual 167, 3) := dk_182 0 167 (dk_at dksX9_shut_1 1 rfl rfl)
theorem dX9_shut_28 : decode cX9_shut 28 = .ok (.istore_n 3, 1) := dk_62 (dk_at dksX9_shut_1 4 rfl rfl)
theorem dX9_shut_29 : decode cX9_shut 29 = .ok (.bipush (-9), 2) := dk_16 247 (dk_at dksX9_shut_1 5 rfl rfl)
theorem dX9_shut_31 : decode cX9_shut 31 = .ok (.istore 4, 2) := dk_54 4 (dk_at dksX9_shut_1 7 rfl rfl)
theorem dX9_shut_33 : decode cX9_shut 33 = .ok (.iconst 0, 1) := dk_3 (dk_at dksX9_shut_1 9 rfl rfl)
theorem dX9_shut_34 : decode cX9_shut 34 = .ok (.istore 5, 2) := dk_54 5 (dk_at dksX9_shut_1 10 rfl rfl)
theorem dX9_shut_36 : decode cX9_shut 36 = .ok (.iload 5, 2) := dk_21 5 (dk_at dksX9_shut_1 12 rfl rfl)
theorem dX9_shut_38 : decode cX9_shut 38 = .ok (.aload_n 0, 1) := dk_42 (dk_at dksX9_shut_1 14 rfl rfl)
theorem dX9_shut_39 : decode cX9_shut 39 = .ok (.getfield 13, 3) := dk_180 0 13 (dk_at dksX9_shut_1 15 rfl rfl)
theorem dX9_shut_42 : decode cX9_shut 42 = .ok (.iconst 0, 1) := dk_3 (dk_at dksX9_shut_1 18 rfl rfl)
theorem dX9_shut_43 : decode cX9_shut 43 = .ok (.iaload, 1) := dk_46 (dk_at dksX9_shut_1 19 rfl rfl)
theorem dX9_shut_44 : decode cX9_shut 44 = .ok (.if_icmp .ge 77, 3) := dk_162 0 77 (dk_at dksX9_shut_1 20 rfl rfl)
theorem dX9_shut_47 : decode cX9_shut 47 = .ok (.aload_n 0, 1) := dk_42 (dk_at dksX9_shut_1 23 rfl rfl)
theorem dX9_shut_48 : decode cX9_shut 48 = .ok (.getfield 13, 3) := dk_180 0 13 (dk_at dksX9_shut_2 0 rfl rfl)
theorem dX9_shut_51 : decode cX9_shut 51 = .ok (.iconst 1, 1) := dk_4 (dk_at dksX9_shut_2 3 rfl rfl)
theorem dX9_shut_52 : decode cX9_shut 52 = .ok (.iaload, 1) := dk_46 (dk_at dksX9_shut_2 4 rfl rfl)
theorem dX9_shut_53 : decode cX9_shut 53 = .ok (.iload 5, 2) := dk_21 5 (dk_at dksX9_shut_2 5 rfl rfl)
theorem dX9_shut_55 : decode cX9_shut 55 = .ok (.ishr, 1) := dk_122 (dk_at dksX9_shut_2 7 rfl rfl)
theorem dX9_shut_56 : decode cX9_shut 56 = .ok (.iconst 1, 1) := dk_4 (dk_at dksX9_shut_2 8 rfl rfl)
theorem dX9_shut_57 : decode cX9_shut 57 = .ok (.iand, 1) := dk_126 (dk_at dksX9_shut_2 9 rfl rfl)
theorem dX9_shut_58 : decode cX9_shut 58 = .ok (.ifCond .ne 6, 3) := dk_154 0 6 (dk_at dksX9_shut_2 10 rfl rfl)
theorem dX9_shut_61 : decode cX9_shut 61 = .ok (.goto 54, 3) := dk_167 0 54 (dk_at dksX9_shut_2 13 rfl rfl)
theorem dX9_shut_64 : decode cX9_shut 64 = .ok (.aload_n 0, 1) := dk_42 (dk_at dksX9_shut_2 16 rfl rfl)
theorem dX9_shut_65 : decode cX9_shut 65 = .ok (.getfield 13, 3) := dk_180 0 13 (dk_at dksX9_shut_2 17 rfl rfl)
theorem dX9_shut_68 : decode cX9_shut 68 = .ok (.iconst 1, 1) := dk_4 (dk_at dksX9_shut_2 20 rfl rfl)
theorem dX9_shut_69 : decode cX9_shut 69 = .ok (.dup2, 1) := dk_92 (dk_at dksX9_shut_2 21 rfl rfl)
theorem dX9_shut_70 : decode cX9_shut 70 = .ok (.iaload, 1) := dk_46 (dk_at dksX9_shut_2 22 rfl rfl)
theorem dX9_shut_71 : decode cX9_shut 71 = .ok (.iconst 1, 1) := dk_4 (dk_at dksX9_shut_2 23 rfl rfl)
theorem dX9_shut_72 : decode cX9_shut 72 = .ok (.iload 5, 2) := dk_21 5 (dk_at dksX9_shut_3 0 rfl rfl)
theorem dX9_shut_74 : decode cX9_shut 74 = .ok (.ishl, 1) := dk_120 (dk_at dksX9_shut_3 2 rfl rfl)
theorem dX9_shut_75 : decode cX9_shut 75 = .ok (.iconst (-1), 1) := dk_2 (dk_at dksX9_shut_3 3 rfl rfl)
theorem dX9_shut_76 : decode cX9_shut 76 = .ok (.ixor, 1) := dk_130 (dk_at dksX9_shut_3 4 rfl rfl)
theorem dX9_shut_77 : decode cX9_shut 77 = .ok (.iand, 1) := dk_126 (dk_at dksX9_shut_3 5 rfl rfl)
theorem dX9_shut_78 : decode cX9_shut 78 = .ok (.iastore, 1) := dk_79 (dk_at dksX9_shut_3 6 rfl rfl)
theorem dX9_shut_79 : decode cX9_shut 79 = .ok (.aload_n 0, 1) := dk_42 (dk_at dksX9_shut_3 7 rfl rfl)
theorem dX9_shut_80 : decode cX9_shut 80 = .ok (.iconst (-1), 1) := dk_2 (dk_at dksX9_shut_3 8 rfl rfl)
theorem dX9_shut_81 : decode cX9_shut 81 = .ok (.iload_n 1, 1) := dk_27 (dk_at dksX9_shut_3 9 rfl rfl)
theorem dX9_shut_82 : decode cX9_shut 82 = .ok (.invokevirtual 167, 3) := dk_182 0 167 (dk_at dksX9_shut_3 10 rfl rfl)
theorem dX9_shut_85 : decode cX9_shut 85 = .ok (.istore 6, 2) := dk_54 6 (dk_at dksX9_shut_3 13 rfl rfl)
theorem dX9_shut_87 : decode cX9_shut 87 = .ok (.iload 6, 2) := dk_21 6 (dk_at dksX9_shut_3 15 rfl rfl)
theorem dX9_shut_89 : decode cX9_shut 89 = .ok (.iload_n 3, 1) := dk_29 (dk_at dksX9_shut_3 17 rfl rfl)
theorem dX9_shut_90 : decode cX9_shut 90 = .ok (.if_icmp .ge 8, 3) := dk_162 0 8 (dk_at dksX9_shut_3 18 rfl rfl)
theorem dX9_shut_93 : decode cX9_shut 93 = .ok (.iload 5, 2) := dk_21 5 (dk_at dksX9_shut_3 21 rfl rfl)
theorem dX9_shut_95 : decode cX9_shut 95 = .ok (.goto 5, 3) := dk_167 0 5 (dk_at dksX9_shut_4 0 rfl rfl)
theorem dX9_shut_98 : decode cX9_shut 98 = .ok (.iload 4, 2) := dk_21 4 (dk_at dksX9_shut_4 3 rfl rfl)
theorem dX9_shut_100 : decode cX9_shut 100 = .ok (.istore 4, 2) := dk_54 4 (dk_at dksX9_shut_4 5 rfl rfl)
theorem dX9_shut_102 : decode cX9_shut 102 = .ok (.iload 6, 2) := dk_21 6 (dk_at dksX9_shut_4 7 rfl rfl)
theorem dX9_shut_104 : decode cX9_shut 104 = .ok (.iload_n 3, 1) := dk_29 (dk_at dksX9_shut_4 9 rfl rfl)
theorem dX9_shut_105 : decode cX9_shut 105 = .ok (.if_icmp .ge 8, 3) := dk_162 0 8 (dk_at dksX9_shut_4 10 rfl rfl)
theorem dX9_shut_108 : decode cX9_shut 108 = .ok (.iload 6, 2) := dk_21 6 (dk_at dksX9_shut_4 13 rfl rfl)
theorem dX9_shut_110 : decode cX9_shut 110 = .ok (.goto 4, 3) := dk_167 0 4 (dk_at dksX9_shut_4 15 rfl rfl)
theorem dX9_shut_113 : decode cX9_shut 113 = .ok (.iload_n 3, 1) := dk_29 (dk_at dksX9_shut_4 18 rfl rfl)
theorem dX9_shut_114 : decode cX9_shut 114 = .ok (.istore_n 3, 1) := dk_62 (dk_at dksX9_shut_4 19 rfl rfl)
theorem dX9_shut_115 : decode cX9_shut 115 = .ok (.iinc 5 1, 3) := dk_132 5 1 (dk_at dksX9_shut_4 20 rfl rfl)
theorem dX9_shut_118 : decode cX9_shut 118 = .ok (.goto (-82), 3) := dk_167 255 174 (dk_at dksX9_shut_5 0 rfl rfl)
theorem dX9_shut_121 : decode cX9_shut 121 = .ok (.iload 4, 2) := dk_21 4 (dk_at dksX9_shut_5 3 rfl rfl)
theorem dX9_shut_123 : decode cX9_shut 123 = .ok (.ireturn, 1) := dk_172 (dk_at dksX9_shut_5 5 rfl rfl)
abbrev cX9_seats : ByteArray := prog_28_method_61_code
def yX9_seats : MethodName := ⟨RX9, "seats", "(I)I"⟩
def dkwX9_seats_6 : List UInt8 := [167, 255, 168, 132, 5, 1, 167, 255, 145, 21, 4, 172]
abbrev dktX9_seats_6 : List UInt8 := dkwX9_seats_6 ++ []
def dkwX9_seats_5 : List UInt8 := [96, 167, 0, 5, 21, 4, 54, 4, 21, 8, 29, 162, 0, 8, 21, 8, 167, 0, 4, 29, 62, 132, 6, 1]
abbrev dktX9_seats_5 : List UInt8 := dkwX9_seats_5 ++ dktX9_seats_6
def dkwX9_seats_4 : List UInt8 := [182, 0, 64, 42, 2, 27, 182, 0, 167, 54, 8, 21, 8, 29, 162, 0, 14, 16, 10, 21, 5, 104, 21, 6]
abbrev dktX9_seats_4 : List UInt8 := dkwX9_seats_4 ++ dktX9_seats_5
def dkwX9_seats_3 : List UInt8 := [54, 7, 42, 21, 5, 4, 42, 21, 6, 4, 182, 0, 61, 182, 0, 64, 42, 21, 6, 4, 21, 7]
abbrev dktX9_seats_3 : List UInt8 := dkwX9_seats_3 ++ dktX9_seats_4
def dkwX9_seats_2 : List UInt8 := [21, 5, 4, 96, 54, 6, 21, 6, 42, 180, 0, 13, 6, 46, 162, 0, 83, 42, 21, 5, 4, 182, 0, 61]
abbrev dktX9_seats_2 : List UInt8 := dkwX9_seats_2 ++ dktX9_seats_3
def dkwX9_seats_1 : List UInt8 := [27, 182, 0, 167, 62, 16, 247, 54, 4, 3, 54, 5, 21, 5, 42, 180, 0, 13, 6, 46, 162, 0, 106]
abbrev dktX9_seats_1 : List UInt8 := dkwX9_seats_1 ++ dktX9_seats_2
def dkwX9_seats_0 : List UInt8 := [27, 3, 16, 60, 184, 0, 112, 61, 28, 153, 0, 9, 42, 28, 182, 0, 120, 172, 42, 182, 0, 96, 42, 2]
abbrev dktX9_seats_0 : List UInt8 := dkwX9_seats_0 ++ dktX9_seats_1
theorem dksX9_seats_0 : cX9_seats.data.toList.drop 0 = dktX9_seats_0 := by decide +kernel
theorem dksX9_seats_1 : cX9_seats.data.toList.drop 24 = dktX9_seats_1 := dk_seg dksX9_seats_0 24 rfl rfl
theorem dksX9_seats_2 : cX9_seats.data.toList.drop 47 = dktX9_seats_2 := dk_seg dksX9_seats_1 23 rfl rfl
theorem dksX9_seats_3 : cX9_seats.data.toList.drop 71 = dktX9_seats_3 := dk_seg dksX9_seats_2 24 rfl rfl
theorem dksX9_seats_4 : cX9_seats.data.toList.drop 93 = dktX9_seats_4 := dk_seg dksX9_seats_3 22 rfl rfl
theorem dksX9_seats_5 : cX9_seats.data.toList.drop 117 = dktX9_seats_5 := dk_seg dksX9_seats_4 24 rfl rfl
theorem dksX9_seats_6 : cX9_seats.data.toList.drop 141 = dktX9_seats_6 := dk_seg dksX9_seats_5 24 rfl rfl
theorem dX9_seats_0 : decode cX9_seats 0 = .ok (.iload_n 1, 1) := dk_27 (dk_at dksX9_seats_0 0 rfl rfl)
theorem dX9_seats_1 : decode cX9_seats 1 = .ok (.iconst 0, 1) := dk_3 (dk_at dksX9_seats_0 1 rfl rfl)
theorem dX9_seats_2 : decode cX9_seats 2 = .ok (.bipush 60, 2) := dk_16 60 (dk_at dksX9_seats_0 2 rfl rfl)
theorem dX9_seats_4 : decode cX9_seats 4 = .ok (.invokestatic 112, 3) := dk_184 0 112 (dk_at dksX9_seats_0 4 rfl rfl)
theorem dX9_seats_7 : decode cX9_seats 7 = .ok (.istore_n 2, 1) := dk_61 (dk_at dksX9_seats_0 7 rfl rfl)
theorem dX9_seats_8 : decode cX9_seats 8 = .ok (.iload_n 2, 1) := dk_28 (dk_at dksX9_seats_0 8 rfl rfl)
theorem dX9_seats_9 : decode cX9_seats 9 = .ok (.ifCond .eq 9, 3) := dk_153 0 9 (dk_at dksX9_seats_0 9 rfl rfl)
theorem dX9_seats_12 : decode cX9_seats 12 = .ok (.aload_n 0, 1) := dk_42 (dk_at dksX9_seats_0 12 rfl rfl)
theorem dX9_seats_13 : decode cX9_seats 13 = .ok (.iload_n 2, 1) := dk_28 (dk_at dksX9_seats_0 13 rfl rfl)
theorem dX9_seats_14 : decode cX9_seats 14 = .ok (.invokevirtual 120, 3) := dk_182 0 120 (dk_at dksX9_seats_0 14 rfl rfl)
theorem dX9_seats_17 : decode cX9_seats 17 = .ok (.ireturn, 1) := dk_172 (dk_at dksX9_seats_0 17 rfl rfl)
theorem dX9_seats_18 : decode cX9_seats 18 = .ok (.aload_n 0, 1) := dk_42 (dk_at dksX9_seats_0 18 rfl rfl)
theorem dX9_seats_19 : decode cX9_seats 19 = .ok (.invokevirtual 96, 3) := dk_182 0 96 (dk_at dksX9_seats_0 19 rfl rfl)
theorem dX9_seats_22 : decode cX9_seats 22 = .ok (.aload_n 0, 1) := dk_42 (dk_at dksX9_seats_0 22 rfl rfl)
theorem dX9_seats_23 : decode cX9_seats 23 = .ok (.iconst (-1), 1) := dk_2 (dk_at dksX9_seats_0 23 rfl rfl)
theorem dX9_seats_24 : decode cX9_seats 24 = .ok (.iload_n 1, 1) := dk_27 (dk_at dksX9_seats_1 0 rfl rfl)
theorem dX9_seats_25 : decode cX9_seats 25 = .ok (.invokevirtual 167, 3) := dk_182 0 167 (dk_at dksX9_seats_1 1 rfl rfl)
theorem dX9_seats_28 : decode cX9_seats 28 = .ok (.istore_n 3, 1) := dk_62 (dk_at dksX9_seats_1 4 rfl rfl)
theorem dX9_seats_29 : decode cX9_seats 29 = .ok (.bipush (-9), 2) := dk_16 247 (dk_at dksX9_seats_1 5 rfl rfl)
theorem dX9_seats_31 : decode cX9_seats 31 = .ok (.istore 4, 2) := dk_54 4 (dk_at dksX9_seats_1 7 rfl rfl)
theorem dX9_seats_33 : decode cX9_seats 33 = .ok (.iconst 0, 1) := dk_3 (dk_at dksX9_seats_1 9 rfl rfl)
theorem dX9_seats_34 : decode cX9_seats 34 = .ok (.istore 5, 2) := dk_54 5 (dk_at dksX9_seats_1 10 rfl rfl)
theorem dX9_seats_36 : decode cX9_seats 36 = .ok (.iload 5, 2) := dk_21 5 (dk_at dksX9_seats_1 12 rfl rfl)
theorem dX9_seats_38 : decode cX9_seats 38 = .ok (.aload_n 0, 1) := dk_42 (dk_at dksX9_seats_1 14 rfl rfl)
theorem dX9_seats_39 : decode cX9_seats 39 = .ok (.getfield 13, 3) := dk_180 0 13 (dk_at dksX9_seats_1 15 rfl rfl)
theorem dX9_seats_42 : decode cX9_seats 42 = .ok (.iconst 3, 1) := dk_6 (dk_at dksX9_seats_1 18 rfl rfl)
theorem dX9_seats_43 : decode cX9_seats 43 = .ok (.iaload, 1) := dk_46 (dk_at dksX9_seats_1 19 rfl rfl)
theorem dX9_seats_44 : decode cX9_seats 44 = .ok (.if_icmp .ge 106, 3) := dk_162 0 106 (dk_at dksX9_seats_1 20 rfl rfl)
theorem dX9_seats_47 : decode cX9_seats 47 = .ok (.iload 5, 2) := dk_21 5 (dk_at dksX9_seats_2 0 rfl rfl)
theorem dX9_seats_49 : decode cX9_seats 49 = .ok (.iconst 1, 1) := dk_4 (dk_at dksX9_seats_2 2 rfl rfl)
theorem dX9_seats_50 : decode cX9_seats 50 = .ok (.iadd, 1) := dk_96 (dk_at dksX9_seats_2 3 rfl rfl)
theorem dX9_seats_51 : decode cX9_seats 51 = .ok (.istore 6, 2) := dk_54 6 (dk_at dksX9_seats_2 4 rfl rfl)
theorem dX9_seats_53 : decode cX9_seats 53 = .ok (.iload 6, 2) := dk_21 6 (dk_at dksX9_seats_2 6 rfl rfl)
theorem dX9_seats_55 : decode cX9_seats 55 = .ok (.aload_n 0, 1) := dk_42 (dk_at dksX9_seats_2 8 rfl rfl)
theorem dX9_seats_56 : decode cX9_seats 56 = .ok (.getfield 13, 3) := dk_180 0 13 (dk_at dksX9_seats_2 9 rfl rfl)
theorem dX9_seats_59 : decode cX9_seats 59 = .ok (.iconst 3, 1) := dk_6 (dk_at dksX9_seats_2 12 rfl rfl)
theorem dX9_seats_60 : decode cX9_seats 60 = .ok (.iaload, 1) := dk_46 (dk_at dksX9_seats_2 13 rfl rfl)
theorem dX9_seats_61 : decode cX9_seats 61 = .ok (.if_icmp .ge 83, 3) := dk_162 0 83 (dk_at dksX9_seats_2 14 rfl rfl)
theorem dX9_seats_64 : decode cX9_seats 64 = .ok (.aload_n 0, 1) := dk_42 (dk_at dksX9_seats_2 17 rfl rfl)
theorem dX9_seats_65 : decode cX9_seats 65 = .ok (.iload 5, 2) := dk_21 5 (dk_at dksX9_seats_2 18 rfl rfl)
theorem dX9_seats_67 : decode cX9_seats 67 = .ok (.iconst 1, 1) := dk_4 (dk_at dksX9_seats_2 20 rfl rfl)
theorem dX9_seats_68 : decode cX9_seats 68 = .ok (.invokevirtual 61, 3) := dk_182 0 61 (dk_at dksX9_seats_2 21 rfl rfl)
theorem dX9_seats_71 : decode cX9_seats 71 = .ok (.istore 7, 2) := dk_54 7 (dk_at dksX9_seats_3 0 rfl rfl)
theorem dX9_seats_73 : decode cX9_seats 73 = .ok (.aload_n 0, 1) := dk_42 (dk_at dksX9_seats_3 2 rfl rfl)
theorem dX9_seats_74 : decode cX9_seats 74 = .ok (.iload 5, 2) := dk_21 5 (dk_at dksX9_seats_3 3 rfl rfl)
theorem dX9_seats_76 : decode cX9_seats 76 = .ok (.iconst 1, 1) := dk_4 (dk_at dksX9_seats_3 5 rfl rfl)
theorem dX9_seats_77 : decode cX9_seats 77 = .ok (.aload_n 0, 1) := dk_42 (dk_at dksX9_seats_3 6 rfl rfl)
theorem dX9_seats_78 : decode cX9_seats 78 = .ok (.iload 6, 2) := dk_21 6 (dk_at dksX9_seats_3 7 rfl rfl)
theorem dX9_seats_80 : decode cX9_seats 80 = .ok (.iconst 1, 1) := dk_4 (dk_at dksX9_seats_3 9 rfl rfl)
theorem dX9_seats_81 : decode cX9_seats 81 = .ok (.invokevirtual 61, 3) := dk_182 0 61 (dk_at dksX9_seats_3 10 rfl rfl)
theorem dX9_seats_84 : decode cX9_seats 84 = .ok (.invokevirtual 64, 3) := dk_182 0 64 (dk_at dksX9_seats_3 13 rfl rfl)
theorem dX9_seats_87 : decode cX9_seats 87 = .ok (.aload_n 0, 1) := dk_42 (dk_at dksX9_seats_3 16 rfl rfl)
theorem dX9_seats_88 : decode cX9_seats 88 = .ok (.iload 6, 2) := dk_21 6 (dk_at dksX9_seats_3 17 rfl rfl)
theorem dX9_seats_90 : decode cX9_seats 90 = .ok (.iconst 1, 1) := dk_4 (dk_at dksX9_seats_3 19 rfl rfl)
theorem dX9_seats_91 : decode cX9_seats 91 = .ok (.iload 7, 2) := dk_21 7 (dk_at dksX9_seats_3 20 rfl rfl)
theorem dX9_seats_93 : decode cX9_seats 93 = .ok (.invokevirtual 64, 3) := dk_182 0 64 (dk_at dksX9_seats_4 0 rfl rfl)
theorem dX9_seats_96 : decode cX9_seats 96 = .ok (.aload_n 0, 1) := dk_42 (dk_at dksX9_seats_4 3 rfl rfl)
theorem dX9_seats_97 : decode cX9_seats 97 = .ok (.iconst (-1), 1) := dk_2 (dk_at dksX9_seats_4 4 rfl rfl)
theorem dX9_seats_98 : decode cX9_seats 98 = .ok (.iload_n 1, 1) := dk_27 (dk_at dksX9_seats_4 5 rfl rfl)
theorem dX9_seats_99 : decode cX9_seats 99 = .ok (.invokevirtual 167, 3) := dk_182 0 167 (dk_at dksX9_seats_4 6 rfl rfl)
theorem dX9_seats_102 : decode cX9_seats 102 = .ok (.istore 8, 2) := dk_54 8 (dk_at dksX9_seats_4 9 rfl rfl)
theorem dX9_seats_104 : decode cX9_seats 104 = .ok (.iload 8, 2) := dk_21 8 (dk_at dksX9_seats_4 11 rfl rfl)
theorem dX9_seats_106 : decode cX9_seats 106 = .ok (.iload_n 3, 1) := dk_29 (dk_at dksX9_seats_4 13 rfl rfl)
theorem dX9_seats_107 : decode cX9_seats 107 = .ok (.if_icmp .ge 14, 3) := dk_162 0 14 (dk_at dksX9_seats_4 14 rfl rfl)
theorem dX9_seats_110 : decode cX9_seats 110 = .ok (.bipush 10, 2) := dk_16 10 (dk_at dksX9_seats_4 17 rfl rfl)
theorem dX9_seats_112 : decode cX9_seats 112 = .ok (.iload 5, 2) := dk_21 5 (dk_at dksX9_seats_4 19 rfl rfl)
theorem dX9_seats_114 : decode cX9_seats 114 = .ok (.imul, 1) := dk_104 (dk_at dksX9_seats_4 21 rfl rfl)
theorem dX9_seats_115 : decode cX9_seats 115 = .ok (.iload 6, 2) := dk_21 6 (dk_at dksX9_seats_4 22 rfl rfl)
theorem dX9_seats_117 : decode cX9_seats 117 = .ok (.iadd, 1) := dk_96 (dk_at dksX9_seats_5 0 rfl rfl)
theorem dX9_seats_118 : decode cX9_seats 118 = .ok (.goto 5, 3) := dk_167 0 5 (dk_at dksX9_seats_5 1 rfl rfl)
theorem dX9_seats_121 : decode cX9_seats 121 = .ok (.iload 4, 2) := dk_21 4 (dk_at dksX9_seats_5 4 rfl rfl)
theorem dX9_seats_123 : decode cX9_seats 123 = .ok (.istore 4, 2) := dk_54 4 (dk_at dksX9_seats_5 6 rfl rfl)
theorem dX9_seats_125 : decode cX9_seats 125 = .ok (.iload 8, 2) := dk_21 8 (dk_at dksX9_seats_5 8 rfl rfl)
theorem dX9_seats_127 : decode cX9_seats 127 = .ok (.iload_n 3, 1) := dk_29 (dk_at dksX9_seats_5 10 rfl rfl)
theorem dX9_seats_128 : decode cX9_seats 128 = .ok (.if_icmp .ge 8, 3) := dk_162 0 8 (dk_at dksX9_seats_5 11 rfl rfl)
theorem dX9_seats_131 : decode cX9_seats 131 = .ok (.iload 8, 2) := dk_21 8 (dk_at dksX9_seats_5 14 rfl rfl)
theorem dX9_seats_133 : decode cX9_seats 133 = .ok (.goto 4, 3) := dk_167 0 4 (dk_at dksX9_seats_5 16 rfl rfl)
theorem dX9_seats_136 : decode cX9_seats 136 = .ok (.iload_n 3, 1) := dk_29 (dk_at dksX9_seats_5 19 rfl rfl)
theorem dX9_seats_137 : decode cX9_seats 137 = .ok (.istore_n 3, 1) := dk_62 (dk_at dksX9_seats_5 20 rfl rfl)
theorem dX9_seats_138 : decode cX9_seats 138 = .ok (.iinc 6 1, 3) := dk_132 6 1 (dk_at dksX9_seats_5 21 rfl rfl)
theorem dX9_seats_141 : decode cX9_seats 141 = .ok (.goto (-88), 3) := dk_167 255 168 (dk_at dksX9_seats_6 0 rfl rfl)
theorem dX9_seats_144 : decode cX9_seats 144 = .ok (.iinc 5 1, 3) := dk_132 5 1 (dk_at dksX9_seats_6 3 rfl rfl)
theorem dX9_seats_147 : decode cX9_seats 147 = .ok (.goto (-111), 3) := dk_167 255 145 (dk_at dksX9_seats_6 6 rfl rfl)
theorem dX9_seats_150 : decode cX9_seats 150 = .ok (.iload 4, 2) := dk_21 4 (dk_at dksX9_seats_6 9 rfl rfl)
theorem dX9_seats_152 : decode cX9_seats 152 = .ok (.ireturn, 1) := dk_172 (dk_at dksX9_seats_6 11 rfl rfl)
abbrev cX9_write : ByteArray := prog_28_method_62_code
def yX9_write : MethodName := ⟨RX9, "write", "(III)I"⟩
def dkwX9_write_10 : List UInt8 := [167, 0, 5, 21, 6, 172]
abbrev dktX9_write_10 : List UInt8 := dkwX9_write_10 ++ []
def dkwX9_write_9 : List UInt8 := [164, 0, 8, 21, 9, 167, 0, 5, 21, 6, 54, 6, 132, 7, 1, 167, 255, 129, 29, 154, 0, 8, 21, 5]
abbrev dktX9_write_9 : List UInt8 := dkwX9_write_9 ++ dktX9_write_10
def dkwX9_write_8 : List UInt8 := [54, 9, 21, 9, 21, 6, 164, 0, 8, 21, 7, 167, 0, 5, 21, 5, 54, 5, 21, 9, 21, 6]
abbrev dktX9_write_8 : List UInt8 := dkwX9_write_8 ++ dktX9_write_9
def dkwX9_write_7 : List UInt8 := [180, 0, 13, 5, 92, 46, 4, 96, 79, 42, 3, 21, 8, 182, 0, 81, 42, 21, 8, 28, 182, 0, 167]
abbrev dktX9_write_7 : List UInt8 := dkwX9_write_7 ++ dktX9_write_8
def dkwX9_write_6 : List UInt8 := [4, 96, 21, 7, 16, 10, 112, 79, 42, 180, 0, 13, 16, 22, 6, 21, 8, 104, 96, 5, 96, 27, 79, 42]
abbrev dktX9_write_6 : List UInt8 := dkwX9_write_6 ++ dktX9_write_7
def dkwX9_write_5 : List UInt8 := [16, 22, 6, 21, 8, 104, 96, 21, 7, 16, 10, 108, 79, 42, 180, 0, 13, 16, 22, 6, 21, 8, 104, 96]
abbrev dktX9_write_5 : List UInt8 := dkwX9_write_5 ++ dktX9_write_6
def dkwX9_write_4 : List UInt8 := [54, 6, 3, 54, 7, 21, 7, 16, 60, 162, 0, 126, 42, 180, 0, 13, 5, 46, 54, 8, 42, 180, 0, 13]
abbrev dktX9_write_4 : List UInt8 := dkwX9_write_4 ++ dktX9_write_5
def dkwX9_write_3 : List UInt8 := [54, 4, 21, 4, 153, 0, 10, 42, 21, 4, 182, 0, 120, 172, 42, 182, 0, 96, 16, 247, 54, 5, 16, 247]
abbrev dktX9_write_3 : List UInt8 := dkwX9_write_3 ++ dktX9_write_4
def dkwX9_write_2 : List UInt8 := [154, 0, 8, 16, 254, 167, 0, 18, 42, 180, 0, 13, 6, 46, 154, 0, 8, 16, 253, 167, 0, 4, 3]
abbrev dktX9_write_2 : List UInt8 := dkwX9_write_2 ++ dktX9_write_3
def dkwX9_write_1 : List UInt8 := [163, 0, 13, 42, 180, 0, 13, 5, 46, 8, 160, 0, 8, 16, 250, 167, 0, 31, 29, 5, 184, 0, 53]
abbrev dktX9_write_1 : List UInt8 := dkwX9_write_1 ++ dktX9_write_2
def dkwX9_write_0 : List UInt8 := [27, 4, 161, 0, 7, 28, 156, 0, 8, 16, 252, 167, 0, 58, 27, 16, 9, 163, 0, 19, 28, 16, 60]
abbrev dktX9_write_0 : List UInt8 := dkwX9_write_0 ++ dktX9_write_1
theorem dksX9_write_0 : cX9_write.data.toList.drop 0 = dktX9_write_0 := by decide +kernel
theorem dksX9_write_1 : cX9_write.data.toList.drop 23 = dktX9_write_1 := dk_seg dksX9_write_0 23 rfl rfl
theorem dksX9_write_2 : cX9_write.data.toList.drop 46 = dktX9_write_2 := dk_seg dksX9_write_1 23 rfl rfl
theorem dksX9_write_3 : cX9_write.data.toList.drop 69 = dktX9_write_3 := dk_seg dksX9_write_2 23 rfl rfl
theorem dksX9_write_4 : cX9_write.data.toList.drop 93 = dktX9_write_4 := dk_seg dksX9_write_3 24 rfl rfl
theorem dksX9_write_5 : cX9_write.data.toList.drop 117 = dktX9_write_5 := dk_seg dksX9_write_4 24 rfl rfl
theorem dksX9_write_6 : cX9_write.data.toList.drop 141 = dktX9_write_6 := dk_seg dksX9_write_5 24 rfl rfl
theorem dksX9_write_7 : cX9_write.data.toList.drop 165 = dktX9_write_7 := dk_seg dksX9_write_6 24 rfl rfl
theorem dksX9_write_8 : cX9_write.data.toList.drop 188 = dktX9_write_8 := dk_seg dksX9_write_7 23 rfl rfl
theorem dksX9_write_9 : cX9_write.data.toList.drop 210 = dktX9_write_9 := dk_seg dksX9_write_8 22 rfl rfl
theorem dksX9_write_10 : cX9_write.data.toList.drop 234 = dktX9_write_10 := dk_seg dksX9_write_9 24 rfl rfl
theorem dX9_write_0 : decode cX9_write 0 = .ok (.iload_n 1, 1) := dk_27 (dk_at dksX9_write_0 0 rfl rfl)
theorem dX9_write_1 : decode cX9_write 1 = .ok (.iconst 1, 1) := dk_4 (dk_at dksX9_write_0 1 rfl rfl)
theorem dX9_write_2 : decode cX9_write 2 = .ok (.if_icmp .lt 7, 3) := dk_161 0 7 (dk_at dksX9_write_0 2 rfl rfl)
theorem dX9_write_5 : decode cX9_write 5 = .ok (.iload_n 2, 1) := dk_28 (dk_at dksX9_write_0 5 rfl rfl)
theorem dX9_write_6 : decode cX9_write 6 = .ok (.ifCond .ge 8, 3) := dk_156 0 8 (dk_at dksX9_write_0 6 rfl rfl)
theorem dX9_write_9 : decode cX9_write 9 = .ok (.bipush (-4), 2) := dk_16 252 (dk_at dksX9_write_0 9 rfl rfl)
theorem dX9_write_11 : decode cX9_write 11 = .ok (.goto 58, 3) := dk_167 0 58 (dk_at dksX9_write_0 11 rfl rfl)
theorem dX9_write_14 : decode cX9_write 14 = .ok (.iload_n 1, 1) := dk_27 (dk_at dksX9_write_0 14 rfl rfl)
theorem dX9_write_15 : decode cX9_write 15 = .ok (.bipush 9, 2) := dk_16 9 (dk_at dksX9_write_0 15 rfl rfl)
theorem dX9_write_17 : decode cX9_write 17 = .ok (.if_icmp .gt 19, 3) := dk_163 0 19 (dk_at dksX9_write_0 17 rfl rfl)
theorem dX9_write_20 : decode cX9_write 20 = .ok (.iload_n 2, 1) := dk_28 (dk_at dksX9_write_0 20 rfl rfl)
theorem dX9_write_21 : decode cX9_write 21 = .ok (.bipush 60, 2) := dk_16 60 (dk_at dksX9_write_0 21 rfl rfl)
theorem dX9_write_23 : decode cX9_write 23 = .ok (.if_icmp .gt 13, 3) := dk_163 0 13 (dk_at dksX9_write_1 0 rfl rfl)
theorem dX9_write_26 : decode cX9_write 26 = .ok (.aload_n 0, 1) := dk_42 (dk_at dksX9_write_1 3 rfl rfl)
theorem dX9_write_27 : decode cX9_write 27 = .ok (.getfield 13, 3) := dk_180 0 13 (dk_at dksX9_write_1 4 rfl rfl)
theorem dX9_write_30 : decode cX9_write 30 = .ok (.iconst 2, 1) := dk_5 (dk_at dksX9_write_1 7 rfl rfl)
theorem dX9_write_31 : decode cX9_write 31 = .ok (.iaload, 1) := dk_46 (dk_at dksX9_write_1 8 rfl rfl)
theorem dX9_write_32 : decode cX9_write 32 = .ok (.iconst 5, 1) := dk_8 (dk_at dksX9_write_1 9 rfl rfl)
theorem dX9_write_33 : decode cX9_write 33 = .ok (.if_icmp .ne 8, 3) := dk_160 0 8 (dk_at dksX9_write_1 10 rfl rfl)
theorem dX9_write_36 : decode cX9_write 36 = .ok (.bipush (-6), 2) := dk_16 250 (dk_at dksX9_write_1 13 rfl rfl)
theorem dX9_write_38 : decode cX9_write 38 = .ok (.goto 31, 3) := dk_167 0 31 (dk_at dksX9_write_1 15 rfl rfl)
theorem dX9_write_41 : decode cX9_write 41 = .ok (.iload_n 3, 1) := dk_29 (dk_at dksX9_write_1 18 rfl rfl)
theorem dX9_write_42 : decode cX9_write 42 = .ok (.iconst 2, 1) := dk_5 (dk_at dksX9_write_1 19 rfl rfl)
theorem dX9_write_43 : decode cX9_write 43 = .ok (.invokestatic 53, 3) := dk_184 0 53 (dk_at dksX9_write_1 20 rfl rfl)
theorem dX9_write_46 : decode cX9_write 46 = .ok (.ifCond .ne 8, 3) := dk_154 0 8 (dk_at dksX9_write_2 0 rfl rfl)
theorem dX9_write_49 : decode cX9_write 49 = .ok (.bipush (-2), 2) := dk_16 254 (dk_at dksX9_write_2 3 rfl rfl)
theorem dX9_write_51 : decode cX9_write 51 = .ok (.goto 18, 3) := dk_167 0 18 (dk_at dksX9_write_2 5 rfl rfl)
theorem dX9_write_54 : decode cX9_write 54 = .ok (.aload_n 0, 1) := dk_42 (dk_at dksX9_write_2 8 rfl rfl)
theorem dX9_write_55 : decode cX9_write 55 = .ok (.getfield 13, 3) := dk_180 0 13 (dk_at dksX9_write_2 9 rfl rfl)
theorem dX9_write_58 : decode cX9_write 58 = .ok (.iconst 3, 1) := dk_6 (dk_at dksX9_write_2 12 rfl rfl)
theorem dX9_write_59 : decode cX9_write 59 = .ok (.iaload, 1) := dk_46 (dk_at dksX9_write_2 13 rfl rfl)
theorem dX9_write_60 : decode cX9_write 60 = .ok (.ifCond .ne 8, 3) := dk_154 0 8 (dk_at dksX9_write_2 14 rfl rfl)
theorem dX9_write_63 : decode cX9_write 63 = .ok (.bipush (-3), 2) := dk_16 253 (dk_at dksX9_write_2 17 rfl rfl)
theorem dX9_write_65 : decode cX9_write 65 = .ok (.goto 4, 3) := dk_167 0 4 (dk_at dksX9_write_2 19 rfl rfl)
theorem dX9_write_68 : decode cX9_write 68 = .ok (.iconst 0, 1) := dk_3 (dk_at dksX9_write_2 22 rfl rfl)
theorem dX9_write_69 : decode cX9_write 69 = .ok (.istore 4, 2) := dk_54 4 (dk_at dksX9_write_3 0 rfl rfl)
theorem dX9_write_71 : decode cX9_write 71 = .ok (.iload 4, 2) := dk_21 4 (dk_at dksX9_write_3 2 rfl rfl)
theorem dX9_write_73 : decode cX9_write 73 = .ok (.ifCond .eq 10, 3) := dk_153 0 10 (dk_at dksX9_write_3 4 rfl rfl)
theorem dX9_write_76 : decode cX9_write 76 = .ok (.aload_n 0, 1) := dk_42 (dk_at dksX9_write_3 7 rfl rfl)
theorem dX9_write_77 : decode cX9_write 77 = .ok (.iload 4, 2) := dk_21 4 (dk_at dksX9_write_3 8 rfl rfl)
theorem dX9_write_79 : decode cX9_write 79 = .ok (.invokevirtual 120, 3) := dk_182 0 120 (dk_at dksX9_write_3 10 rfl rfl)
theorem dX9_write_82 : decode cX9_write 82 = .ok (.ireturn, 1) := dk_172 (dk_at dksX9_write_3 13 rfl rfl)
theorem dX9_write_83 : decode cX9_write 83 = .ok (.aload_n 0, 1) := dk_42 (dk_at dksX9_write_3 14 rfl rfl)
theorem dX9_write_84 : decode cX9_write 84 = .ok (.invokevirtual 96, 3) := dk_182 0 96 (dk_at dksX9_write_3 15 rfl rfl)
theorem dX9_write_87 : decode cX9_write 87 = .ok (.bipush (-9), 2) := dk_16 247 (dk_at dksX9_write_3 18 rfl rfl)
theorem dX9_write_89 : decode cX9_write 89 = .ok (.istore 5, 2) := dk_54 5 (dk_at dksX9_write_3 20 rfl rfl)
theorem dX9_write_91 : decode cX9_write 91 = .ok (.bipush (-9), 2) := dk_16 247 (dk_at dksX9_write_3 22 rfl rfl)
theorem dX9_write_93 : decode cX9_write 93 = .ok (.istore 6, 2) := dk_54 6 (dk_at dksX9_write_4 0 rfl rfl)
theorem dX9_write_95 : decode cX9_write 95 = .ok (.iconst 0, 1) := dk_3 (dk_at dksX9_write_4 2 rfl rfl)
theorem dX9_write_96 : decode cX9_write 96 = .ok (.istore 7, 2) := dk_54 7 (dk_at dksX9_write_4 3 rfl rfl)
theorem dX9_write_98 : decode cX9_write 98 = .ok (.iload 7, 2) := dk_21 7 (dk_at dksX9_write_4 5 rfl rfl)
theorem dX9_write_100 : decode cX9_write 100 = .ok (.bipush 60, 2) := dk_16 60 (dk_at dksX9_write_4 7 rfl rfl)
theorem dX9_write_102 : decode cX9_write 102 = .ok (.if_icmp .ge 126, 3) := dk_162 0 126 (dk_at dksX9_write_4 9 rfl rfl)
theorem dX9_write_105 : decode cX9_write 105 = .ok (.aload_n 0, 1) := dk_42 (dk_at dksX9_write_4 12 rfl rfl)
theorem dX9_write_106 : decode cX9_write 106 = .ok (.getfield 13, 3) := dk_180 0 13 (dk_at dksX9_write_4 13 rfl rfl)
theorem dX9_write_109 : decode cX9_write 109 = .ok (.iconst 2, 1) := dk_5 (dk_at dksX9_write_4 16 rfl rfl)
theorem dX9_write_110 : decode cX9_write 110 = .ok (.iaload, 1) := dk_46 (dk_at dksX9_write_4 17 rfl rfl)
theorem dX9_write_111 : decode cX9_write 111 = .ok (.istore 8, 2) := dk_54 8 (dk_at dksX9_write_4 18 rfl rfl)
theorem dX9_write_113 : decode cX9_write 113 = .ok (.aload_n 0, 1) := dk_42 (dk_at dksX9_write_4 20 rfl rfl)
theorem dX9_write_114 : decode cX9_write 114 = .ok (.getfield 13, 3) := dk_180 0 13 (dk_at dksX9_write_4 21 rfl rfl)
theorem dX9_write_117 : decode cX9_write 117 = .ok (.bipush 22, 2) := dk_16 22 (dk_at dksX9_write_5 0 rfl rfl)
theorem dX9_write_119 : decode cX9_write 119 = .ok (.iconst 3, 1) := dk_6 (dk_at dksX9_write_5 2 rfl rfl)
theorem dX9_write_120 : decode cX9_write 120 = .ok (.iload 8, 2) := dk_21 8 (dk_at dksX9_write_5 3 rfl rfl)
theorem dX9_write_122 : decode cX9_write 122 = .ok (.imul, 1) := dk_104 (dk_at dksX9_write_5 5 rfl rfl)
theorem dX9_write_123 : decode cX9_write 123 = .ok (.iadd, 1) := dk_96 (dk_at dksX9_write_5 6 rfl rfl)
theorem dX9_write_124 : decode cX9_write 124 = .ok (.iload 7, 2) := dk_21 7 (dk_at dksX9_write_5 7 rfl rfl)
theorem dX9_write_126 : decode cX9_write 126 = .ok (.bipush 10, 2) := dk_16 10 (dk_at dksX9_write_5 9 rfl rfl)
theorem dX9_write_128 : decode cX9_write 128 = .ok (.idiv, 1) := dk_108 (dk_at dksX9_write_5 11 rfl rfl)
theorem dX9_write_129 : decode cX9_write 129 = .ok (.iastore, 1) := dk_79 (dk_at dksX9_write_5 12 rfl rfl)
theorem dX9_write_130 : decode cX9_write 130 = .ok (.aload_n 0, 1) := dk_42 (dk_at dksX9_write_5 13 rfl rfl)
theorem dX9_write_131 : decode cX9_write 131 = .ok (.getfield 13, 3) := dk_180 0 13 (dk_at dksX9_write_5 14 rfl rfl)
theorem dX9_write_134 : decode cX9_write 134 = .ok (.bipush 22, 2) := dk_16 22 (dk_at dksX9_write_5 17 rfl rfl)
theorem dX9_write_136 : decode cX9_write 136 = .ok (.iconst 3, 1) := dk_6 (dk_at dksX9_write_5 19 rfl rfl)
theorem dX9_write_137 : decode cX9_write 137 = .ok (.iload 8, 2) := dk_21 8 (dk_at dksX9_write_5 20 rfl rfl)
theorem dX9_write_139 : decode cX9_write 139 = .ok (.imul, 1) := dk_104 (dk_at dksX9_write_5 22 rfl rfl)
theorem dX9_write_140 : decode cX9_write 140 = .ok (.iadd, 1) := dk_96 (dk_at dksX9_write_5 23 rfl rfl)
theorem dX9_write_141 : decode cX9_write 141 = .ok (.iconst 1, 1) := dk_4 (dk_at dksX9_write_6 0 rfl rfl)
theorem dX9_write_142 : decode cX9_write 142 = .ok (.iadd, 1) := dk_96 (dk_at dksX9_write_6 1 rfl rfl)
theorem dX9_write_143 : decode cX9_write 143 = .ok (.iload 7, 2) := dk_21 7 (dk_at dksX9_write_6 2 rfl rfl)
theorem dX9_write_145 : decode cX9_write 145 = .ok (.bipush 10, 2) := dk_16 10 (dk_at dksX9_write_6 4 rfl rfl)
theorem dX9_write_147 : decode cX9_write 147 = .ok (.irem, 1) := dk_112 (dk_at dksX9_write_6 6 rfl rfl)
theorem dX9_write_148 : decode cX9_write 148 = .ok (.iastore, 1) := dk_79 (dk_at dksX9_write_6 7 rfl rfl)
theorem dX9_write_149 : decode cX9_write 149 = .ok (.aload_n 0, 1) := dk_42 (dk_at dksX9_write_6 8 rfl rfl)
theorem dX9_write_150 : decode cX9_write 150 = .ok (.getfield 13, 3) := dk_180 0 13 (dk_at dksX9_write_6 9 rfl rfl)
theorem dX9_write_153 : decode cX9_write 153 = .ok (.bipush 22, 2) := dk_16 22 (dk_at dksX9_write_6 12 rfl rfl)
theorem dX9_write_155 : decode cX9_write 155 = .ok (.iconst 3, 1) := dk_6 (dk_at dksX9_write_6 14 rfl rfl)
theorem dX9_write_156 : decode cX9_write 156 = .ok (.iload 8, 2) := dk_21 8 (dk_at dksX9_write_6 15 rfl rfl)
theorem dX9_write_158 : decode cX9_write 158 = .ok (.imul, 1) := dk_104 (dk_at dksX9_write_6 17 rfl rfl)
theorem dX9_write_159 : decode cX9_write 159 = .ok (.iadd, 1) := dk_96 (dk_at dksX9_write_6 18 rfl rfl)
theorem dX9_write_160 : decode cX9_write 160 = .ok (.iconst 2, 1) := dk_5 (dk_at dksX9_write_6 19 rfl rfl)
theorem dX9_write_161 : decode cX9_write 161 = .ok (.iadd, 1) := dk_96 (dk_at dksX9_write_6 20 rfl rfl)
theorem dX9_write_162 : decode cX9_write 162 = .ok (.iload_n 1, 1) := dk_27 (dk_at dksX9_write_6 21 rfl rfl)
theorem dX9_write_163 : decode cX9_write 163 = .ok (.iastore, 1) := dk_79 (dk_at dksX9_write_6 22 rfl rfl)
theorem dX9_write_164 : decode cX9_write 164 = .ok (.aload_n 0, 1) := dk_42 (dk_at dksX9_write_6 23 rfl rfl)
theorem dX9_write_165 : decode cX9_write 165 = .ok (.getfield 13, 3) := dk_180 0 13 (dk_at dksX9_write_7 0 rfl rfl)
theorem dX9_write_168 : decode cX9_write 168 = .ok (.iconst 2, 1) := dk_5 (dk_at dksX9_write_7 3 rfl rfl)
theorem dX9_write_169 : decode cX9_write 169 = .ok (.dup2, 1) := dk_92 (dk_at dksX9_write_7 4 rfl rfl)
theorem dX9_write_170 : decode cX9_write 170 = .ok (.iaload, 1) := dk_46 (dk_at dksX9_write_7 5 rfl rfl)
theorem dX9_write_171 : decode cX9_write 171 = .ok (.iconst 1, 1) := dk_4 (dk_at dksX9_write_7 6 rfl rfl)
theorem dX9_write_172 : decode cX9_write 172 = .ok (.iadd, 1) := dk_96 (dk_at dksX9_write_7 7 rfl rfl)
theorem dX9_write_173 : decode cX9_write 173 = .ok (.iastore, 1) := dk_79 (dk_at dksX9_write_7 8 rfl rfl)
theorem dX9_write_174 : decode cX9_write 174 = .ok (.aload_n 0, 1) := dk_42 (dk_at dksX9_write_7 9 rfl rfl)
theorem dX9_write_175 : decode cX9_write 175 = .ok (.iconst 0, 1) := dk_3 (dk_at dksX9_write_7 10 rfl rfl)
theorem dX9_write_176 : decode cX9_write 176 = .ok (.iload 8, 2) := dk_21 8 (dk_at dksX9_write_7 11 rfl rfl)
theorem dX9_write_178 : decode cX9_write 178 = .ok (.invokevirtual 81, 3) := dk_182 0 81 (dk_at dksX9_write_7 13 rfl rfl)
theorem dX9_write_181 : decode cX9_write 181 = .ok (.aload_n 0, 1) := dk_42 (dk_at dksX9_write_7 16 rfl rfl)
theorem dX9_write_182 : decode cX9_write 182 = .ok (.iload 8, 2) := dk_21 8 (dk_at dksX9_write_7 17 rfl rfl)
theorem dX9_write_184 : decode cX9_write 184 = .ok (.iload_n 2, 1) := dk_28 (dk_at dksX9_write_7 19 rfl rfl)
theorem dX9_write_185 : decode cX9_write 185 = .ok (.invokevirtual 167, 3) := dk_182 0 167 (dk_at dksX9_write_7 20 rfl rfl)
theorem dX9_write_188 : decode cX9_write 188 = .ok (.istore 9, 2) := dk_54 9 (dk_at dksX9_write_8 0 rfl rfl)
theorem dX9_write_190 : decode cX9_write 190 = .ok (.iload 9, 2) := dk_21 9 (dk_at dksX9_write_8 2 rfl rfl)
theorem dX9_write_192 : decode cX9_write 192 = .ok (.iload 6, 2) := dk_21 6 (dk_at dksX9_write_8 4 rfl rfl)
theorem dX9_write_194 : decode cX9_write 194 = .ok (.if_icmp .le 8, 3) := dk_164 0 8 (dk_at dksX9_write_8 6 rfl rfl)
theorem dX9_write_197 : decode cX9_write 197 = .ok (.iload 7, 2) := dk_21 7 (dk_at dksX9_write_8 9 rfl rfl)
theorem dX9_write_199 : decode cX9_write 199 = .ok (.goto 5, 3) := dk_167 0 5 (dk_at dksX9_write_8 11 rfl rfl)
theorem dX9_write_202 : decode cX9_write 202 = .ok (.iload 5, 2) := dk_21 5 (dk_at dksX9_write_8 14 rfl rfl)
theorem dX9_write_204 : decode cX9_write 204 = .ok (.istore 5, 2) := dk_54 5 (dk_at dksX9_write_8 16 rfl rfl)
theorem dX9_write_206 : decode cX9_write 206 = .ok (.iload 9, 2) := dk_21 9 (dk_at dksX9_write_8 18 rfl rfl)
theorem dX9_write_208 : decode cX9_write 208 = .ok (.iload 6, 2) := dk_21 6 (dk_at dksX9_write_8 20 rfl rfl)
theorem dX9_write_210 : decode cX9_write 210 = .ok (.if_icmp .le 8, 3) := dk_164 0 8 (dk_at dksX9_write_9 0 rfl rfl)
theorem dX9_write_213 : decode cX9_write 213 = .ok (.iload 9, 2) := dk_21 9 (dk_at dksX9_write_9 3 rfl rfl)
theorem dX9_write_215 : decode cX9_write 215 = .ok (.goto 5, 3) := dk_167 0 5 (dk_at dksX9_write_9 5 rfl rfl)
theorem dX9_write_218 : decode cX9_write 218 = .ok (.iload 6, 2) := dk_21 6 (dk_at dksX9_write_9 8 rfl rfl)
theorem dX9_write_220 : decode cX9_write 220 = .ok (.istore 6, 2) := dk_54 6 (dk_at dksX9_write_9 10 rfl rfl)
theorem dX9_write_222 : decode cX9_write 222 = .ok (.iinc 7 1, 3) := dk_132 7 1 (dk_at dksX9_write_9 12 rfl rfl)
theorem dX9_write_225 : decode cX9_write 225 = .ok (.goto (-127), 3) := dk_167 255 129 (dk_at dksX9_write_9 15 rfl rfl)
theorem dX9_write_228 : decode cX9_write 228 = .ok (.iload_n 3, 1) := dk_29 (dk_at dksX9_write_9 18 rfl rfl)
theorem dX9_write_229 : decode cX9_write 229 = .ok (.ifCond .ne 8, 3) := dk_154 0 8 (dk_at dksX9_write_9 19 rfl rfl)
theorem dX9_write_232 : decode cX9_write 232 = .ok (.iload 5, 2) := dk_21 5 (dk_at dksX9_write_9 22 rfl rfl)
theorem dX9_write_234 : decode cX9_write 234 = .ok (.goto 5, 3) := dk_167 0 5 (dk_at dksX9_write_10 0 rfl rfl)
theorem dX9_write_237 : decode cX9_write 237 = .ok (.iload 6, 2) := dk_21 6 (dk_at dksX9_write_10 3 rfl rfl)
theorem dX9_write_239 : decode cX9_write 239 = .ok (.ireturn, 1) := dk_172 (dk_at dksX9_write_10 5 rfl rfl)
abbrev cX9_row : ByteArray := prog_28_method_63_code
def yX9_row : MethodName := ⟨RX9, "row", "(I)I"⟩
def dkwX9_row_2 : List UInt8 := [180, 0, 180, 4, 96, 181, 0, 180, 42, 180, 0, 180, 172]
abbrev dktX9_row_2 : List UInt8 := dkwX9_row_2 ++ []
def dkwX9_row_1 : List UInt8 := [28, 153, 0, 9, 42, 28, 182, 0, 120, 172, 42, 180, 0, 46, 42, 180, 0, 180, 27, 79, 42, 89]
abbrev dktX9_row_1 : List UInt8 := dkwX9_row_1 ++ dktX9_row_2
def dkwX9_row_0 : List UInt8 := [27, 3, 16, 9, 184, 0, 112, 61, 28, 154, 0, 15, 42, 180, 0, 180, 16, 6, 160, 0, 6, 16, 250, 61]
abbrev dktX9_row_0 : List UInt8 := dkwX9_row_0 ++ dktX9_row_1
theorem dksX9_row_0 : cX9_row.data.toList.drop 0 = dktX9_row_0 := by decide +kernel
theorem dksX9_row_1 : cX9_row.data.toList.drop 24 = dktX9_row_1 := dk_seg dksX9_row_0 24 rfl rfl
theorem dksX9_row_2 : cX9_row.data.toList.drop 46 = dktX9_row_2 := dk_seg dksX9_row_1 22 rfl rfl
theorem dX9_row_0 : decode cX9_row 0 = .ok (.iload_n 1, 1) := dk_27 (dk_at dksX9_row_0 0 rfl rfl)
theorem dX9_row_1 : decode cX9_row 1 = .ok (.iconst 0, 1) := dk_3 (dk_at dksX9_row_0 1 rfl rfl)
theorem dX9_row_2 : decode cX9_row 2 = .ok (.bipush 9, 2) := dk_16 9 (dk_at dksX9_row_0 2 rfl rfl)
theorem dX9_row_4 : decode cX9_row 4 = .ok (.invokestatic 112, 3) := dk_184 0 112 (dk_at dksX9_row_0 4 rfl rfl)
theorem dX9_row_7 : decode cX9_row 7 = .ok (.istore_n 2, 1) := dk_61 (dk_at dksX9_row_0 7 rfl rfl)
theorem dX9_row_8 : decode cX9_row 8 = .ok (.iload_n 2, 1) := dk_28 (dk_at dksX9_row_0 8 rfl rfl)
theorem dX9_row_9 : decode cX9_row 9 = .ok (.ifCond .ne 15, 3) := dk_154 0 15 (dk_at dksX9_row_0 9 rfl rfl)
theorem dX9_row_12 : decode cX9_row 12 = .ok (.aload_n 0, 1) := dk_42 (dk_at dksX9_row_0 12 rfl rfl)
theorem dX9_row_13 : decode cX9_row 13 = .ok (.getfield 180, 3) := dk_180 0 180 (dk_at dksX9_row_0 13 rfl rfl)
theorem dX9_row_16 : decode cX9_row 16 = .ok (.bipush 6, 2) := dk_16 6 (dk_at dksX9_row_0 16 rfl rfl)
theorem dX9_row_18 : decode cX9_row 18 = .ok (.if_icmp .ne 6, 3) := dk_160 0 6 (dk_at dksX9_row_0 18 rfl rfl)
theorem dX9_row_21 : decode cX9_row 21 = .ok (.bipush (-6), 2) := dk_16 250 (dk_at dksX9_row_0 21 rfl rfl)
theorem dX9_row_23 : decode cX9_row 23 = .ok (.istore_n 2, 1) := dk_61 (dk_at dksX9_row_0 23 rfl rfl)
theorem dX9_row_24 : decode cX9_row 24 = .ok (.iload_n 2, 1) := dk_28 (dk_at dksX9_row_1 0 rfl rfl)
theorem dX9_row_25 : decode cX9_row 25 = .ok (.ifCond .eq 9, 3) := dk_153 0 9 (dk_at dksX9_row_1 1 rfl rfl)
theorem dX9_row_28 : decode cX9_row 28 = .ok (.aload_n 0, 1) := dk_42 (dk_at dksX9_row_1 4 rfl rfl)
theorem dX9_row_29 : decode cX9_row 29 = .ok (.iload_n 2, 1) := dk_28 (dk_at dksX9_row_1 5 rfl rfl)
theorem dX9_row_30 : decode cX9_row 30 = .ok (.invokevirtual 120, 3) := dk_182 0 120 (dk_at dksX9_row_1 6 rfl rfl)
theorem dX9_row_33 : decode cX9_row 33 = .ok (.ireturn, 1) := dk_172 (dk_at dksX9_row_1 9 rfl rfl)
theorem dX9_row_34 : decode cX9_row 34 = .ok (.aload_n 0, 1) := dk_42 (dk_at dksX9_row_1 10 rfl rfl)
theorem dX9_row_35 : decode cX9_row 35 = .ok (.getfield 46, 3) := dk_180 0 46 (dk_at dksX9_row_1 11 rfl rfl)
theorem dX9_row_38 : decode cX9_row 38 = .ok (.aload_n 0, 1) := dk_42 (dk_at dksX9_row_1 14 rfl rfl)
theorem dX9_row_39 : decode cX9_row 39 = .ok (.getfield 180, 3) := dk_180 0 180 (dk_at dksX9_row_1 15 rfl rfl)
theorem dX9_row_42 : decode cX9_row 42 = .ok (.iload_n 1, 1) := dk_27 (dk_at dksX9_row_1 18 rfl rfl)
theorem dX9_row_43 : decode cX9_row 43 = .ok (.iastore, 1) := dk_79 (dk_at dksX9_row_1 19 rfl rfl)
theorem dX9_row_44 : decode cX9_row 44 = .ok (.aload_n 0, 1) := dk_42 (dk_at dksX9_row_1 20 rfl rfl)
theorem dX9_row_45 : decode cX9_row 45 = .ok (.dup, 1) := dk_89 (dk_at dksX9_row_1 21 rfl rfl)
theorem dX9_row_46 : decode cX9_row 46 = .ok (.getfield 180, 3) := dk_180 0 180 (dk_at dksX9_row_2 0 rfl rfl)
theorem dX9_row_49 : decode cX9_row 49 = .ok (.iconst 1, 1) := dk_4 (dk_at dksX9_row_2 3 rfl rfl)
theorem dX9_row_50 : decode cX9_row 50 = .ok (.iadd, 1) := dk_96 (dk_at dksX9_row_2 4 rfl rfl)
theorem dX9_row_51 : decode cX9_row 51 = .ok (.putfield 180, 3) := dk_181 0 180 (dk_at dksX9_row_2 5 rfl rfl)
theorem dX9_row_54 : decode cX9_row 54 = .ok (.aload_n 0, 1) := dk_42 (dk_at dksX9_row_2 8 rfl rfl)
theorem dX9_row_55 : decode cX9_row 55 = .ok (.getfield 180, 3) := dk_180 0 180 (dk_at dksX9_row_2 9 rfl rfl)
theorem dX9_row_58 : decode cX9_row 58 = .ok (.ireturn, 1) := dk_172 (dk_at dksX9_row_2 12 rfl rfl)
abbrev cX9_otherwise : ByteArray := prog_28_method_66_code
def yX9_otherwise : MethodName := ⟨RX9, "otherwise", "(II)I"⟩
def dkwX9_otherwise_9 : List UInt8 := [21, 5, 172]
abbrev dktX9_otherwise_9 : List UInt8 := dkwX9_otherwise_9 ++ []
def dkwX9_otherwise_8 : List UInt8 := [4, 167, 0, 4, 3, 96, 54, 4, 132, 6, 1, 167, 255, 127, 28, 154, 0, 8, 21, 4, 167, 0, 5]
abbrev dktX9_otherwise_8 : List UInt8 := dkwX9_otherwise_8 ++ dktX9_otherwise_9
def dkwX9_otherwise_7 : List UInt8 := [153, 0, 13, 21, 4, 154, 0, 8, 21, 6, 167, 0, 5, 21, 5, 54, 5, 21, 4, 21, 9, 153, 0, 7]
abbrev dktX9_otherwise_7 : List UInt8 := dkwX9_otherwise_7 ++ dktX9_otherwise_8
def dkwX9_otherwise_6 : List UInt8 := [21, 7, 21, 8, 182, 0, 81, 42, 27, 182, 0, 103, 42, 182, 0, 186, 54, 9, 42, 182, 0, 109, 21, 9]
abbrev dktX9_otherwise_6 : List UInt8 := dkwX9_otherwise_6 ++ dktX9_otherwise_7
def dkwX9_otherwise_5 : List UInt8 := [180, 0, 13, 5, 46, 162, 0, 75, 21, 8, 42, 21, 7, 6, 182, 0, 61, 160, 0, 6, 167, 0, 60, 42]
abbrev dktX9_otherwise_5 : List UInt8 := dkwX9_otherwise_5 ++ dktX9_otherwise_6
def dkwX9_otherwise_4 : List UInt8 := [16, 10, 112, 16, 9, 160, 0, 8, 16, 247, 167, 0, 8, 21, 6, 16, 10, 112, 54, 8, 21, 8, 42]
abbrev dktX9_otherwise_4 : List UInt8 := dkwX9_otherwise_4 ++ dktX9_otherwise_5
def dkwX9_otherwise_3 : List UInt8 := [21, 6, 16, 10, 42, 180, 0, 13, 6, 46, 104, 162, 0, 121, 21, 6, 16, 10, 108, 54, 7, 21, 6]
abbrev dktX9_otherwise_3 : List UInt8 := dkwX9_otherwise_3 ++ dktX9_otherwise_4
def dkwX9_otherwise_2 : List UInt8 := [153, 0, 9, 42, 29, 182, 0, 120, 172, 42, 182, 0, 96, 3, 54, 4, 16, 247, 54, 5, 3, 54, 6]
abbrev dktX9_otherwise_2 : List UInt8 := dkwX9_otherwise_2 ++ dktX9_otherwise_3
def dkwX9_otherwise_1 : List UInt8 := [167, 0, 22, 42, 180, 0, 180, 42, 180, 0, 13, 6, 46, 159, 0, 8, 16, 253, 167, 0, 4, 3, 62, 29]
abbrev dktX9_otherwise_1 : List UInt8 := dkwX9_otherwise_1 ++ dktX9_otherwise_2
def dkwX9_otherwise_0 : List UInt8 := [27, 3, 16, 60, 184, 0, 112, 62, 29, 154, 0, 36, 28, 5, 184, 0, 53, 154, 0, 8, 16, 254]
abbrev dktX9_otherwise_0 : List UInt8 := dkwX9_otherwise_0 ++ dktX9_otherwise_1
theorem dksX9_otherwise_0 : cX9_otherwise.data.toList.drop 0 = dktX9_otherwise_0 := by decide +kernel
theorem dksX9_otherwise_1 : cX9_otherwise.data.toList.drop 22 = dktX9_otherwise_1 := dk_seg dksX9_otherwise_0 22 rfl rfl
theorem dksX9_otherwise_2 : cX9_otherwise.data.toList.drop 46 = dktX9_otherwise_2 := dk_seg dksX9_otherwise_1 24 rfl rfl
theorem dksX9_otherwise_3 : cX9_otherwise.data.toList.drop 69 = dktX9_otherwise_3 := dk_seg dksX9_otherwise_2 23 rfl rfl
theorem dksX9_otherwise_4 : cX9_otherwise.data.toList.drop 92 = dktX9_otherwise_4 := dk_seg dksX9_otherwise_3 23 rfl rfl
theorem dksX9_otherwise_5 : cX9_otherwise.data.toList.drop 115 = dktX9_otherwise_5 := dk_seg dksX9_otherwise_4 23 rfl rfl
theorem dksX9_otherwise_6 : cX9_otherwise.data.toList.drop 139 = dktX9_otherwise_6 := dk_seg dksX9_otherwise_5 24 rfl rfl
theorem dksX9_otherwise_7 : cX9_otherwise.data.toList.drop 163 = dktX9_otherwise_7 := dk_seg dksX9_otherwise_6 24 rfl rfl
theorem dksX9_otherwise_8 : cX9_otherwise.data.toList.drop 187 = dktX9_otherwise_8 := dk_seg dksX9_otherwise_7 24 rfl rfl
theorem dksX9_otherwise_9 : cX9_otherwise.data.toList.drop 210 = dktX9_otherwise_9 := dk_seg dksX9_otherwise_8 23 rfl rfl
theorem dX9_otherwise_0 : decode cX9_otherwise 0 = .ok (.iload_n 1, 1) := dk_27 (dk_at dksX9_otherwise_0 0 rfl rfl)
theorem dX9_otherwise_1 : decode cX9_otherwise 1 = .ok (.iconst 0, 1) := dk_3 (dk_at dksX9_otherwise_0 1 rfl rfl)
theorem dX9_otherwise_2 : decode cX9_otherwise 2 = .ok (.bipush 60, 2) := dk_16 60 (dk_at dksX9_otherwise_0 2 rfl rfl)
theorem dX9_otherwise_4 : decode cX9_otherwise 4 = .ok (.invokestatic 112, 3) := dk_184 0 112 (dk_at dksX9_otherwise_0 4 rfl rfl)
theorem dX9_otherwise_7 : decode cX9_otherwise 7 = .ok (.istore_n 3, 1) := dk_62 (dk_at dksX9_otherwise_0 7 rfl rfl)
theorem dX9_otherwise_8 : decode cX9_otherwise 8 = .ok (.iload_n 3, 1) := dk_29 (dk_at dksX9_otherwise_0 8 rfl rfl)
theorem dX9_otherwise_9 : decode cX9_otherwise 9 = .ok (.ifCond .ne 36, 3) := dk_154 0 36 (dk_at dksX9_otherwise_0 9 rfl rfl)
theorem dX9_otherwise_12 : decode cX9_otherwise 12 = .ok (.iload_n 2, 1) := dk_28 (dk_at dksX9_otherwise_0 12 rfl rfl)
theorem dX9_otherwise_13 : decode cX9_otherwise 13 = .ok (.iconst 2, 1) := dk_5 (dk_at dksX9_otherwise_0 13 rfl rfl)
theorem dX9_otherwise_14 : decode cX9_otherwise 14 = .ok (.invokestatic 53, 3) := dk_184 0 53 (dk_at dksX9_otherwise_0 14 rfl rfl)
theorem dX9_otherwise_17 : decode cX9_otherwise 17 = .ok (.ifCond .ne 8, 3) := dk_154 0 8 (dk_at dksX9_otherwise_0 17 rfl rfl)
theorem dX9_otherwise_20 : decode cX9_otherwise 20 = .ok (.bipush (-2), 2) := dk_16 254 (dk_at dksX9_otherwise_0 20 rfl rfl)
theorem dX9_otherwise_22 : decode cX9_otherwise 22 = .ok (.goto 22, 3) := dk_167 0 22 (dk_at dksX9_otherwise_1 0 rfl rfl)
theorem dX9_otherwise_25 : decode cX9_otherwise 25 = .ok (.aload_n 0, 1) := dk_42 (dk_at dksX9_otherwise_1 3 rfl rfl)
theorem dX9_otherwise_26 : decode cX9_otherwise 26 = .ok (.getfield 180, 3) := dk_180 0 180 (dk_at dksX9_otherwise_1 4 rfl rfl)
theorem dX9_otherwise_29 : decode cX9_otherwise 29 = .ok (.aload_n 0, 1) := dk_42 (dk_at dksX9_otherwise_1 7 rfl rfl)
theorem dX9_otherwise_30 : decode cX9_otherwise 30 = .ok (.getfield 13, 3) := dk_180 0 13 (dk_at dksX9_otherwise_1 8 rfl rfl)
theorem dX9_otherwise_33 : decode cX9_otherwise 33 = .ok (.iconst 3, 1) := dk_6 (dk_at dksX9_otherwise_1 11 rfl rfl)
theorem dX9_otherwise_34 : decode cX9_otherwise 34 = .ok (.iaload, 1) := dk_46 (dk_at dksX9_otherwise_1 12 rfl rfl)
theorem dX9_otherwise_35 : decode cX9_otherwise 35 = .ok (.if_icmp .eq 8, 3) := dk_159 0 8 (dk_at dksX9_otherwise_1 13 rfl rfl)
theorem dX9_otherwise_38 : decode cX9_otherwise 38 = .ok (.bipush (-3), 2) := dk_16 253 (dk_at dksX9_otherwise_1 16 rfl rfl)
theorem dX9_otherwise_40 : decode cX9_otherwise 40 = .ok (.goto 4, 3) := dk_167 0 4 (dk_at dksX9_otherwise_1 18 rfl rfl)
theorem dX9_otherwise_43 : decode cX9_otherwise 43 = .ok (.iconst 0, 1) := dk_3 (dk_at dksX9_otherwise_1 21 rfl rfl)
theorem dX9_otherwise_44 : decode cX9_otherwise 44 = .ok (.istore_n 3, 1) := dk_62 (dk_at dksX9_otherwise_1 22 rfl rfl)
theorem dX9_otherwise_45 : decode cX9_otherwise 45 = .ok (.iload_n 3, 1) := dk_29 (dk_at dksX9_otherwise_1 23 rfl rfl)
theorem dX9_otherwise_46 : decode cX9_otherwise 46 = .ok (.ifCond .eq 9, 3) := dk_153 0 9 (dk_at dksX9_otherwise_2 0 rfl rfl)
theorem dX9_otherwise_49 : decode cX9_otherwise 49 = .ok (.aload_n 0, 1) := dk_42 (dk_at dksX9_otherwise_2 3 rfl rfl)
theorem dX9_otherwise_50 : decode cX9_otherwise 50 = .ok (.iload_n 3, 1) := dk_29 (dk_at dksX9_otherwise_2 4 rfl rfl)
theorem dX9_otherwise_51 : decode cX9_otherwise 51 = .ok (.invokevirtual 120, 3) := dk_182 0 120 (dk_at dksX9_otherwise_2 5 rfl rfl)
theorem dX9_otherwise_54 : decode cX9_otherwise 54 = .ok (.ireturn, 1) := dk_172 (dk_at dksX9_otherwise_2 8 rfl rfl)
theorem dX9_otherwise_55 : decode cX9_otherwise 55 = .ok (.aload_n 0, 1) := dk_42 (dk_at dksX9_otherwise_2 9 rfl rfl)
theorem dX9_otherwise_56 : decode cX9_otherwise 56 = .ok (.invokevirtual 96, 3) := dk_182 0 96 (dk_at dksX9_otherwise_2 10 rfl rfl)
theorem dX9_otherwise_59 : decode cX9_otherwise 59 = .ok (.iconst 0, 1) := dk_3 (dk_at dksX9_otherwise_2 13 rfl rfl)
theorem dX9_otherwise_60 : decode cX9_otherwise 60 = .ok (.istore 4, 2) := dk_54 4 (dk_at dksX9_otherwise_2 14 rfl rfl)
theorem dX9_otherwise_62 : decode cX9_otherwise 62 = .ok (.bipush (-9), 2) := dk_16 247 (dk_at dksX9_otherwise_2 16 rfl rfl)
theorem dX9_otherwise_64 : decode cX9_otherwise 64 = .ok (.istore 5, 2) := dk_54 5 (dk_at dksX9_otherwise_2 18 rfl rfl)
theorem dX9_otherwise_66 : decode cX9_otherwise 66 = .ok (.iconst 0, 1) := dk_3 (dk_at dksX9_otherwise_2 20 rfl rfl)
theorem dX9_otherwise_67 : decode cX9_otherwise 67 = .ok (.istore 6, 2) := dk_54 6 (dk_at dksX9_otherwise_2 21 rfl rfl)
theorem dX9_otherwise_69 : decode cX9_otherwise 69 = .ok (.iload 6, 2) := dk_21 6 (dk_at dksX9_otherwise_3 0 rfl rfl)
theorem dX9_otherwise_71 : decode cX9_otherwise 71 = .ok (.bipush 10, 2) := dk_16 10 (dk_at dksX9_otherwise_3 2 rfl rfl)
theorem dX9_otherwise_73 : decode cX9_otherwise 73 = .ok (.aload_n 0, 1) := dk_42 (dk_at dksX9_otherwise_3 4 rfl rfl)
theorem dX9_otherwise_74 : decode cX9_otherwise 74 = .ok (.getfield 13, 3) := dk_180 0 13 (dk_at dksX9_otherwise_3 5 rfl rfl)
theorem dX9_otherwise_77 : decode cX9_otherwise 77 = .ok (.iconst 3, 1) := dk_6 (dk_at dksX9_otherwise_3 8 rfl rfl)
theorem dX9_otherwise_78 : decode cX9_otherwise 78 = .ok (.iaload, 1) := dk_46 (dk_at dksX9_otherwise_3 9 rfl rfl)
theorem dX9_otherwise_79 : decode cX9_otherwise 79 = .ok (.imul, 1) := dk_104 (dk_at dksX9_otherwise_3 10 rfl rfl)
theorem dX9_otherwise_80 : decode cX9_otherwise 80 = .ok (.if_icmp .ge 121, 3) := dk_162 0 121 (dk_at dksX9_otherwise_3 11 rfl rfl)
theorem dX9_otherwise_83 : decode cX9_otherwise 83 = .ok (.iload 6, 2) := dk_21 6 (dk_at dksX9_otherwise_3 14 rfl rfl)
theorem dX9_otherwise_85 : decode cX9_otherwise 85 = .ok (.bipush 10, 2) := dk_16 10 (dk_at dksX9_otherwise_3 16 rfl rfl)
theorem dX9_otherwise_87 : decode cX9_otherwise 87 = .ok (.idiv, 1) := dk_108 (dk_at dksX9_otherwise_3 18 rfl rfl)
theorem dX9_otherwise_88 : decode cX9_otherwise 88 = .ok (.istore 7, 2) := dk_54 7 (dk_at dksX9_otherwise_3 19 rfl rfl)
theorem dX9_otherwise_90 : decode cX9_otherwise 90 = .ok (.iload 6, 2) := dk_21 6 (dk_at dksX9_otherwise_3 21 rfl rfl)
theorem dX9_otherwise_92 : decode cX9_otherwise 92 = .ok (.bipush 10, 2) := dk_16 10 (dk_at dksX9_otherwise_4 0 rfl rfl)
theorem dX9_otherwise_94 : decode cX9_otherwise 94 = .ok (.irem, 1) := dk_112 (dk_at dksX9_otherwise_4 2 rfl rfl)
theorem dX9_otherwise_95 : decode cX9_otherwise 95 = .ok (.bipush 9, 2) := dk_16 9 (dk_at dksX9_otherwise_4 3 rfl rfl)
theorem dX9_otherwise_97 : decode cX9_otherwise 97 = .ok (.if_icmp .ne 8, 3) := dk_160 0 8 (dk_at dksX9_otherwise_4 5 rfl rfl)
theorem dX9_otherwise_100 : decode cX9_otherwise 100 = .ok (.bipush (-9), 2) := dk_16 247 (dk_at dksX9_otherwise_4 8 rfl rfl)
theorem dX9_otherwise_102 : decode cX9_otherwise 102 = .ok (.goto 8, 3) := dk_167 0 8 (dk_at dksX9_otherwise_4 10 rfl rfl)
theorem dX9_otherwise_105 : decode cX9_otherwise 105 = .ok (.iload 6, 2) := dk_21 6 (dk_at dksX9_otherwise_4 13 rfl rfl)
theorem dX9_otherwise_107 : decode cX9_otherwise 107 = .ok (.bipush 10, 2) := dk_16 10 (dk_at dksX9_otherwise_4 15 rfl rfl)
theorem dX9_otherwise_109 : decode cX9_otherwise 109 = .ok (.irem, 1) := dk_112 (dk_at dksX9_otherwise_4 17 rfl rfl)
theorem dX9_otherwise_110 : decode cX9_otherwise 110 = .ok (.istore 8, 2) := dk_54 8 (dk_at dksX9_otherwise_4 18 rfl rfl)
theorem dX9_otherwise_112 : decode cX9_otherwise 112 = .ok (.iload 8, 2) := dk_21 8 (dk_at dksX9_otherwise_4 20 rfl rfl)
theorem dX9_otherwise_114 : decode cX9_otherwise 114 = .ok (.aload_n 0, 1) := dk_42 (dk_at dksX9_otherwise_4 22 rfl rfl)
theorem dX9_otherwise_115 : decode cX9_otherwise 115 = .ok (.getfield 13, 3) := dk_180 0 13 (dk_at dksX9_otherwise_5 0 rfl rfl)
theorem dX9_otherwise_118 : decode cX9_otherwise 118 = .ok (.iconst 2, 1) := dk_5 (dk_at dksX9_otherwise_5 3 rfl rfl)
theorem dX9_otherwise_119 : decode cX9_otherwise 119 = .ok (.iaload, 1) := dk_46 (dk_at dksX9_otherwise_5 4 rfl rfl)
theorem dX9_otherwise_120 : decode cX9_otherwise 120 = .ok (.if_icmp .ge 75, 3) := dk_162 0 75 (dk_at dksX9_otherwise_5 5 rfl rfl)
theorem dX9_otherwise_123 : decode cX9_otherwise 123 = .ok (.iload 8, 2) := dk_21 8 (dk_at dksX9_otherwise_5 8 rfl rfl)
theorem dX9_otherwise_125 : decode cX9_otherwise 125 = .ok (.aload_n 0, 1) := dk_42 (dk_at dksX9_otherwise_5 10 rfl rfl)
theorem dX9_otherwise_126 : decode cX9_otherwise 126 = .ok (.iload 7, 2) := dk_21 7 (dk_at dksX9_otherwise_5 11 rfl rfl)
theorem dX9_otherwise_128 : decode cX9_otherwise 128 = .ok (.iconst 3, 1) := dk_6 (dk_at dksX9_otherwise_5 13 rfl rfl)
theorem dX9_otherwise_129 : decode cX9_otherwise 129 = .ok (.invokevirtual 61, 3) := dk_182 0 61 (dk_at dksX9_otherwise_5 14 rfl rfl)
theorem dX9_otherwise_132 : decode cX9_otherwise 132 = .ok (.if_icmp .ne 6, 3) := dk_160 0 6 (dk_at dksX9_otherwise_5 17 rfl rfl)
theorem dX9_otherwise_135 : decode cX9_otherwise 135 = .ok (.goto 60, 3) := dk_167 0 60 (dk_at dksX9_otherwise_5 20 rfl rfl)
theorem dX9_otherwise_138 : decode cX9_otherwise 138 = .ok (.aload_n 0, 1) := dk_42 (dk_at dksX9_otherwise_5 23 rfl rfl)
theorem dX9_otherwise_139 : decode cX9_otherwise 139 = .ok (.iload 7, 2) := dk_21 7 (dk_at dksX9_otherwise_6 0 rfl rfl)
theorem dX9_otherwise_141 : decode cX9_otherwise 141 = .ok (.iload 8, 2) := dk_21 8 (dk_at dksX9_otherwise_6 2 rfl rfl)
theorem dX9_otherwise_143 : decode cX9_otherwise 143 = .ok (.invokevirtual 81, 3) := dk_182 0 81 (dk_at dksX9_otherwise_6 4 rfl rfl)
theorem dX9_otherwise_146 : decode cX9_otherwise 146 = .ok (.aload_n 0, 1) := dk_42 (dk_at dksX9_otherwise_6 7 rfl rfl)
theorem dX9_otherwise_147 : decode cX9_otherwise 147 = .ok (.iload_n 1, 1) := dk_27 (dk_at dksX9_otherwise_6 8 rfl rfl)
theorem dX9_otherwise_148 : decode cX9_otherwise 148 = .ok (.invokevirtual 103, 3) := dk_182 0 103 (dk_at dksX9_otherwise_6 9 rfl rfl)
theorem dX9_otherwise_151 : decode cX9_otherwise 151 = .ok (.aload_n 0, 1) := dk_42 (dk_at dksX9_otherwise_6 12 rfl rfl)
theorem dX9_otherwise_152 : decode cX9_otherwise 152 = .ok (.invokevirtual 186, 3) := dk_182 0 186 (dk_at dksX9_otherwise_6 13 rfl rfl)
theorem dX9_otherwise_155 : decode cX9_otherwise 155 = .ok (.istore 9, 2) := dk_54 9 (dk_at dksX9_otherwise_6 16 rfl rfl)
theorem dX9_otherwise_157 : decode cX9_otherwise 157 = .ok (.aload_n 0, 1) := dk_42 (dk_at dksX9_otherwise_6 18 rfl rfl)
theorem dX9_otherwise_158 : decode cX9_otherwise 158 = .ok (.invokevirtual 109, 3) := dk_182 0 109 (dk_at dksX9_otherwise_6 19 rfl rfl)
theorem dX9_otherwise_161 : decode cX9_otherwise 161 = .ok (.iload 9, 2) := dk_21 9 (dk_at dksX9_otherwise_6 22 rfl rfl)
theorem dX9_otherwise_163 : decode cX9_otherwise 163 = .ok (.ifCond .eq 13, 3) := dk_153 0 13 (dk_at dksX9_otherwise_7 0 rfl rfl)
theorem dX9_otherwise_166 : decode cX9_otherwise 166 = .ok (.iload 4, 2) := dk_21 4 (dk_at dksX9_otherwise_7 3 rfl rfl)
theorem dX9_otherwise_168 : decode cX9_otherwise 168 = .ok (.ifCond .ne 8, 3) := dk_154 0 8 (dk_at dksX9_otherwise_7 5 rfl rfl)
theorem dX9_otherwise_171 : decode cX9_otherwise 171 = .ok (.iload 6, 2) := dk_21 6 (dk_at dksX9_otherwise_7 8 rfl rfl)
theorem dX9_otherwise_173 : decode cX9_otherwise 173 = .ok (.goto 5, 3) := dk_167 0 5 (dk_at dksX9_otherwise_7 10 rfl rfl)
theorem dX9_otherwise_176 : decode cX9_otherwise 176 = .ok (.iload 5, 2) := dk_21 5 (dk_at dksX9_otherwise_7 13 rfl rfl)
theorem dX9_otherwise_178 : decode cX9_otherwise 178 = .ok (.istore 5, 2) := dk_54 5 (dk_at dksX9_otherwise_7 15 rfl rfl)
theorem dX9_otherwise_180 : decode cX9_otherwise 180 = .ok (.iload 4, 2) := dk_21 4 (dk_at dksX9_otherwise_7 17 rfl rfl)
theorem dX9_otherwise_182 : decode cX9_otherwise 182 = .ok (.iload 9, 2) := dk_21 9 (dk_at dksX9_otherwise_7 19 rfl rfl)
theorem dX9_otherwise_184 : decode cX9_otherwise 184 = .ok (.ifCond .eq 7, 3) := dk_153 0 7 (dk_at dksX9_otherwise_7 21 rfl rfl)
theorem dX9_otherwise_187 : decode cX9_otherwise 187 = .ok (.iconst 1, 1) := dk_4 (dk_at dksX9_otherwise_8 0 rfl rfl)
theorem dX9_otherwise_188 : decode cX9_otherwise 188 = .ok (.goto 4, 3) := dk_167 0 4 (dk_at dksX9_otherwise_8 1 rfl rfl)
theorem dX9_otherwise_191 : decode cX9_otherwise 191 = .ok (.iconst 0, 1) := dk_3 (dk_at dksX9_otherwise_8 4 rfl rfl)
theorem dX9_otherwise_192 : decode cX9_otherwise 192 = .ok (.iadd, 1) := dk_96 (dk_at dksX9_otherwise_8 5 rfl rfl)
theorem dX9_otherwise_193 : decode cX9_otherwise 193 = .ok (.istore 4, 2) := dk_54 4 (dk_at dksX9_otherwise_8 6 rfl rfl)
theorem dX9_otherwise_195 : decode cX9_otherwise 195 = .ok (.iinc 6 1, 3) := dk_132 6 1 (dk_at dksX9_otherwise_8 8 rfl rfl)
theorem dX9_otherwise_198 : decode cX9_otherwise 198 = .ok (.goto (-129), 3) := dk_167 255 127 (dk_at dksX9_otherwise_8 11 rfl rfl)
theorem dX9_otherwise_201 : decode cX9_otherwise 201 = .ok (.iload_n 2, 1) := dk_28 (dk_at dksX9_otherwise_8 14 rfl rfl)
theorem dX9_otherwise_202 : decode cX9_otherwise 202 = .ok (.ifCond .ne 8, 3) := dk_154 0 8 (dk_at dksX9_otherwise_8 15 rfl rfl)
theorem dX9_otherwise_205 : decode cX9_otherwise 205 = .ok (.iload 4, 2) := dk_21 4 (dk_at dksX9_otherwise_8 18 rfl rfl)
theorem dX9_otherwise_207 : decode cX9_otherwise 207 = .ok (.goto 5, 3) := dk_167 0 5 (dk_at dksX9_otherwise_8 20 rfl rfl)
theorem dX9_otherwise_210 : decode cX9_otherwise 210 = .ok (.iload 5, 2) := dk_21 5 (dk_at dksX9_otherwise_9 0 rfl rfl)
theorem dX9_otherwise_212 : decode cX9_otherwise 212 = .ok (.ireturn, 1) := dk_172 (dk_at dksX9_otherwise_9 2 rfl rfl)
abbrev cX9_isAllTold : ByteArray := prog_28_method_65_code
def yX9_isAllTold : MethodName := ⟨RX9, "isAllTold", "()Z"⟩
def dkwX9_isAllTold_1 : List UInt8 := [132, 1, 1, 167, 255, 233, 4, 172]
abbrev dktX9_isAllTold_1 : List UInt8 := dkwX9_isAllTold_1 ++ []
def dkwX9_isAllTold_0 : List UInt8 := [3, 60, 27, 42, 180, 0, 13, 6, 46, 162, 0, 19, 42, 27, 182, 0, 183, 154, 0, 5, 3, 172]
abbrev dktX9_isAllTold_0 : List UInt8 := dkwX9_isAllTold_0 ++ dktX9_isAllTold_1
theorem dksX9_isAllTold_0 : cX9_isAllTold.data.toList.drop 0 = dktX9_isAllTold_0 := by decide +kernel
theorem dksX9_isAllTold_1 : cX9_isAllTold.data.toList.drop 22 = dktX9_isAllTold_1 := dk_seg dksX9_isAllTold_0 22 rfl rfl
theorem dX9_isAllTold_0 : decode cX9_isAllTold 0 = .ok (.iconst 0, 1) := dk_3 (dk_at dksX9_isAllTold_0 0 rfl rfl)
theorem dX9_isAllTold_1 : decode cX9_isAllTold 1 = .ok (.istore_n 1, 1) := dk_60 (dk_at dksX9_isAllTold_0 1 rfl rfl)
theorem dX9_isAllTold_2 : decode cX9_isAllTold 2 = .ok (.iload_n 1, 1) := dk_27 (dk_at dksX9_isAllTold_0 2 rfl rfl)
theorem dX9_isAllTold_3 : decode cX9_isAllTold 3 = .ok (.aload_n 0, 1) := dk_42 (dk_at dksX9_isAllTold_0 3 rfl rfl)
theorem dX9_isAllTold_4 : decode cX9_isAllTold 4 = .ok (.getfield 13, 3) := dk_180 0 13 (dk_at dksX9_isAllTold_0 4 rfl rfl)
theorem dX9_isAllTold_7 : decode cX9_isAllTold 7 = .ok (.iconst 3, 1) := dk_6 (dk_at dksX9_isAllTold_0 7 rfl rfl)
theorem dX9_isAllTold_8 : decode cX9_isAllTold 8 = .ok (.iaload, 1) := dk_46 (dk_at dksX9_isAllTold_0 8 rfl rfl)
theorem dX9_isAllTold_9 : decode cX9_isAllTold 9 = .ok (.if_icmp .ge 19, 3) := dk_162 0 19 (dk_at dksX9_isAllTold_0 9 rfl rfl)
theorem dX9_isAllTold_12 : decode cX9_isAllTold 12 = .ok (.aload_n 0, 1) := dk_42 (dk_at dksX9_isAllTold_0 12 rfl rfl)
theorem dX9_isAllTold_13 : decode cX9_isAllTold 13 = .ok (.iload_n 1, 1) := dk_27 (dk_at dksX9_isAllTold_0 13 rfl rfl)
theorem dX9_isAllTold_14 : decode cX9_isAllTold 14 = .ok (.invokevirtual 183, 3) := dk_182 0 183 (dk_at dksX9_isAllTold_0 14 rfl rfl)
theorem dX9_isAllTold_17 : decode cX9_isAllTold 17 = .ok (.ifCond .ne 5, 3) := dk_154 0 5 (dk_at dksX9_isAllTold_0 17 rfl rfl)
theorem dX9_isAllTold_20 : decode cX9_isAllTold 20 = .ok (.iconst 0, 1) := dk_3 (dk_at dksX9_isAllTold_0 20 rfl rfl)
theorem dX9_isAllTold_21 : decode cX9_isAllTold 21 = .ok (.ireturn, 1) := dk_172 (dk_at dksX9_isAllTold_0 21 rfl rfl)
theorem dX9_isAllTold_22 : decode cX9_isAllTold 22 = .ok (.iinc 1 1, 3) := dk_132 1 1 (dk_at dksX9_isAllTold_1 0 rfl rfl)
theorem dX9_isAllTold_25 : decode cX9_isAllTold 25 = .ok (.goto (-23), 3) := dk_167 255 233 (dk_at dksX9_isAllTold_1 3 rfl rfl)
theorem dX9_isAllTold_28 : decode cX9_isAllTold 28 = .ok (.iconst 1, 1) := dk_4 (dk_at dksX9_isAllTold_1 6 rfl rfl)
theorem dX9_isAllTold_29 : decode cX9_isAllTold 29 = .ok (.ireturn, 1) := dk_172 (dk_at dksX9_isAllTold_1 7 rfl rfl)
abbrev cX9_isTold : ByteArray := prog_28_method_64_code
def yX9_isTold : MethodName := ⟨RX9, "isTold", "(I)Z"⟩
def dkwX9_isTold_1 : List UInt8 := [182, 0, 61, 160, 0, 7, 4, 167, 0, 4, 3, 172]
abbrev dktX9_isTold_1 : List UInt8 := dkwX9_isTold_1 ++ []
def dkwX9_isTold_0 : List UInt8 := [42, 180, 0, 46, 27, 46, 42, 27, 6, 182, 0, 61, 156, 0, 8, 16, 9, 167, 0, 9, 42, 27, 6]
abbrev dktX9_isTold_0 : List UInt8 := dkwX9_isTold_0 ++ dktX9_isTold_1
theorem dksX9_isTold_0 : cX9_isTold.data.toList.drop 0 = dktX9_isTold_0 := by decide +kernel
theorem dksX9_isTold_1 : cX9_isTold.data.toList.drop 23 = dktX9_isTold_1 := dk_seg dksX9_isTold_0 23 rfl rfl
theorem dX9_isTold_0 : decode cX9_isTold 0 = .ok (.aload_n 0, 1) := dk_42 (dk_at dksX9_isTold_0 0 rfl rfl)
theorem dX9_isTold_1 : decode cX9_isTold 1 = .ok (.getfield 46, 3) := dk_180 0 46 (dk_at dksX9_isTold_0 1 rfl rfl)
theorem dX9_isTold_4 : decode cX9_isTold 4 = .ok (.iload_n 1, 1) := dk_27 (dk_at dksX9_isTold_0 4 rfl rfl)
theorem dX9_isTold_5 : decode cX9_isTold 5 = .ok (.iaload, 1) := dk_46 (dk_at dksX9_isTold_0 5 rfl rfl)
theorem dX9_isTold_6 : decode cX9_isTold 6 = .ok (.aload_n 0, 1) := dk_42 (dk_at dksX9_isTold_0 6 rfl rfl)
theorem dX9_isTold_7 : decode cX9_isTold 7 = .ok (.iload_n 1, 1) := dk_27 (dk_at dksX9_isTold_0 7 rfl rfl)
theorem dX9_isTold_8 : decode cX9_isTold 8 = .ok (.iconst 3, 1) := dk_6 (dk_at dksX9_isTold_0 8 rfl rfl)
theorem dX9_isTold_9 : decode cX9_isTold 9 = .ok (.invokevirtual 61, 3) := dk_182 0 61 (dk_at dksX9_isTold_0 9 rfl rfl)
theorem dX9_isTold_12 : decode cX9_isTold 12 = .ok (.ifCond .ge 8, 3) := dk_156 0 8 (dk_at dksX9_isTold_0 12 rfl rfl)
theorem dX9_isTold_15 : decode cX9_isTold 15 = .ok (.bipush 9, 2) := dk_16 9 (dk_at dksX9_isTold_0 15 rfl rfl)
theorem dX9_isTold_17 : decode cX9_isTold 17 = .ok (.goto 9, 3) := dk_167 0 9 (dk_at dksX9_isTold_0 17 rfl rfl)
theorem dX9_isTold_20 : decode cX9_isTold 20 = .ok (.aload_n 0, 1) := dk_42 (dk_at dksX9_isTold_0 20 rfl rfl)
theorem dX9_isTold_21 : decode cX9_isTold 21 = .ok (.iload_n 1, 1) := dk_27 (dk_at dksX9_isTold_0 21 rfl rfl)
theorem dX9_isTold_22 : decode cX9_isTold 22 = .ok (.iconst 3, 1) := dk_6 (dk_at dksX9_isTold_0 22 rfl rfl)
theorem dX9_isTold_23 : decode cX9_isTold 23 = .ok (.invokevirtual 61, 3) := dk_182 0 61 (dk_at dksX9_isTold_1 0 rfl rfl)
theorem dX9_isTold_26 : decode cX9_isTold 26 = .ok (.if_icmp .ne 7, 3) := dk_160 0 7 (dk_at dksX9_isTold_1 3 rfl rfl)
theorem dX9_isTold_29 : decode cX9_isTold 29 = .ok (.iconst 1, 1) := dk_4 (dk_at dksX9_isTold_1 6 rfl rfl)
theorem dX9_isTold_30 : decode cX9_isTold 30 = .ok (.goto 4, 3) := dk_167 0 4 (dk_at dksX9_isTold_1 7 rfl rfl)
theorem dX9_isTold_33 : decode cX9_isTold 33 = .ok (.iconst 0, 1) := dk_3 (dk_at dksX9_isTold_1 10 rfl rfl)
theorem dX9_isTold_34 : decode cX9_isTold 34 = .ok (.ireturn, 1) := dk_172 (dk_at dksX9_isTold_1 11 rfl rfl)
abbrev cX9_judge : ByteArray := prog_28_method_67_code
def yX9_judge : MethodName := ⟨RX9, "judge", "()I"⟩
def dkwX9_judge_2 : List UInt8 := [6, 46, 162, 0, 7, 27, 167, 0, 5, 16, 247, 172]
abbrev dktX9_judge_2 : List UInt8 := dkwX9_judge_2 ++ []
def dkwX9_judge_1 : List UInt8 := [159, 0, 11, 42, 28, 182, 0, 183, 154, 0, 5, 28, 172, 132, 2, 1, 167, 255, 228, 27, 42, 180, 0, 13]
abbrev dktX9_judge_1 : List UInt8 := dkwX9_judge_1 ++ dktX9_judge_2
def dkwX9_judge_0 : List UInt8 := [42, 180, 0, 180, 60, 42, 3, 181, 0, 180, 3, 61, 28, 27, 162, 0, 29, 28, 42, 180, 0, 13, 6, 46]
abbrev dktX9_judge_0 : List UInt8 := dkwX9_judge_0 ++ dktX9_judge_1
theorem dksX9_judge_0 : cX9_judge.data.toList.drop 0 = dktX9_judge_0 := by decide +kernel
theorem dksX9_judge_1 : cX9_judge.data.toList.drop 24 = dktX9_judge_1 := dk_seg dksX9_judge_0 24 rfl rfl
theorem dksX9_judge_2 : cX9_judge.data.toList.drop 48 = dktX9_judge_2 := dk_seg dksX9_judge_1 24 rfl rfl
theorem dX9_judge_0 : decode cX9_judge 0 = .ok (.aload_n 0, 1) := dk_42 (dk_at dksX9_judge_0 0 rfl rfl)
theorem dX9_judge_1 : decode cX9_judge 1 = .ok (.getfield 180, 3) := dk_180 0 180 (dk_at dksX9_judge_0 1 rfl rfl)
theorem dX9_judge_4 : decode cX9_judge 4 = .ok (.istore_n 1, 1) := dk_60 (dk_at dksX9_judge_0 4 rfl rfl)
theorem dX9_judge_5 : decode cX9_judge 5 = .ok (.aload_n 0, 1) := dk_42 (dk_at dksX9_judge_0 5 rfl rfl)
theorem dX9_judge_6 : decode cX9_judge 6 = .ok (.iconst 0, 1) := dk_3 (dk_at dksX9_judge_0 6 rfl rfl)
theorem dX9_judge_7 : decode cX9_judge 7 = .ok (.putfield 180, 3) := dk_181 0 180 (dk_at dksX9_judge_0 7 rfl rfl)
theorem dX9_judge_10 : decode cX9_judge 10 = .ok (.iconst 0, 1) := dk_3 (dk_at dksX9_judge_0 10 rfl rfl)
theorem dX9_judge_11 : decode cX9_judge 11 = .ok (.istore_n 2, 1) := dk_61 (dk_at dksX9_judge_0 11 rfl rfl)
theorem dX9_judge_12 : decode cX9_judge 12 = .ok (.iload_n 2, 1) := dk_28 (dk_at dksX9_judge_0 12 rfl rfl)
theorem dX9_judge_13 : decode cX9_judge 13 = .ok (.iload_n 1, 1) := dk_27 (dk_at dksX9_judge_0 13 rfl rfl)
theorem dX9_judge_14 : decode cX9_judge 14 = .ok (.if_icmp .ge 29, 3) := dk_162 0 29 (dk_at dksX9_judge_0 14 rfl rfl)
theorem dX9_judge_17 : decode cX9_judge 17 = .ok (.iload_n 2, 1) := dk_28 (dk_at dksX9_judge_0 17 rfl rfl)
theorem dX9_judge_18 : decode cX9_judge 18 = .ok (.aload_n 0, 1) := dk_42 (dk_at dksX9_judge_0 18 rfl rfl)
theorem dX9_judge_19 : decode cX9_judge 19 = .ok (.getfield 13, 3) := dk_180 0 13 (dk_at dksX9_judge_0 19 rfl rfl)
theorem dX9_judge_22 : decode cX9_judge 22 = .ok (.iconst 3, 1) := dk_6 (dk_at dksX9_judge_0 22 rfl rfl)
theorem dX9_judge_23 : decode cX9_judge 23 = .ok (.iaload, 1) := dk_46 (dk_at dksX9_judge_0 23 rfl rfl)
theorem dX9_judge_24 : decode cX9_judge 24 = .ok (.if_icmp .eq 11, 3) := dk_159 0 11 (dk_at dksX9_judge_1 0 rfl rfl)
theorem dX9_judge_27 : decode cX9_judge 27 = .ok (.aload_n 0, 1) := dk_42 (dk_at dksX9_judge_1 3 rfl rfl)
theorem dX9_judge_28 : decode cX9_judge 28 = .ok (.iload_n 2, 1) := dk_28 (dk_at dksX9_judge_1 4 rfl rfl)
theorem dX9_judge_29 : decode cX9_judge 29 = .ok (.invokevirtual 183, 3) := dk_182 0 183 (dk_at dksX9_judge_1 5 rfl rfl)
theorem dX9_judge_32 : decode cX9_judge 32 = .ok (.ifCond .ne 5, 3) := dk_154 0 5 (dk_at dksX9_judge_1 8 rfl rfl)
theorem dX9_judge_35 : decode cX9_judge 35 = .ok (.iload_n 2, 1) := dk_28 (dk_at dksX9_judge_1 11 rfl rfl)
theorem dX9_judge_36 : decode cX9_judge 36 = .ok (.ireturn, 1) := dk_172 (dk_at dksX9_judge_1 12 rfl rfl)
theorem dX9_judge_37 : decode cX9_judge 37 = .ok (.iinc 2 1, 3) := dk_132 2 1 (dk_at dksX9_judge_1 13 rfl rfl)
theorem dX9_judge_40 : decode cX9_judge 40 = .ok (.goto (-28), 3) := dk_167 255 228 (dk_at dksX9_judge_1 16 rfl rfl)
theorem dX9_judge_43 : decode cX9_judge 43 = .ok (.iload_n 1, 1) := dk_27 (dk_at dksX9_judge_1 19 rfl rfl)
theorem dX9_judge_44 : decode cX9_judge 44 = .ok (.aload_n 0, 1) := dk_42 (dk_at dksX9_judge_1 20 rfl rfl)
theorem dX9_judge_45 : decode cX9_judge 45 = .ok (.getfield 13, 3) := dk_180 0 13 (dk_at dksX9_judge_1 21 rfl rfl)
theorem dX9_judge_48 : decode cX9_judge 48 = .ok (.iconst 3, 1) := dk_6 (dk_at dksX9_judge_2 0 rfl rfl)
theorem dX9_judge_49 : decode cX9_judge 49 = .ok (.iaload, 1) := dk_46 (dk_at dksX9_judge_2 1 rfl rfl)
theorem dX9_judge_50 : decode cX9_judge 50 = .ok (.if_icmp .ge 7, 3) := dk_162 0 7 (dk_at dksX9_judge_2 2 rfl rfl)
theorem dX9_judge_53 : decode cX9_judge 53 = .ok (.iload_n 1, 1) := dk_27 (dk_at dksX9_judge_2 5 rfl rfl)
theorem dX9_judge_54 : decode cX9_judge 54 = .ok (.goto 5, 3) := dk_167 0 5 (dk_at dksX9_judge_2 6 rfl rfl)
theorem dX9_judge_57 : decode cX9_judge 57 = .ok (.bipush (-9), 2) := dk_16 247 (dk_at dksX9_judge_2 9 rfl rfl)
theorem dX9_judge_59 : decode cX9_judge 59 = .ok (.ireturn, 1) := dk_172 (dk_at dksX9_judge_2 11 rfl rfl)
abbrev cX9_seeds : ByteArray := prog_28_method_68_code
def yX9_seeds : MethodName := ⟨RX9, "seeds", "(II)I"⟩
def dkwX9_seeds_4 : List UInt8 := [167, 255, 194, 42, 2, 182, 0, 106, 54, 5, 42, 182, 0, 109, 21, 5, 172]
abbrev dktX9_seeds_4 : List UInt8 := dkwX9_seeds_4 ++ []
def dkwX9_seeds_3 : List UInt8 := [17, 1, 0, 108, 8, 112, 182, 0, 64, 132, 6, 1, 167, 255, 214, 42, 182, 0, 99, 87, 132, 5, 1]
abbrev dktX9_seeds_3 : List UInt8 := dkwX9_seeds_3 ++ dktX9_seeds_4
def dkwX9_seeds_2 : List UInt8 := [162, 0, 37, 21, 4, 18, 189, 104, 18, 190, 96, 54, 4, 42, 21, 6, 4, 21, 4, 18, 191, 126]
abbrev dktX9_seeds_2 : List UInt8 := dkwX9_seeds_2 ++ dktX9_seeds_3
def dkwX9_seeds_1 : List UInt8 := [54, 4, 3, 54, 5, 21, 5, 27, 162, 0, 62, 3, 54, 6, 21, 6, 42, 180, 0, 13, 6, 46]
abbrev dktX9_seeds_1 : List UInt8 := dkwX9_seeds_1 ++ dktX9_seeds_2
def dkwX9_seeds_0 : List UInt8 := [27, 4, 16, 40, 184, 0, 112, 62, 29, 153, 0, 9, 42, 29, 182, 0, 120, 172, 42, 182, 0, 96, 28]
abbrev dktX9_seeds_0 : List UInt8 := dkwX9_seeds_0 ++ dktX9_seeds_1
theorem dksX9_seeds_0 : cX9_seeds.data.toList.drop 0 = dktX9_seeds_0 := by decide +kernel
theorem dksX9_seeds_1 : cX9_seeds.data.toList.drop 23 = dktX9_seeds_1 := dk_seg dksX9_seeds_0 23 rfl rfl
theorem dksX9_seeds_2 : cX9_seeds.data.toList.drop 45 = dktX9_seeds_2 := dk_seg dksX9_seeds_1 22 rfl rfl
theorem dksX9_seeds_3 : cX9_seeds.data.toList.drop 67 = dktX9_seeds_3 := dk_seg dksX9_seeds_2 22 rfl rfl
theorem dksX9_seeds_4 : cX9_seeds.data.toList.drop 90 = dktX9_seeds_4 := dk_seg dksX9_seeds_3 23 rfl rfl
theorem dX9_seeds_0 : decode cX9_seeds 0 = .ok (.iload_n 1, 1) := dk_27 (dk_at dksX9_seeds_0 0 rfl rfl)
theorem dX9_seeds_1 : decode cX9_seeds 1 = .ok (.iconst 1, 1) := dk_4 (dk_at dksX9_seeds_0 1 rfl rfl)
theorem dX9_seeds_2 : decode cX9_seeds 2 = .ok (.bipush 40, 2) := dk_16 40 (dk_at dksX9_seeds_0 2 rfl rfl)
theorem dX9_seeds_4 : decode cX9_seeds 4 = .ok (.invokestatic 112, 3) := dk_184 0 112 (dk_at dksX9_seeds_0 4 rfl rfl)
theorem dX9_seeds_7 : decode cX9_seeds 7 = .ok (.istore_n 3, 1) := dk_62 (dk_at dksX9_seeds_0 7 rfl rfl)
theorem dX9_seeds_8 : decode cX9_seeds 8 = .ok (.iload_n 3, 1) := dk_29 (dk_at dksX9_seeds_0 8 rfl rfl)
theorem dX9_seeds_9 : decode cX9_seeds 9 = .ok (.ifCond .eq 9, 3) := dk_153 0 9 (dk_at dksX9_seeds_0 9 rfl rfl)
theorem dX9_seeds_12 : decode cX9_seeds 12 = .ok (.aload_n 0, 1) := dk_42 (dk_at dksX9_seeds_0 12 rfl rfl)
theorem dX9_seeds_13 : decode cX9_seeds 13 = .ok (.iload_n 3, 1) := dk_29 (dk_at dksX9_seeds_0 13 rfl rfl)
theorem dX9_seeds_14 : decode cX9_seeds 14 = .ok (.invokevirtual 120, 3) := dk_182 0 120 (dk_at dksX9_seeds_0 14 rfl rfl)
theorem dX9_seeds_17 : decode cX9_seeds 17 = .ok (.ireturn, 1) := dk_172 (dk_at dksX9_seeds_0 17 rfl rfl)
theorem dX9_seeds_18 : decode cX9_seeds 18 = .ok (.aload_n 0, 1) := dk_42 (dk_at dksX9_seeds_0 18 rfl rfl)
theorem dX9_seeds_19 : decode cX9_seeds 19 = .ok (.invokevirtual 96, 3) := dk_182 0 96 (dk_at dksX9_seeds_0 19 rfl rfl)
theorem dX9_seeds_22 : decode cX9_seeds 22 = .ok (.iload_n 2, 1) := dk_28 (dk_at dksX9_seeds_0 22 rfl rfl)
theorem dX9_seeds_23 : decode cX9_seeds 23 = .ok (.istore 4, 2) := dk_54 4 (dk_at dksX9_seeds_1 0 rfl rfl)
theorem dX9_seeds_25 : decode cX9_seeds 25 = .ok (.iconst 0, 1) := dk_3 (dk_at dksX9_seeds_1 2 rfl rfl)
theorem dX9_seeds_26 : decode cX9_seeds 26 = .ok (.istore 5, 2) := dk_54 5 (dk_at dksX9_seeds_1 3 rfl rfl)
theorem dX9_seeds_28 : decode cX9_seeds 28 = .ok (.iload 5, 2) := dk_21 5 (dk_at dksX9_seeds_1 5 rfl rfl)
theorem dX9_seeds_30 : decode cX9_seeds 30 = .ok (.iload_n 1, 1) := dk_27 (dk_at dksX9_seeds_1 7 rfl rfl)
theorem dX9_seeds_31 : decode cX9_seeds 31 = .ok (.if_icmp .ge 62, 3) := dk_162 0 62 (dk_at dksX9_seeds_1 8 rfl rfl)
theorem dX9_seeds_34 : decode cX9_seeds 34 = .ok (.iconst 0, 1) := dk_3 (dk_at dksX9_seeds_1 11 rfl rfl)
theorem dX9_seeds_35 : decode cX9_seeds 35 = .ok (.istore 6, 2) := dk_54 6 (dk_at dksX9_seeds_1 12 rfl rfl)
theorem dX9_seeds_37 : decode cX9_seeds 37 = .ok (.iload 6, 2) := dk_21 6 (dk_at dksX9_seeds_1 14 rfl rfl)
theorem dX9_seeds_39 : decode cX9_seeds 39 = .ok (.aload_n 0, 1) := dk_42 (dk_at dksX9_seeds_1 16 rfl rfl)
theorem dX9_seeds_40 : decode cX9_seeds 40 = .ok (.getfield 13, 3) := dk_180 0 13 (dk_at dksX9_seeds_1 17 rfl rfl)
theorem dX9_seeds_43 : decode cX9_seeds 43 = .ok (.iconst 3, 1) := dk_6 (dk_at dksX9_seeds_1 20 rfl rfl)
theorem dX9_seeds_44 : decode cX9_seeds 44 = .ok (.iaload, 1) := dk_46 (dk_at dksX9_seeds_1 21 rfl rfl)
theorem dX9_seeds_45 : decode cX9_seeds 45 = .ok (.if_icmp .ge 37, 3) := dk_162 0 37 (dk_at dksX9_seeds_2 0 rfl rfl)
theorem dX9_seeds_48 : decode cX9_seeds 48 = .ok (.iload 4, 2) := dk_21 4 (dk_at dksX9_seeds_2 3 rfl rfl)
theorem dX9_seeds_50 : decode cX9_seeds 50 = .ok (.ldc 189, 2) := dk_18 189 (dk_at dksX9_seeds_2 5 rfl rfl)
theorem dX9_seeds_52 : decode cX9_seeds 52 = .ok (.imul, 1) := dk_104 (dk_at dksX9_seeds_2 7 rfl rfl)
theorem dX9_seeds_53 : decode cX9_seeds 53 = .ok (.ldc 190, 2) := dk_18 190 (dk_at dksX9_seeds_2 8 rfl rfl)
theorem dX9_seeds_55 : decode cX9_seeds 55 = .ok (.iadd, 1) := dk_96 (dk_at dksX9_seeds_2 10 rfl rfl)
theorem dX9_seeds_56 : decode cX9_seeds 56 = .ok (.istore 4, 2) := dk_54 4 (dk_at dksX9_seeds_2 11 rfl rfl)
theorem dX9_seeds_58 : decode cX9_seeds 58 = .ok (.aload_n 0, 1) := dk_42 (dk_at dksX9_seeds_2 13 rfl rfl)
theorem dX9_seeds_59 : decode cX9_seeds 59 = .ok (.iload 6, 2) := dk_21 6 (dk_at dksX9_seeds_2 14 rfl rfl)
theorem dX9_seeds_61 : decode cX9_seeds 61 = .ok (.iconst 1, 1) := dk_4 (dk_at dksX9_seeds_2 16 rfl rfl)
theorem dX9_seeds_62 : decode cX9_seeds 62 = .ok (.iload 4, 2) := dk_21 4 (dk_at dksX9_seeds_2 17 rfl rfl)
theorem dX9_seeds_64 : decode cX9_seeds 64 = .ok (.ldc 191, 2) := dk_18 191 (dk_at dksX9_seeds_2 19 rfl rfl)
theorem dX9_seeds_66 : decode cX9_seeds 66 = .ok (.iand, 1) := dk_126 (dk_at dksX9_seeds_2 21 rfl rfl)
theorem dX9_seeds_67 : decode cX9_seeds 67 = .ok (.sipush 256, 3) := dk_17 1 0 (dk_at dksX9_seeds_3 0 rfl rfl)
theorem dX9_seeds_70 : decode cX9_seeds 70 = .ok (.idiv, 1) := dk_108 (dk_at dksX9_seeds_3 3 rfl rfl)
theorem dX9_seeds_71 : decode cX9_seeds 71 = .ok (.iconst 5, 1) := dk_8 (dk_at dksX9_seeds_3 4 rfl rfl)
theorem dX9_seeds_72 : decode cX9_seeds 72 = .ok (.irem, 1) := dk_112 (dk_at dksX9_seeds_3 5 rfl rfl)
theorem dX9_seeds_73 : decode cX9_seeds 73 = .ok (.invokevirtual 64, 3) := dk_182 0 64 (dk_at dksX9_seeds_3 6 rfl rfl)
theorem dX9_seeds_76 : decode cX9_seeds 76 = .ok (.iinc 6 1, 3) := dk_132 6 1 (dk_at dksX9_seeds_3 9 rfl rfl)
theorem dX9_seeds_79 : decode cX9_seeds 79 = .ok (.goto (-42), 3) := dk_167 255 214 (dk_at dksX9_seeds_3 12 rfl rfl)
theorem dX9_seeds_82 : decode cX9_seeds 82 = .ok (.aload_n 0, 1) := dk_42 (dk_at dksX9_seeds_3 15 rfl rfl)
theorem dX9_seeds_83 : decode cX9_seeds 83 = .ok (.invokevirtual 99, 3) := dk_182 0 99 (dk_at dksX9_seeds_3 16 rfl rfl)
theorem dX9_seeds_86 : decode cX9_seeds 86 = .ok (.pop, 1) := dk_87 (dk_at dksX9_seeds_3 19 rfl rfl)
theorem dX9_seeds_87 : decode cX9_seeds 87 = .ok (.iinc 5 1, 3) := dk_132 5 1 (dk_at dksX9_seeds_3 20 rfl rfl)
theorem dX9_seeds_90 : decode cX9_seeds 90 = .ok (.goto (-62), 3) := dk_167 255 194 (dk_at dksX9_seeds_4 0 rfl rfl)
theorem dX9_seeds_93 : decode cX9_seeds 93 = .ok (.aload_n 0, 1) := dk_42 (dk_at dksX9_seeds_4 3 rfl rfl)
theorem dX9_seeds_94 : decode cX9_seeds 94 = .ok (.iconst (-1), 1) := dk_2 (dk_at dksX9_seeds_4 4 rfl rfl)
theorem dX9_seeds_95 : decode cX9_seeds 95 = .ok (.invokevirtual 106, 3) := dk_182 0 106 (dk_at dksX9_seeds_4 5 rfl rfl)
theorem dX9_seeds_98 : decode cX9_seeds 98 = .ok (.istore 5, 2) := dk_54 5 (dk_at dksX9_seeds_4 8 rfl rfl)
theorem dX9_seeds_100 : decode cX9_seeds 100 = .ok (.aload_n 0, 1) := dk_42 (dk_at dksX9_seeds_4 10 rfl rfl)
theorem dX9_seeds_101 : decode cX9_seeds 101 = .ok (.invokevirtual 109, 3) := dk_182 0 109 (dk_at dksX9_seeds_4 11 rfl rfl)
theorem dX9_seeds_104 : decode cX9_seeds 104 = .ok (.iload 5, 2) := dk_21 5 (dk_at dksX9_seeds_4 14 rfl rfl)
theorem dX9_seeds_106 : decode cX9_seeds 106 = .ok (.ireturn, 1) := dk_172 (dk_at dksX9_seeds_4 16 rfl rfl)
abbrev cX9_image : ByteArray := prog_28_method_69_code
def yX9_image : MethodName := ⟨RX9, "image", "()I"⟩
def dkwX9_image_0 : List UInt8 := [42, 180, 0, 13, 42, 180, 0, 16, 184, 0, 49, 42, 4, 181, 0, 192, 42, 180, 0, 13, 7, 46, 172]
abbrev dktX9_image_0 : List UInt8 := dkwX9_image_0 ++ []
theorem dksX9_image_0 : cX9_image.data.toList.drop 0 = dktX9_image_0 := by decide +kernel
theorem dX9_image_0 : decode cX9_image 0 = .ok (.aload_n 0, 1) := dk_42 (dk_at dksX9_image_0 0 rfl rfl)
theorem dX9_image_1 : decode cX9_image 1 = .ok (.getfield 13, 3) := dk_180 0 13 (dk_at dksX9_image_0 1 rfl rfl)
theorem dX9_image_4 : decode cX9_image 4 = .ok (.aload_n 0, 1) := dk_42 (dk_at dksX9_image_0 4 rfl rfl)
theorem dX9_image_5 : decode cX9_image 5 = .ok (.getfield 16, 3) := dk_180 0 16 (dk_at dksX9_image_0 5 rfl rfl)
theorem dX9_image_8 : decode cX9_image 8 = .ok (.invokestatic 49, 3) := dk_184 0 49 (dk_at dksX9_image_0 8 rfl rfl)
theorem dX9_image_11 : decode cX9_image 11 = .ok (.aload_n 0, 1) := dk_42 (dk_at dksX9_image_0 11 rfl rfl)
theorem dX9_image_12 : decode cX9_image 12 = .ok (.iconst 1, 1) := dk_4 (dk_at dksX9_image_0 12 rfl rfl)
theorem dX9_image_13 : decode cX9_image 13 = .ok (.putfield 192, 3) := dk_181 0 192 (dk_at dksX9_image_0 13 rfl rfl)
theorem dX9_image_16 : decode cX9_image 16 = .ok (.aload_n 0, 1) := dk_42 (dk_at dksX9_image_0 16 rfl rfl)
theorem dX9_image_17 : decode cX9_image 17 = .ok (.getfield 13, 3) := dk_180 0 13 (dk_at dksX9_image_0 17 rfl rfl)
theorem dX9_image_20 : decode cX9_image 20 = .ok (.iconst 4, 1) := dk_7 (dk_at dksX9_image_0 20 rfl rfl)
theorem dX9_image_21 : decode cX9_image 21 = .ok (.iaload, 1) := dk_46 (dk_at dksX9_image_0 21 rfl rfl)
theorem dX9_image_22 : decode cX9_image 22 = .ok (.ireturn, 1) := dk_172 (dk_at dksX9_image_0 22 rfl rfl)
abbrev cX9_on : ByteArray := prog_28_method_70_code
def yX9_on : MethodName := ⟨RX9, "on", "()I"⟩
def dkwX9_on_1 : List UInt8 := [184, 0, 49, 42, 180, 0, 13, 7, 46, 172]
abbrev dktX9_on_1 : List UInt8 := dkwX9_on_1 ++ []
def dkwX9_on_0 : List UInt8 := [42, 180, 0, 192, 154, 0, 10, 42, 16, 253, 182, 0, 120, 172, 42, 180, 0, 16, 42, 180, 0, 13]
abbrev dktX9_on_0 : List UInt8 := dkwX9_on_0 ++ dktX9_on_1
theorem dksX9_on_0 : cX9_on.data.toList.drop 0 = dktX9_on_0 := by decide +kernel
theorem dksX9_on_1 : cX9_on.data.toList.drop 22 = dktX9_on_1 := dk_seg dksX9_on_0 22 rfl rfl
theorem dX9_on_0 : decode cX9_on 0 = .ok (.aload_n 0, 1) := dk_42 (dk_at dksX9_on_0 0 rfl rfl)
theorem dX9_on_1 : decode cX9_on 1 = .ok (.getfield 192, 3) := dk_180 0 192 (dk_at dksX9_on_0 1 rfl rfl)
theorem dX9_on_4 : decode cX9_on 4 = .ok (.ifCond .ne 10, 3) := dk_154 0 10 (dk_at dksX9_on_0 4 rfl rfl)
theorem dX9_on_7 : decode cX9_on 7 = .ok (.aload_n 0, 1) := dk_42 (dk_at dksX9_on_0 7 rfl rfl)
theorem dX9_on_8 : decode cX9_on 8 = .ok (.bipush (-3), 2) := dk_16 253 (dk_at dksX9_on_0 8 rfl rfl)
theorem dX9_on_10 : decode cX9_on 10 = .ok (.invokevirtual 120, 3) := dk_182 0 120 (dk_at dksX9_on_0 10 rfl rfl)
theorem dX9_on_13 : decode cX9_on 13 = .ok (.ireturn, 1) := dk_172 (dk_at dksX9_on_0 13 rfl rfl)
theorem dX9_on_14 : decode cX9_on 14 = .ok (.aload_n 0, 1) := dk_42 (dk_at dksX9_on_0 14 rfl rfl)
theorem dX9_on_15 : decode cX9_on 15 = .ok (.getfield 16, 3) := dk_180 0 16 (dk_at dksX9_on_0 15 rfl rfl)
theorem dX9_on_18 : decode cX9_on 18 = .ok (.aload_n 0, 1) := dk_42 (dk_at dksX9_on_0 18 rfl rfl)
theorem dX9_on_19 : decode cX9_on 19 = .ok (.getfield 13, 3) := dk_180 0 13 (dk_at dksX9_on_0 19 rfl rfl)
theorem dX9_on_22 : decode cX9_on 22 = .ok (.invokestatic 49, 3) := dk_184 0 49 (dk_at dksX9_on_1 0 rfl rfl)
theorem dX9_on_25 : decode cX9_on 25 = .ok (.aload_n 0, 1) := dk_42 (dk_at dksX9_on_1 3 rfl rfl)
theorem dX9_on_26 : decode cX9_on 26 = .ok (.getfield 13, 3) := dk_180 0 13 (dk_at dksX9_on_1 4 rfl rfl)
theorem dX9_on_29 : decode cX9_on 29 = .ok (.iconst 4, 1) := dk_7 (dk_at dksX9_on_1 7 rfl rfl)
theorem dX9_on_30 : decode cX9_on 30 = .ok (.iaload, 1) := dk_46 (dk_at dksX9_on_1 8 rfl rfl)
theorem dX9_on_31 : decode cX9_on 31 = .ok (.ireturn, 1) := dk_172 (dk_at dksX9_on_1 9 rfl rfl)
abbrev cX9_count : ByteArray := prog_28_method_72_code
def yX9_count : MethodName := ⟨RX9, "count", "(I)I"⟩
def dkwX9_count_6 : List UInt8 := [167, 255, 234, 28, 172, 42, 180, 0, 180, 172, 42, 180, 0, 116, 172, 16, 247, 172]
abbrev dktX9_count_6 : List UInt8 := dkwX9_count_6 ++ []
def dkwX9_count_5 : List UInt8 := [29, 42, 180, 0, 13, 6, 46, 162, 0, 18, 28, 42, 29, 7, 182, 0, 61, 96, 61, 132, 3, 1]
abbrev dktX9_count_5 : List UInt8 := dkwX9_count_5 ++ dktX9_count_6
def dkwX9_count_4 : List UInt8 := [180, 0, 13, 4, 46, 184, 0, 196, 172, 42, 180, 0, 13, 27, 46, 172, 42, 2, 182, 0, 106, 172, 3, 62]
abbrev dktX9_count_4 : List UInt8 := dkwX9_count_4 ++ dktX9_count_5
def dkwX9_count_3 : List UInt8 := [42, 180, 0, 13, 6, 46, 172, 42, 180, 0, 13, 5, 46, 172, 42, 180, 0, 13, 3, 46, 172, 42]
abbrev dktX9_count_3 : List UInt8 := dkwX9_count_3 ++ dktX9_count_4
def dkwX9_count_2 : List UInt8 := [170, 0, 0, 0, 0, 0, 138, 0, 0, 0, 0, 0, 0, 0, 9, 0, 0, 0, 55, 0, 0, 0, 62, 0, 0, 0, 69, 0, 0, 0, 76, 0, 0, 0, 86, 0, 0, 0, 86, 0, 0, 0, 93, 0, 0, 0, 99, 0, 0, 0, 128, 0, 0, 0, 133]
abbrev dktX9_count_2 : List UInt8 := dkwX9_count_2 ++ dktX9_count_3
def dkwX9_count_1 : List UInt8 := [27]
abbrev dktX9_count_1 : List UInt8 := dkwX9_count_1 ++ dktX9_count_2
def dkwX9_count_0 : List UInt8 := [27, 16, 10, 164, 0, 19, 27, 16, 17, 162, 0, 13, 42, 180, 0, 7, 27, 16, 10, 100, 46, 172, 3, 61]
abbrev dktX9_count_0 : List UInt8 := dkwX9_count_0 ++ dktX9_count_1
theorem dksX9_count_0 : cX9_count.data.toList.drop 0 = dktX9_count_0 := by decide +kernel
theorem dksX9_count_1 : cX9_count.data.toList.drop 24 = dktX9_count_1 := dk_seg dksX9_count_0 24 rfl rfl
theorem dksX9_count_2 : cX9_count.data.toList.drop 25 = dktX9_count_2 := dk_seg dksX9_count_1 1 rfl rfl
theorem dksX9_count_3 : cX9_count.data.toList.drop 80 = dktX9_count_3 := dk_seg dksX9_count_2 55 rfl rfl
theorem dksX9_count_4 : cX9_count.data.toList.drop 102 = dktX9_count_4 := dk_seg dksX9_count_3 22 rfl rfl
theorem dksX9_count_5 : cX9_count.data.toList.drop 126 = dktX9_count_5 := dk_seg dksX9_count_4 24 rfl rfl
theorem dksX9_count_6 : cX9_count.data.toList.drop 148 = dktX9_count_6 := dk_seg dksX9_count_5 22 rfl rfl
theorem dX9_count_0 : decode cX9_count 0 = .ok (.iload_n 1, 1) := dk_27 (dk_at dksX9_count_0 0 rfl rfl)
theorem dX9_count_1 : decode cX9_count 1 = .ok (.bipush 10, 2) := dk_16 10 (dk_at dksX9_count_0 1 rfl rfl)
theorem dX9_count_3 : decode cX9_count 3 = .ok (.if_icmp .le 19, 3) := dk_164 0 19 (dk_at dksX9_count_0 3 rfl rfl)
theorem dX9_count_6 : decode cX9_count 6 = .ok (.iload_n 1, 1) := dk_27 (dk_at dksX9_count_0 6 rfl rfl)
theorem dX9_count_7 : decode cX9_count 7 = .ok (.bipush 17, 2) := dk_16 17 (dk_at dksX9_count_0 7 rfl rfl)
theorem dX9_count_9 : decode cX9_count 9 = .ok (.if_icmp .ge 13, 3) := dk_162 0 13 (dk_at dksX9_count_0 9 rfl rfl)
theorem dX9_count_12 : decode cX9_count 12 = .ok (.aload_n 0, 1) := dk_42 (dk_at dksX9_count_0 12 rfl rfl)
theorem dX9_count_13 : decode cX9_count 13 = .ok (.getfield 7, 3) := dk_180 0 7 (dk_at dksX9_count_0 13 rfl rfl)
theorem dX9_count_16 : decode cX9_count 16 = .ok (.iload_n 1, 1) := dk_27 (dk_at dksX9_count_0 16 rfl rfl)
theorem dX9_count_17 : decode cX9_count 17 = .ok (.bipush 10, 2) := dk_16 10 (dk_at dksX9_count_0 17 rfl rfl)
theorem dX9_count_19 : decode cX9_count 19 = .ok (.isub, 1) := dk_100 (dk_at dksX9_count_0 19 rfl rfl)
theorem dX9_count_20 : decode cX9_count 20 = .ok (.iaload, 1) := dk_46 (dk_at dksX9_count_0 20 rfl rfl)
theorem dX9_count_21 : decode cX9_count 21 = .ok (.ireturn, 1) := dk_172 (dk_at dksX9_count_0 21 rfl rfl)
theorem dX9_count_22 : decode cX9_count 22 = .ok (.iconst 0, 1) := dk_3 (dk_at dksX9_count_0 22 rfl rfl)
theorem dX9_count_23 : decode cX9_count 23 = .ok (.istore_n 2, 1) := dk_61 (dk_at dksX9_count_0 23 rfl rfl)
theorem dX9_count_24 : decode cX9_count 24 = .ok (.iload_n 1, 1) := dk_27 (dk_at dksX9_count_1 0 rfl rfl)
theorem dX9_count_25 : decode cX9_count 25 = .ok (.tableswitch 138 0 9 #[55, 62, 69, 76, 86, 86, 93, 99, 128, 133], 55) := by decide +kernel
theorem dX9_count_80 : decode cX9_count 80 = .ok (.aload_n 0, 1) := dk_42 (dk_at dksX9_count_3 0 rfl rfl)
theorem dX9_count_81 : decode cX9_count 81 = .ok (.getfield 13, 3) := dk_180 0 13 (dk_at dksX9_count_3 1 rfl rfl)
theorem dX9_count_84 : decode cX9_count 84 = .ok (.iconst 3, 1) := dk_6 (dk_at dksX9_count_3 4 rfl rfl)
theorem dX9_count_85 : decode cX9_count 85 = .ok (.iaload, 1) := dk_46 (dk_at dksX9_count_3 5 rfl rfl)
theorem dX9_count_86 : decode cX9_count 86 = .ok (.ireturn, 1) := dk_172 (dk_at dksX9_count_3 6 rfl rfl)
theorem dX9_count_87 : decode cX9_count 87 = .ok (.aload_n 0, 1) := dk_42 (dk_at dksX9_count_3 7 rfl rfl)
theorem dX9_count_88 : decode cX9_count 88 = .ok (.getfield 13, 3) := dk_180 0 13 (dk_at dksX9_count_3 8 rfl rfl)
theorem dX9_count_91 : decode cX9_count 91 = .ok (.iconst 2, 1) := dk_5 (dk_at dksX9_count_3 11 rfl rfl)
theorem dX9_count_92 : decode cX9_count 92 = .ok (.iaload, 1) := dk_46 (dk_at dksX9_count_3 12 rfl rfl)
theorem dX9_count_93 : decode cX9_count 93 = .ok (.ireturn, 1) := dk_172 (dk_at dksX9_count_3 13 rfl rfl)
theorem dX9_count_94 : decode cX9_count 94 = .ok (.aload_n 0, 1) := dk_42 (dk_at dksX9_count_3 14 rfl rfl)
theorem dX9_count_95 : decode cX9_count 95 = .ok (.getfield 13, 3) := dk_180 0 13 (dk_at dksX9_count_3 15 rfl rfl)
theorem dX9_count_98 : decode cX9_count 98 = .ok (.iconst 0, 1) := dk_3 (dk_at dksX9_count_3 18 rfl rfl)
theorem dX9_count_99 : decode cX9_count 99 = .ok (.iaload, 1) := dk_46 (dk_at dksX9_count_3 19 rfl rfl)
theorem dX9_count_100 : decode cX9_count 100 = .ok (.ireturn, 1) := dk_172 (dk_at dksX9_count_3 20 rfl rfl)
theorem dX9_count_101 : decode cX9_count 101 = .ok (.aload_n 0, 1) := dk_42 (dk_at dksX9_count_3 21 rfl rfl)
theorem dX9_count_102 : decode cX9_count 102 = .ok (.getfield 13, 3) := dk_180 0 13 (dk_at dksX9_count_4 0 rfl rfl)
theorem dX9_count_105 : decode cX9_count 105 = .ok (.iconst 1, 1) := dk_4 (dk_at dksX9_count_4 3 rfl rfl)
theorem dX9_count_106 : decode cX9_count 106 = .ok (.iaload, 1) := dk_46 (dk_at dksX9_count_4 4 rfl rfl)
theorem dX9_count_107 : decode cX9_count 107 = .ok (.invokestatic 196, 3) := dk_184 0 196 (dk_at dksX9_count_4 5 rfl rfl)
theorem dX9_count_110 : decode cX9_count 110 = .ok (.ireturn, 1) := dk_172 (dk_at dksX9_count_4 8 rfl rfl)
theorem dX9_count_111 : decode cX9_count 111 = .ok (.aload_n 0, 1) := dk_42 (dk_at dksX9_count_4 9 rfl rfl)
theorem dX9_count_112 : decode cX9_count 112 = .ok (.getfield 13, 3) := dk_180 0 13 (dk_at dksX9_count_4 10 rfl rfl)
theorem dX9_count_115 : decode cX9_count 115 = .ok (.iload_n 1, 1) := dk_27 (dk_at dksX9_count_4 13 rfl rfl)
theorem dX9_count_116 : decode cX9_count 116 = .ok (.iaload, 1) := dk_46 (dk_at dksX9_count_4 14 rfl rfl)
theorem dX9_count_117 : decode cX9_count 117 = .ok (.ireturn, 1) := dk_172 (dk_at dksX9_count_4 15 rfl rfl)
theorem dX9_count_118 : decode cX9_count 118 = .ok (.aload_n 0, 1) := dk_42 (dk_at dksX9_count_4 16 rfl rfl)
theorem dX9_count_119 : decode cX9_count 119 = .ok (.iconst (-1), 1) := dk_2 (dk_at dksX9_count_4 17 rfl rfl)
theorem dX9_count_120 : decode cX9_count 120 = .ok (.invokevirtual 106, 3) := dk_182 0 106 (dk_at dksX9_count_4 18 rfl rfl)
theorem dX9_count_123 : decode cX9_count 123 = .ok (.ireturn, 1) := dk_172 (dk_at dksX9_count_4 21 rfl rfl)
theorem dX9_count_124 : decode cX9_count 124 = .ok (.iconst 0, 1) := dk_3 (dk_at dksX9_count_4 22 rfl rfl)
theorem dX9_count_125 : decode cX9_count 125 = .ok (.istore_n 3, 1) := dk_62 (dk_at dksX9_count_4 23 rfl rfl)
theorem dX9_count_126 : decode cX9_count 126 = .ok (.iload_n 3, 1) := dk_29 (dk_at dksX9_count_5 0 rfl rfl)
theorem dX9_count_127 : decode cX9_count 127 = .ok (.aload_n 0, 1) := dk_42 (dk_at dksX9_count_5 1 rfl rfl)
theorem dX9_count_128 : decode cX9_count 128 = .ok (.getfield 13, 3) := dk_180 0 13 (dk_at dksX9_count_5 2 rfl rfl)
theorem dX9_count_131 : decode cX9_count 131 = .ok (.iconst 3, 1) := dk_6 (dk_at dksX9_count_5 5 rfl rfl)
theorem dX9_count_132 : decode cX9_count 132 = .ok (.iaload, 1) := dk_46 (dk_at dksX9_count_5 6 rfl rfl)
theorem dX9_count_133 : decode cX9_count 133 = .ok (.if_icmp .ge 18, 3) := dk_162 0 18 (dk_at dksX9_count_5 7 rfl rfl)
theorem dX9_count_136 : decode cX9_count 136 = .ok (.iload_n 2, 1) := dk_28 (dk_at dksX9_count_5 10 rfl rfl)
theorem dX9_count_137 : decode cX9_count 137 = .ok (.aload_n 0, 1) := dk_42 (dk_at dksX9_count_5 11 rfl rfl)
theorem dX9_count_138 : decode cX9_count 138 = .ok (.iload_n 3, 1) := dk_29 (dk_at dksX9_count_5 12 rfl rfl)
theorem dX9_count_139 : decode cX9_count 139 = .ok (.iconst 4, 1) := dk_7 (dk_at dksX9_count_5 13 rfl rfl)
theorem dX9_count_140 : decode cX9_count 140 = .ok (.invokevirtual 61, 3) := dk_182 0 61 (dk_at dksX9_count_5 14 rfl rfl)
theorem dX9_count_143 : decode cX9_count 143 = .ok (.iadd, 1) := dk_96 (dk_at dksX9_count_5 17 rfl rfl)
theorem dX9_count_144 : decode cX9_count 144 = .ok (.istore_n 2, 1) := dk_61 (dk_at dksX9_count_5 18 rfl rfl)
theorem dX9_count_145 : decode cX9_count 145 = .ok (.iinc 3 1, 3) := dk_132 3 1 (dk_at dksX9_count_5 19 rfl rfl)
theorem dX9_count_148 : decode cX9_count 148 = .ok (.goto (-22), 3) := dk_167 255 234 (dk_at dksX9_count_6 0 rfl rfl)
theorem dX9_count_151 : decode cX9_count 151 = .ok (.iload_n 2, 1) := dk_28 (dk_at dksX9_count_6 3 rfl rfl)
theorem dX9_count_152 : decode cX9_count 152 = .ok (.ireturn, 1) := dk_172 (dk_at dksX9_count_6 4 rfl rfl)
theorem dX9_count_153 : decode cX9_count 153 = .ok (.aload_n 0, 1) := dk_42 (dk_at dksX9_count_6 5 rfl rfl)
theorem dX9_count_154 : decode cX9_count 154 = .ok (.getfield 180, 3) := dk_180 0 180 (dk_at dksX9_count_6 6 rfl rfl)
theorem dX9_count_157 : decode cX9_count 157 = .ok (.ireturn, 1) := dk_172 (dk_at dksX9_count_6 9 rfl rfl)
theorem dX9_count_158 : decode cX9_count 158 = .ok (.aload_n 0, 1) := dk_42 (dk_at dksX9_count_6 10 rfl rfl)
theorem dX9_count_159 : decode cX9_count 159 = .ok (.getfield 116, 3) := dk_180 0 116 (dk_at dksX9_count_6 11 rfl rfl)
theorem dX9_count_162 : decode cX9_count 162 = .ok (.ireturn, 1) := dk_172 (dk_at dksX9_count_6 14 rfl rfl)
theorem dX9_count_163 : decode cX9_count 163 = .ok (.bipush (-9), 2) := dk_16 247 (dk_at dksX9_count_6 15 rfl rfl)
theorem dX9_count_165 : decode cX9_count 165 = .ok (.ireturn, 1) := dk_172 (dk_at dksX9_count_6 17 rfl rfl)
abbrev cX9_bits : ByteArray := prog_28_method_71_code
def yX9_bits : MethodName := ⟨RX9, "bits", "(I)I"⟩
def dkwX9_bits_0 : List UInt8 := [3, 60, 26, 61, 28, 158, 0, 16, 27, 28, 4, 126, 96, 60, 28, 4, 122, 61, 167, 255, 242, 27, 172]
abbrev dktX9_bits_0 : List UInt8 := dkwX9_bits_0 ++ []
theorem dksX9_bits_0 : cX9_bits.data.toList.drop 0 = dktX9_bits_0 := by decide +kernel
theorem dX9_bits_0 : decode cX9_bits 0 = .ok (.iconst 0, 1) := dk_3 (dk_at dksX9_bits_0 0 rfl rfl)
theorem dX9_bits_1 : decode cX9_bits 1 = .ok (.istore_n 1, 1) := dk_60 (dk_at dksX9_bits_0 1 rfl rfl)
theorem dX9_bits_2 : decode cX9_bits 2 = .ok (.iload_n 0, 1) := dk_26 (dk_at dksX9_bits_0 2 rfl rfl)
theorem dX9_bits_3 : decode cX9_bits 3 = .ok (.istore_n 2, 1) := dk_61 (dk_at dksX9_bits_0 3 rfl rfl)
theorem dX9_bits_4 : decode cX9_bits 4 = .ok (.iload_n 2, 1) := dk_28 (dk_at dksX9_bits_0 4 rfl rfl)
theorem dX9_bits_5 : decode cX9_bits 5 = .ok (.ifCond .le 16, 3) := dk_158 0 16 (dk_at dksX9_bits_0 5 rfl rfl)
theorem dX9_bits_8 : decode cX9_bits 8 = .ok (.iload_n 1, 1) := dk_27 (dk_at dksX9_bits_0 8 rfl rfl)
theorem dX9_bits_9 : decode cX9_bits 9 = .ok (.iload_n 2, 1) := dk_28 (dk_at dksX9_bits_0 9 rfl rfl)
theorem dX9_bits_10 : decode cX9_bits 10 = .ok (.iconst 1, 1) := dk_4 (dk_at dksX9_bits_0 10 rfl rfl)
theorem dX9_bits_11 : decode cX9_bits 11 = .ok (.iand, 1) := dk_126 (dk_at dksX9_bits_0 11 rfl rfl)
theorem dX9_bits_12 : decode cX9_bits 12 = .ok (.iadd, 1) := dk_96 (dk_at dksX9_bits_0 12 rfl rfl)
theorem dX9_bits_13 : decode cX9_bits 13 = .ok (.istore_n 1, 1) := dk_60 (dk_at dksX9_bits_0 13 rfl rfl)
theorem dX9_bits_14 : decode cX9_bits 14 = .ok (.iload_n 2, 1) := dk_28 (dk_at dksX9_bits_0 14 rfl rfl)
theorem dX9_bits_15 : decode cX9_bits 15 = .ok (.iconst 1, 1) := dk_4 (dk_at dksX9_bits_0 15 rfl rfl)
theorem dX9_bits_16 : decode cX9_bits 16 = .ok (.ishr, 1) := dk_122 (dk_at dksX9_bits_0 16 rfl rfl)
theorem dX9_bits_17 : decode cX9_bits 17 = .ok (.istore_n 2, 1) := dk_61 (dk_at dksX9_bits_0 17 rfl rfl)
theorem dX9_bits_18 : decode cX9_bits 18 = .ok (.goto (-14), 3) := dk_167 255 242 (dk_at dksX9_bits_0 18 rfl rfl)
theorem dX9_bits_21 : decode cX9_bits 21 = .ok (.iload_n 1, 1) := dk_27 (dk_at dksX9_bits_0 21 rfl rfl)
theorem dX9_bits_22 : decode cX9_bits 22 = .ok (.ireturn, 1) := dk_172 (dk_at dksX9_bits_0 22 rfl rfl)
theorem q104 : (Jvm.Cond.initialized "SongThatStaysModel") ∈ lw_all := lw_g (lw_at lw_m1 10 rfl) rfl
theorem q1242 : (Jvm.Cond.instantiable "SongThatStaysModel" (17 : Nat)) ∈ lw_all := lw_g (lw_at lw_m5 188 rfl) rfl
theorem q1244 : (Jvm.Cond.instanceMethod ({ cls := "SongThatStaysModel", name := "<init>", desc := "()V" } : Jvm.MethodName)) ∈ lw_all := lw_g (lw_at lw_m5 190 rfl) rfl
theorem q1245 : (Jvm.Cond.code ({ cls := "SongThatStaysModel", name := "<init>", desc := "()V" } : Jvm.MethodName) prog_28_method_1_code (1 : Nat) (Option.none : Option Jvm.ClassFile.FieldType)) ∈ lw_all := lw_g (lw_at lw_m5 191 rfl) rfl
theorem q1246 : (Jvm.Cond.methodLink "SongThatStaysModel" (1 : Nat) ({ cls := "java/lang/Object", name := "<init>", desc := "()V" } : Jvm.MethodName)) ∈ lw_all := lw_g (lw_at lw_m5 192 rfl) rfl
theorem q1247 : (Jvm.Cond.fieldLink "SongThatStaysModel" (7 : Nat) "SongThatStaysModel" "refusals" "[I") ∈ lw_all := lw_g (lw_at lw_m5 193 rfl) rfl
theorem q1248 : (Jvm.Cond.fieldLink "SongThatStaysModel" (13 : Nat) "SongThatStaysModel" "s" "[I") ∈ lw_all := lw_g (lw_at lw_m5 194 rfl) rfl
theorem q1249 : (Jvm.Cond.fieldLink "SongThatStaysModel" (16 : Nat) "SongThatStaysModel" "image" "[I") ∈ lw_all := lw_g (lw_at lw_m5 195 rfl) rfl
theorem q1250 : (Jvm.Cond.fieldLink "SongThatStaysModel" (19 : Nat) "SongThatStaysModel" "read" "[I") ∈ lw_all := lw_g (lw_at lw_m5 196 rfl) rfl
theorem q1251 : (Jvm.Cond.fieldLink "SongThatStaysModel" (22 : Nat) "SongThatStaysModel" "mind" "[I") ∈ lw_all := lw_g (lw_at lw_m5 197 rfl) rfl
theorem q1252 : (Jvm.Cond.fieldLink "SongThatStaysModel" (192 : Nat) "SongThatStaysModel" "isImage" "Z") ∈ lw_all := lw_g (lw_at lw_m5 198 rfl) rfl
theorem q1253 : (Jvm.Cond.fieldLink "SongThatStaysModel" (25 : Nat) "SongThatStaysModel" "heard" "[I") ∈ lw_all := lw_g (lw_at lw_m5 199 rfl) rfl
theorem q1254 : (Jvm.Cond.fieldLink "SongThatStaysModel" (28 : Nat) "SongThatStaysModel" "by" "[I") ∈ lw_all := lw_g (lw_at lw_m5 200 rfl) rfl
theorem q1255 : (Jvm.Cond.fieldLink "SongThatStaysModel" (31 : Nat) "SongThatStaysModel" "from" "[I") ∈ lw_all := lw_g (lw_at lw_m5 201 rfl) rfl
theorem q1256 : (Jvm.Cond.fieldLink "SongThatStaysModel" (34 : Nat) "SongThatStaysModel" "origin" "[I") ∈ lw_all := lw_g (lw_at lw_m5 202 rfl) rfl
theorem q1257 : (Jvm.Cond.fieldLink "SongThatStaysModel" (37 : Nat) "SongThatStaysModel" "kept" "[I") ∈ lw_all := lw_g (lw_at lw_m5 203 rfl) rfl
theorem q1258 : (Jvm.Cond.fieldLink "SongThatStaysModel" (40 : Nat) "SongThatStaysModel" "tape" "[I") ∈ lw_all := lw_g (lw_at lw_m5 204 rfl) rfl
theorem q1259 : (Jvm.Cond.fieldLink "SongThatStaysModel" (43 : Nat) "SongThatStaysModel" "told" "[I") ∈ lw_all := lw_g (lw_at lw_m5 205 rfl) rfl
theorem q1260 : (Jvm.Cond.fieldLink "SongThatStaysModel" (116 : Nat) "SongThatStaysModel" "taped" "I") ∈ lw_all := lw_g (lw_at lw_m5 206 rfl) rfl
theorem q1261 : (Jvm.Cond.fieldLink "SongThatStaysModel" (123 : Nat) "SongThatStaysModel" "place" "I") ∈ lw_all := lw_g (lw_at lw_m5 207 rfl) rfl
theorem q1262 : (Jvm.Cond.fieldLink "SongThatStaysModel" (46 : Nat) "SongThatStaysModel" "row" "[I") ∈ lw_all := lw_g (lw_at lw_m5 208 rfl) rfl
theorem q1263 : (Jvm.Cond.fieldLink "SongThatStaysModel" (180 : Nat) "SongThatStaysModel" "rowed" "I") ∈ lw_all := lw_g (lw_at lw_m5 209 rfl) rfl
theorem q1264 : (Jvm.Cond.laysFinal "SongThatStaysModel" "SongThatStaysModel" "refusals" "[I") ∈ lw_all := lw_g (lw_at lw_m5 210 rfl) rfl
theorem q1265 : (Jvm.Cond.soleField "SongThatStaysModel" "refusals") ∈ lw_all := lw_g (lw_at lw_m5 211 rfl) rfl
theorem q1266 : (Jvm.Cond.laysFinal "SongThatStaysModel" "SongThatStaysModel" "s" "[I") ∈ lw_all := lw_g (lw_at lw_m5 212 rfl) rfl
theorem q1267 : (Jvm.Cond.soleField "SongThatStaysModel" "s") ∈ lw_all := lw_g (lw_at lw_m5 213 rfl) rfl
theorem q1268 : (Jvm.Cond.laysFinal "SongThatStaysModel" "SongThatStaysModel" "image" "[I") ∈ lw_all := lw_g (lw_at lw_m5 214 rfl) rfl
theorem q1269 : (Jvm.Cond.soleField "SongThatStaysModel" "image") ∈ lw_all := lw_g (lw_at lw_m5 215 rfl) rfl
theorem q1270 : (Jvm.Cond.laysFinal "SongThatStaysModel" "SongThatStaysModel" "read" "[I") ∈ lw_all := lw_g (lw_at lw_m5 216 rfl) rfl
theorem q1271 : (Jvm.Cond.soleField "SongThatStaysModel" "read") ∈ lw_all := lw_g (lw_at lw_m5 217 rfl) rfl
theorem q1272 : (Jvm.Cond.laysFinal "SongThatStaysModel" "SongThatStaysModel" "mind" "[I") ∈ lw_all := lw_g (lw_at lw_m5 218 rfl) rfl
theorem q1273 : (Jvm.Cond.soleField "SongThatStaysModel" "mind") ∈ lw_all := lw_g (lw_at lw_m5 219 rfl) rfl
theorem q1274 : (Jvm.Cond.lays "SongThatStaysModel" "SongThatStaysModel" "isImage" "Z") ∈ lw_all := lw_g (lw_at lw_m5 220 rfl) rfl
theorem q1275 : (Jvm.Cond.soleField "SongThatStaysModel" "isImage") ∈ lw_all := lw_g (lw_at lw_m5 221 rfl) rfl
theorem q1276 : (Jvm.Cond.laysFinal "SongThatStaysModel" "SongThatStaysModel" "heard" "[I") ∈ lw_all := lw_g (lw_at lw_m5 222 rfl) rfl
theorem q1277 : (Jvm.Cond.soleField "SongThatStaysModel" "heard") ∈ lw_all := lw_g (lw_at lw_m5 223 rfl) rfl
theorem q1278 : (Jvm.Cond.laysFinal "SongThatStaysModel" "SongThatStaysModel" "by" "[I") ∈ lw_all := lw_g (lw_at lw_m5 224 rfl) rfl
theorem q1279 : (Jvm.Cond.soleField "SongThatStaysModel" "by") ∈ lw_all := lw_g (lw_at lw_m5 225 rfl) rfl
theorem q1280 : (Jvm.Cond.laysFinal "SongThatStaysModel" "SongThatStaysModel" "from" "[I") ∈ lw_all := lw_g (lw_at lw_m5 226 rfl) rfl
theorem q1281 : (Jvm.Cond.soleField "SongThatStaysModel" "from") ∈ lw_all := lw_g (lw_at lw_m5 227 rfl) rfl
theorem q1282 : (Jvm.Cond.laysFinal "SongThatStaysModel" "SongThatStaysModel" "origin" "[I") ∈ lw_all := lw_g (lw_at lw_m5 228 rfl) rfl
theorem q1283 : (Jvm.Cond.soleField "SongThatStaysModel" "origin") ∈ lw_all := lw_g (lw_at lw_m5 229 rfl) rfl
theorem q1284 : (Jvm.Cond.laysFinal "SongThatStaysModel" "SongThatStaysModel" "kept" "[I") ∈ lw_all := lw_g (lw_at lw_m5 230 rfl) rfl
theorem q1285 : (Jvm.Cond.soleField "SongThatStaysModel" "kept") ∈ lw_all := lw_g (lw_at lw_m5 231 rfl) rfl
theorem q1286 : (Jvm.Cond.laysFinal "SongThatStaysModel" "SongThatStaysModel" "tape" "[I") ∈ lw_all := lw_g (lw_at lw_m5 232 rfl) rfl
theorem q1287 : (Jvm.Cond.soleField "SongThatStaysModel" "tape") ∈ lw_all := lw_g (lw_at lw_m5 233 rfl) rfl
theorem q1288 : (Jvm.Cond.laysFinal "SongThatStaysModel" "SongThatStaysModel" "told" "[I") ∈ lw_all := lw_g (lw_at lw_m5 234 rfl) rfl
theorem q1289 : (Jvm.Cond.soleField "SongThatStaysModel" "told") ∈ lw_all := lw_g (lw_at lw_m5 235 rfl) rfl
theorem q1290 : (Jvm.Cond.lays "SongThatStaysModel" "SongThatStaysModel" "taped" "I") ∈ lw_all := lw_g (lw_at lw_m5 236 rfl) rfl
theorem q1291 : (Jvm.Cond.soleField "SongThatStaysModel" "taped") ∈ lw_all := lw_g (lw_at lw_m5 237 rfl) rfl
theorem q1292 : (Jvm.Cond.lays "SongThatStaysModel" "SongThatStaysModel" "place" "I") ∈ lw_all := lw_g (lw_at lw_m5 238 rfl) rfl
theorem q1293 : (Jvm.Cond.soleField "SongThatStaysModel" "place") ∈ lw_all := lw_g (lw_at lw_m5 239 rfl) rfl
theorem q1294 : (Jvm.Cond.laysFinal "SongThatStaysModel" "SongThatStaysModel" "row" "[I") ∈ lw_all := lw_g (lw_at lw_m6 0 rfl) rfl
theorem q1295 : (Jvm.Cond.soleField "SongThatStaysModel" "row") ∈ lw_all := lw_g (lw_at lw_m6 1 rfl) rfl
theorem q1296 : (Jvm.Cond.lays "SongThatStaysModel" "SongThatStaysModel" "rowed" "I") ∈ lw_all := lw_g (lw_at lw_m6 2 rfl) rfl
theorem q1297 : (Jvm.Cond.soleField "SongThatStaysModel" "rowed") ∈ lw_all := lw_g (lw_at lw_m6 3 rfl) rfl
theorem q1298 : (Jvm.Cond.superclass "SongThatStaysModel" "java/lang/Object") ∈ lw_all := lw_g (lw_at lw_m6 4 rfl) rfl
theorem q1300 : (Jvm.Cond.instanceMethod ({ cls := "SongThatStaysModel", name := "letter", desc := "(I)I" } : Jvm.MethodName)) ∈ lw_all := lw_g (lw_at lw_m6 6 rfl) rfl
theorem q1301 : (Jvm.Cond.selects "SongThatStaysModel" ({ cls := "SongThatStaysModel", name := "letter", desc := "(I)I" } : Jvm.MethodName) ({ cls := "SongThatStaysModel", name := "letter", desc := "(I)I" } : Jvm.MethodName)) ∈ lw_all := lw_g (lw_at lw_m6 7 rfl) rfl
theorem q1302 : (Jvm.Cond.code ({ cls := "SongThatStaysModel", name := "letter", desc := "(I)I" } : Jvm.MethodName) prog_28_method_26_code (3 : Nat) (Option.some Jvm.ClassFile.FieldType.int)) ∈ lw_all := lw_g (lw_at lw_m6 8 rfl) rfl
theorem q1303 : (Jvm.Cond.methodLink "SongThatStaysModel" (112 : Nat) ({ cls := "SongThatStaysModel", name := "within", desc := "(III)I" } : Jvm.MethodName)) ∈ lw_all := lw_g (lw_at lw_m6 9 rfl) rfl
theorem q1304 : (Jvm.Cond.static ({ cls := "SongThatStaysModel", name := "within", desc := "(III)I" } : Jvm.MethodName)) ∈ lw_all := lw_g (lw_at lw_m6 10 rfl) rfl
theorem q1305 : (Jvm.Cond.code ({ cls := "SongThatStaysModel", name := "within", desc := "(III)I" } : Jvm.MethodName) prog_28_method_4_code (3 : Nat) (Option.some Jvm.ClassFile.FieldType.int)) ∈ lw_all := lw_g (lw_at lw_m6 11 rfl) rfl
theorem q1306 : (Jvm.Cond.methodLink "SongThatStaysModel" (120 : Nat) ({ cls := "SongThatStaysModel", name := "refuse", desc := "(I)I" } : Jvm.MethodName)) ∈ lw_all := lw_g (lw_at lw_m6 12 rfl) rfl
theorem q1307 : (Jvm.Cond.privateMethod ({ cls := "SongThatStaysModel", name := "refuse", desc := "(I)I" } : Jvm.MethodName)) ∈ lw_tbl := lw_at lw_m6 13 rfl
theorem q1308 : (Jvm.Cond.instanceMethod ({ cls := "SongThatStaysModel", name := "refuse", desc := "(I)I" } : Jvm.MethodName)) ∈ lw_all := lw_g (lw_at lw_m6 14 rfl) rfl
theorem q1309 : (Jvm.Cond.code ({ cls := "SongThatStaysModel", name := "refuse", desc := "(I)I" } : Jvm.MethodName) prog_28_method_2_code (2 : Nat) (Option.some Jvm.ClassFile.FieldType.int)) ∈ lw_all := lw_g (lw_at lw_m6 15 rfl) rfl
theorem q1311 : (Jvm.Cond.instanceMethod ({ cls := "SongThatStaysModel", name := "office", desc := "()I" } : Jvm.MethodName)) ∈ lw_all := lw_g (lw_at lw_m6 17 rfl) rfl
theorem q1312 : (Jvm.Cond.selects "SongThatStaysModel" ({ cls := "SongThatStaysModel", name := "office", desc := "()I" } : Jvm.MethodName) ({ cls := "SongThatStaysModel", name := "office", desc := "()I" } : Jvm.MethodName)) ∈ lw_all := lw_g (lw_at lw_m6 18 rfl) rfl
theorem q1313 : (Jvm.Cond.code ({ cls := "SongThatStaysModel", name := "office", desc := "()I" } : Jvm.MethodName) prog_28_method_36_code (2 : Nat) (Option.some Jvm.ClassFile.FieldType.int)) ∈ lw_all := lw_g (lw_at lw_m6 19 rfl) rfl
theorem q1314 : (Jvm.Cond.methodLink "SongThatStaysModel" (157 : Nat) ({ cls := "SongThatStaysModel", name := "reads", desc := "()I" } : Jvm.MethodName)) ∈ lw_all := lw_g (lw_at lw_m6 20 rfl) rfl
theorem q1315 : (Jvm.Cond.privateMethod ({ cls := "SongThatStaysModel", name := "reads", desc := "()I" } : Jvm.MethodName)) ∈ lw_tbl := lw_at lw_m6 21 rfl
theorem q1316 : (Jvm.Cond.instanceMethod ({ cls := "SongThatStaysModel", name := "reads", desc := "()I" } : Jvm.MethodName)) ∈ lw_all := lw_g (lw_at lw_m6 22 rfl) rfl
theorem q1317 : (Jvm.Cond.code ({ cls := "SongThatStaysModel", name := "reads", desc := "()I" } : Jvm.MethodName) prog_28_method_35_code (5 : Nat) (Option.some Jvm.ClassFile.FieldType.int)) ∈ lw_all := lw_g (lw_at lw_m6 23 rfl) rfl
theorem q1318 : (Jvm.Cond.methodLink "SongThatStaysModel" (150 : Nat) ({ cls := "SongThatStaysModel", name := "readsStatement", desc := "()Z" } : Jvm.MethodName)) ∈ lw_all := lw_g (lw_at lw_m6 24 rfl) rfl
theorem q1319 : (Jvm.Cond.privateMethod ({ cls := "SongThatStaysModel", name := "readsStatement", desc := "()Z" } : Jvm.MethodName)) ∈ lw_tbl := lw_at lw_m6 25 rfl
theorem q1320 : (Jvm.Cond.instanceMethod ({ cls := "SongThatStaysModel", name := "readsStatement", desc := "()Z" } : Jvm.MethodName)) ∈ lw_all := lw_g (lw_at lw_m6 26 rfl) rfl
theorem q1321 : (Jvm.Cond.code ({ cls := "SongThatStaysModel", name := "readsStatement", desc := "()Z" } : Jvm.MethodName) prog_28_method_33_code (3 : Nat) (Option.some Jvm.ClassFile.FieldType.boolean)) ∈ lw_all := lw_g (lw_at lw_m6 27 rfl) rfl
theorem q1322 : (Jvm.Cond.methodLink "SongThatStaysModel" (126 : Nat) ({ cls := "SongThatStaysModel", name := "sign", desc := "()I" } : Jvm.MethodName)) ∈ lw_all := lw_g (lw_at lw_m6 28 rfl) rfl
theorem q1323 : (Jvm.Cond.privateMethod ({ cls := "SongThatStaysModel", name := "sign", desc := "()I" } : Jvm.MethodName)) ∈ lw_tbl := lw_at lw_m6 29 rfl
theorem q1324 : (Jvm.Cond.instanceMethod ({ cls := "SongThatStaysModel", name := "sign", desc := "()I" } : Jvm.MethodName)) ∈ lw_all := lw_g (lw_at lw_m6 30 rfl) rfl
theorem q1325 : (Jvm.Cond.code ({ cls := "SongThatStaysModel", name := "sign", desc := "()I" } : Jvm.MethodName) prog_28_method_27_code (1 : Nat) (Option.some Jvm.ClassFile.FieldType.int)) ∈ lw_all := lw_g (lw_at lw_m6 31 rfl) rfl
theorem q1326 : (Jvm.Cond.methodLink "SongThatStaysModel" (129 : Nat) ({ cls := "SongThatStaysModel", name := "readsNumber", desc := "(II)Z" } : Jvm.MethodName)) ∈ lw_all := lw_g (lw_at lw_m6 32 rfl) rfl
theorem q1327 : (Jvm.Cond.privateMethod ({ cls := "SongThatStaysModel", name := "readsNumber", desc := "(II)Z" } : Jvm.MethodName)) ∈ lw_tbl := lw_at lw_m6 33 rfl
theorem q1328 : (Jvm.Cond.instanceMethod ({ cls := "SongThatStaysModel", name := "readsNumber", desc := "(II)Z" } : Jvm.MethodName)) ∈ lw_all := lw_g (lw_at lw_m6 34 rfl) rfl
theorem q1329 : (Jvm.Cond.code ({ cls := "SongThatStaysModel", name := "readsNumber", desc := "(II)Z" } : Jvm.MethodName) prog_28_method_29_code (4 : Nat) (Option.some Jvm.ClassFile.FieldType.boolean)) ∈ lw_all := lw_g (lw_at lw_m6 35 rfl) rfl
theorem q1330 : (Jvm.Cond.methodLink "SongThatStaysModel" (53 : Nat) ({ cls := "SongThatStaysModel", name := "isIn", desc := "(II)Z" } : Jvm.MethodName)) ∈ lw_all := lw_g (lw_at lw_m6 36 rfl) rfl
theorem q1331 : (Jvm.Cond.static ({ cls := "SongThatStaysModel", name := "isIn", desc := "(II)Z" } : Jvm.MethodName)) ∈ lw_all := lw_g (lw_at lw_m6 37 rfl) rfl
theorem q1332 : (Jvm.Cond.code ({ cls := "SongThatStaysModel", name := "isIn", desc := "(II)Z" } : Jvm.MethodName) prog_28_method_3_code (2 : Nat) (Option.some Jvm.ClassFile.FieldType.boolean)) ∈ lw_all := lw_g (lw_at lw_m6 38 rfl) rfl
theorem q1333 : (Jvm.Cond.methodLink "SongThatStaysModel" (132 : Nat) ({ cls := "SongThatStaysModel", name := "songOf", desc := "(I)I" } : Jvm.MethodName)) ∈ lw_all := lw_g (lw_at lw_m6 39 rfl) rfl
theorem q1334 : (Jvm.Cond.static ({ cls := "SongThatStaysModel", name := "songOf", desc := "(I)I" } : Jvm.MethodName)) ∈ lw_all := lw_g (lw_at lw_m6 40 rfl) rfl
theorem q1335 : (Jvm.Cond.code ({ cls := "SongThatStaysModel", name := "songOf", desc := "(I)I" } : Jvm.MethodName) prog_28_method_30_code (1 : Nat) (Option.some Jvm.ClassFile.FieldType.int)) ∈ lw_all := lw_g (lw_at lw_m6 41 rfl) rfl
theorem q1336 : (Jvm.Cond.methodLink "SongThatStaysModel" (135 : Nat) ({ cls := "SongThatStaysModel", name := "readsKind", desc := "(I)Z" } : Jvm.MethodName)) ∈ lw_all := lw_g (lw_at lw_m6 42 rfl) rfl
theorem q1337 : (Jvm.Cond.privateMethod ({ cls := "SongThatStaysModel", name := "readsKind", desc := "(I)Z" } : Jvm.MethodName)) ∈ lw_tbl := lw_at lw_m6 43 rfl
theorem q1338 : (Jvm.Cond.instanceMethod ({ cls := "SongThatStaysModel", name := "readsKind", desc := "(I)Z" } : Jvm.MethodName)) ∈ lw_all := lw_g (lw_at lw_m6 44 rfl) rfl
theorem q1339 : (Jvm.Cond.code ({ cls := "SongThatStaysModel", name := "readsKind", desc := "(I)Z" } : Jvm.MethodName) prog_28_method_32_code (2 : Nat) (Option.some Jvm.ClassFile.FieldType.boolean)) ∈ lw_all := lw_g (lw_at lw_m6 45 rfl) rfl
theorem q1340 : (Jvm.Cond.methodLink "SongThatStaysModel" (138 : Nat) ({ cls := "SongThatStaysModel", name := "headOf", desc := "(I)I" } : Jvm.MethodName)) ∈ lw_all := lw_g (lw_at lw_m6 46 rfl) rfl
theorem q1341 : (Jvm.Cond.static ({ cls := "SongThatStaysModel", name := "headOf", desc := "(I)I" } : Jvm.MethodName)) ∈ lw_all := lw_g (lw_at lw_m6 47 rfl) rfl
theorem q1342 : (Jvm.Cond.code ({ cls := "SongThatStaysModel", name := "headOf", desc := "(I)I" } : Jvm.MethodName) prog_28_method_31_code (1 : Nat) (Option.some Jvm.ClassFile.FieldType.int)) ∈ lw_all := lw_g (lw_at lw_m6 48 rfl) rfl
theorem q1343 : (Jvm.Cond.methodLink "SongThatStaysModel" (141 : Nat) ({ cls := "SongThatStaysModel", name := "takes", desc := "(I)Z" } : Jvm.MethodName)) ∈ lw_all := lw_g (lw_at lw_m6 49 rfl) rfl
theorem q1344 : (Jvm.Cond.privateMethod ({ cls := "SongThatStaysModel", name := "takes", desc := "(I)Z" } : Jvm.MethodName)) ∈ lw_tbl := lw_at lw_m6 50 rfl
theorem q1345 : (Jvm.Cond.instanceMethod ({ cls := "SongThatStaysModel", name := "takes", desc := "(I)Z" } : Jvm.MethodName)) ∈ lw_all := lw_g (lw_at lw_m6 51 rfl) rfl
theorem q1346 : (Jvm.Cond.code ({ cls := "SongThatStaysModel", name := "takes", desc := "(I)Z" } : Jvm.MethodName) prog_28_method_28_code (2 : Nat) (Option.some Jvm.ClassFile.FieldType.boolean)) ∈ lw_all := lw_g (lw_at lw_m6 52 rfl) rfl
theorem q1347 : (Jvm.Cond.methodLink "SongThatStaysModel" (49 : Nat) ({ cls := "SongThatStaysModel", name := "lays", desc := "([I[I)V" } : Jvm.MethodName)) ∈ lw_all := lw_g (lw_at lw_m6 53 rfl) rfl
theorem q1348 : (Jvm.Cond.static ({ cls := "SongThatStaysModel", name := "lays", desc := "([I[I)V" } : Jvm.MethodName)) ∈ lw_all := lw_g (lw_at lw_m6 54 rfl) rfl
theorem q1349 : (Jvm.Cond.code ({ cls := "SongThatStaysModel", name := "lays", desc := "([I[I)V" } : Jvm.MethodName) prog_28_method_5_code (3 : Nat) (Option.none : Option Jvm.ClassFile.FieldType)) ∈ lw_all := lw_g (lw_at lw_m6 55 rfl) rfl
theorem q1350 : (Jvm.Cond.methodLink "SongThatStaysModel" (154 : Nat) ({ cls := "SongThatStaysModel", name := "comes", desc := "(I)Z" } : Jvm.MethodName)) ∈ lw_all := lw_g (lw_at lw_m6 56 rfl) rfl
theorem q1351 : (Jvm.Cond.privateMethod ({ cls := "SongThatStaysModel", name := "comes", desc := "(I)Z" } : Jvm.MethodName)) ∈ lw_tbl := lw_at lw_m6 57 rfl
theorem q1352 : (Jvm.Cond.instanceMethod ({ cls := "SongThatStaysModel", name := "comes", desc := "(I)Z" } : Jvm.MethodName)) ∈ lw_all := lw_g (lw_at lw_m6 58 rfl) rfl
theorem q1353 : (Jvm.Cond.code ({ cls := "SongThatStaysModel", name := "comes", desc := "(I)Z" } : Jvm.MethodName) prog_28_method_34_code (5 : Nat) (Option.some Jvm.ClassFile.FieldType.boolean)) ∈ lw_all := lw_g (lw_at lw_m6 59 rfl) rfl
theorem q1354 : (Jvm.Cond.methodLink "SongThatStaysModel" (64 : Nat) ({ cls := "SongThatStaysModel", name := "puts", desc := "(III)V" } : Jvm.MethodName)) ∈ lw_all := lw_g (lw_at lw_m6 60 rfl) rfl
theorem q1355 : (Jvm.Cond.privateMethod ({ cls := "SongThatStaysModel", name := "puts", desc := "(III)V" } : Jvm.MethodName)) ∈ lw_tbl := lw_at lw_m6 61 rfl
theorem q1356 : (Jvm.Cond.instanceMethod ({ cls := "SongThatStaysModel", name := "puts", desc := "(III)V" } : Jvm.MethodName)) ∈ lw_all := lw_g (lw_at lw_m6 62 rfl) rfl
theorem q1357 : (Jvm.Cond.code ({ cls := "SongThatStaysModel", name := "puts", desc := "(III)V" } : Jvm.MethodName) prog_28_method_11_code (4 : Nat) (Option.none : Option Jvm.ClassFile.FieldType)) ∈ lw_all := lw_g (lw_at lw_m6 63 rfl) rfl
theorem q1358 : (Jvm.Cond.methodLink "SongThatStaysModel" (144 : Nat) ({ cls := "SongThatStaysModel", name := "isHead", desc := "(I)Z" } : Jvm.MethodName)) ∈ lw_all := lw_g (lw_at lw_m6 64 rfl) rfl
theorem q1359 : (Jvm.Cond.privateMethod ({ cls := "SongThatStaysModel", name := "isHead", desc := "(I)Z" } : Jvm.MethodName)) ∈ lw_tbl := lw_at lw_m6 65 rfl
theorem q1360 : (Jvm.Cond.instanceMethod ({ cls := "SongThatStaysModel", name := "isHead", desc := "(I)Z" } : Jvm.MethodName)) ∈ lw_all := lw_g (lw_at lw_m6 66 rfl) rfl
theorem q1361 : (Jvm.Cond.code ({ cls := "SongThatStaysModel", name := "isHead", desc := "(I)Z" } : Jvm.MethodName) prog_28_method_8_code (2 : Nat) (Option.some Jvm.ClassFile.FieldType.boolean)) ∈ lw_all := lw_g (lw_at lw_m6 67 rfl) rfl
theorem q1362 : (Jvm.Cond.methodLink "SongThatStaysModel" (147 : Nat) ({ cls := "SongThatStaysModel", name := "isSong", desc := "(I)Z" } : Jvm.MethodName)) ∈ lw_all := lw_g (lw_at lw_m6 68 rfl) rfl
theorem q1363 : (Jvm.Cond.privateMethod ({ cls := "SongThatStaysModel", name := "isSong", desc := "(I)Z" } : Jvm.MethodName)) ∈ lw_tbl := lw_at lw_m6 69 rfl
theorem q1364 : (Jvm.Cond.instanceMethod ({ cls := "SongThatStaysModel", name := "isSong", desc := "(I)Z" } : Jvm.MethodName)) ∈ lw_all := lw_g (lw_at lw_m6 70 rfl) rfl
theorem q1365 : (Jvm.Cond.code ({ cls := "SongThatStaysModel", name := "isSong", desc := "(I)Z" } : Jvm.MethodName) prog_28_method_9_code (2 : Nat) (Option.some Jvm.ClassFile.FieldType.boolean)) ∈ lw_all := lw_g (lw_at lw_m6 71 rfl) rfl
theorem q1366 : (Jvm.Cond.methodLink "SongThatStaysModel" (81 : Nat) ({ cls := "SongThatStaysModel", name := "gets", desc := "(II)V" } : Jvm.MethodName)) ∈ lw_all := lw_g (lw_at lw_m6 72 rfl) rfl
theorem q1367 : (Jvm.Cond.privateMethod ({ cls := "SongThatStaysModel", name := "gets", desc := "(II)V" } : Jvm.MethodName)) ∈ lw_tbl := lw_at lw_m6 73 rfl
theorem q1368 : (Jvm.Cond.instanceMethod ({ cls := "SongThatStaysModel", name := "gets", desc := "(II)V" } : Jvm.MethodName)) ∈ lw_all := lw_g (lw_at lw_m6 74 rfl) rfl
theorem q1369 : (Jvm.Cond.code ({ cls := "SongThatStaysModel", name := "gets", desc := "(II)V" } : Jvm.MethodName) prog_28_method_18_code (3 : Nat) (Option.none : Option Jvm.ClassFile.FieldType)) ∈ lw_all := lw_g (lw_at lw_m6 75 rfl) rfl
theorem q1370 : (Jvm.Cond.methodLink "SongThatStaysModel" (68 : Nat) ({ cls := "SongThatStaysModel", name := "fresh", desc := "(I)I" } : Jvm.MethodName)) ∈ lw_all := lw_g (lw_at lw_m6 76 rfl) rfl
theorem q1371 : (Jvm.Cond.privateMethod ({ cls := "SongThatStaysModel", name := "fresh", desc := "(I)I" } : Jvm.MethodName)) ∈ lw_tbl := lw_at lw_m6 77 rfl
theorem q1372 : (Jvm.Cond.instanceMethod ({ cls := "SongThatStaysModel", name := "fresh", desc := "(I)I" } : Jvm.MethodName)) ∈ lw_all := lw_g (lw_at lw_m6 78 rfl) rfl
theorem q1373 : (Jvm.Cond.code ({ cls := "SongThatStaysModel", name := "fresh", desc := "(I)I" } : Jvm.MethodName) prog_28_method_13_code (4 : Nat) (Option.some Jvm.ClassFile.FieldType.int)) ∈ lw_all := lw_g (lw_at lw_m6 79 rfl) rfl
theorem q1374 : (Jvm.Cond.methodLink "SongThatStaysModel" (57 : Nat) ({ cls := "SongThatStaysModel", name := "of", desc := "(II)I" } : Jvm.MethodName)) ∈ lw_all := lw_g (lw_at lw_m6 80 rfl) rfl
theorem q1375 : (Jvm.Cond.privateMethod ({ cls := "SongThatStaysModel", name := "of", desc := "(II)I" } : Jvm.MethodName)) ∈ lw_tbl := lw_at lw_m6 81 rfl
theorem q1376 : (Jvm.Cond.instanceMethod ({ cls := "SongThatStaysModel", name := "of", desc := "(II)I" } : Jvm.MethodName)) ∈ lw_all := lw_g (lw_at lw_m6 82 rfl) rfl
theorem q1377 : (Jvm.Cond.code ({ cls := "SongThatStaysModel", name := "of", desc := "(II)I" } : Jvm.MethodName) prog_28_method_12_code (3 : Nat) (Option.some Jvm.ClassFile.FieldType.int)) ∈ lw_all := lw_g (lw_at lw_m6 83 rfl) rfl
theorem q1379 : (Jvm.Cond.instanceMethod ({ cls := "SongThatStaysModel", name := "song", desc := "(II)I" } : Jvm.MethodName)) ∈ lw_all := lw_g (lw_at lw_m6 85 rfl) rfl
theorem q1380 : (Jvm.Cond.selects "SongThatStaysModel" ({ cls := "SongThatStaysModel", name := "song", desc := "(II)I" } : Jvm.MethodName) ({ cls := "SongThatStaysModel", name := "song", desc := "(II)I" } : Jvm.MethodName)) ∈ lw_all := lw_g (lw_at lw_m6 86 rfl) rfl
theorem q1381 : (Jvm.Cond.code ({ cls := "SongThatStaysModel", name := "song", desc := "(II)I" } : Jvm.MethodName) prog_28_method_37_code (3 : Nat) (Option.some Jvm.ClassFile.FieldType.int)) ∈ lw_all := lw_g (lw_at lw_m6 87 rfl) rfl
theorem q1382 : (Jvm.Cond.methodLink "SongThatStaysModel" (106 : Nat) ({ cls := "SongThatStaysModel", name := "haveIt", desc := "(I)I" } : Jvm.MethodName)) ∈ lw_all := lw_g (lw_at lw_m6 88 rfl) rfl
theorem q1383 : (Jvm.Cond.privateMethod ({ cls := "SongThatStaysModel", name := "haveIt", desc := "(I)I" } : Jvm.MethodName)) ∈ lw_tbl := lw_at lw_m6 89 rfl
theorem q1384 : (Jvm.Cond.instanceMethod ({ cls := "SongThatStaysModel", name := "haveIt", desc := "(I)I" } : Jvm.MethodName)) ∈ lw_all := lw_g (lw_at lw_m6 90 rfl) rfl
theorem q1385 : (Jvm.Cond.code ({ cls := "SongThatStaysModel", name := "haveIt", desc := "(I)I" } : Jvm.MethodName) prog_28_method_24_code (4 : Nat) (Option.some Jvm.ClassFile.FieldType.int)) ∈ lw_all := lw_g (lw_at lw_m6 91 rfl) rfl
theorem q1386 : (Jvm.Cond.methodLink "SongThatStaysModel" (61 : Nat) ({ cls := "SongThatStaysModel", name := "at", desc := "(II)I" } : Jvm.MethodName)) ∈ lw_all := lw_g (lw_at lw_m6 92 rfl) rfl
theorem q1387 : (Jvm.Cond.privateMethod ({ cls := "SongThatStaysModel", name := "at", desc := "(II)I" } : Jvm.MethodName)) ∈ lw_tbl := lw_at lw_m6 93 rfl
theorem q1388 : (Jvm.Cond.instanceMethod ({ cls := "SongThatStaysModel", name := "at", desc := "(II)I" } : Jvm.MethodName)) ∈ lw_all := lw_g (lw_at lw_m6 94 rfl) rfl
theorem q1389 : (Jvm.Cond.code ({ cls := "SongThatStaysModel", name := "at", desc := "(II)I" } : Jvm.MethodName) prog_28_method_10_code (3 : Nat) (Option.some Jvm.ClassFile.FieldType.int)) ∈ lw_all := lw_g (lw_at lw_m6 95 rfl) rfl
theorem q1391 : (Jvm.Cond.instanceMethod ({ cls := "SongThatStaysModel", name := "head", desc := "(II)I" } : Jvm.MethodName)) ∈ lw_all := lw_g (lw_at lw_m6 97 rfl) rfl
theorem q1392 : (Jvm.Cond.selects "SongThatStaysModel" ({ cls := "SongThatStaysModel", name := "head", desc := "(II)I" } : Jvm.MethodName) ({ cls := "SongThatStaysModel", name := "head", desc := "(II)I" } : Jvm.MethodName)) ∈ lw_all := lw_g (lw_at lw_m6 98 rfl) rfl
theorem q1393 : (Jvm.Cond.code ({ cls := "SongThatStaysModel", name := "head", desc := "(II)I" } : Jvm.MethodName) prog_28_method_38_code (3 : Nat) (Option.some Jvm.ClassFile.FieldType.int)) ∈ lw_all := lw_g (lw_at lw_m6 99 rfl) rfl
theorem q1394 : (Jvm.Cond.methodLink "SongThatStaysModel" (75 : Nat) ({ cls := "SongThatStaysModel", name := "bar", desc := "(I)I" } : Jvm.MethodName)) ∈ lw_all := lw_g (lw_at lw_m6 100 rfl) rfl
theorem q1395 : (Jvm.Cond.privateMethod ({ cls := "SongThatStaysModel", name := "bar", desc := "(I)I" } : Jvm.MethodName)) ∈ lw_tbl := lw_at lw_m6 101 rfl
theorem q1396 : (Jvm.Cond.instanceMethod ({ cls := "SongThatStaysModel", name := "bar", desc := "(I)I" } : Jvm.MethodName)) ∈ lw_all := lw_g (lw_at lw_m6 102 rfl) rfl
theorem q1397 : (Jvm.Cond.code ({ cls := "SongThatStaysModel", name := "bar", desc := "(I)I" } : Jvm.MethodName) prog_28_method_16_code (3 : Nat) (Option.some Jvm.ClassFile.FieldType.int)) ∈ lw_all := lw_g (lw_at lw_m6 103 rfl) rfl
theorem q1398 : (Jvm.Cond.methodLink "SongThatStaysModel" (85 : Nat) ({ cls := "SongThatStaysModel", name := "hums", desc := "(I)Z" } : Jvm.MethodName)) ∈ lw_all := lw_g (lw_at lw_m6 104 rfl) rfl
theorem q1399 : (Jvm.Cond.privateMethod ({ cls := "SongThatStaysModel", name := "hums", desc := "(I)Z" } : Jvm.MethodName)) ∈ lw_tbl := lw_at lw_m6 105 rfl
theorem q1400 : (Jvm.Cond.instanceMethod ({ cls := "SongThatStaysModel", name := "hums", desc := "(I)Z" } : Jvm.MethodName)) ∈ lw_all := lw_g (lw_at lw_m6 106 rfl) rfl
theorem q1401 : (Jvm.Cond.code ({ cls := "SongThatStaysModel", name := "hums", desc := "(I)Z" } : Jvm.MethodName) prog_28_method_15_code (2 : Nat) (Option.some Jvm.ClassFile.FieldType.boolean)) ∈ lw_all := lw_g (lw_at lw_m6 107 rfl) rfl
theorem q1403 : (Jvm.Cond.instanceMethod ({ cls := "SongThatStaysModel", name := "near", desc := "(I)I" } : Jvm.MethodName)) ∈ lw_all := lw_g (lw_at lw_m6 109 rfl) rfl
theorem q1404 : (Jvm.Cond.selects "SongThatStaysModel" ({ cls := "SongThatStaysModel", name := "near", desc := "(I)I" } : Jvm.MethodName) ({ cls := "SongThatStaysModel", name := "near", desc := "(I)I" } : Jvm.MethodName)) ∈ lw_all := lw_g (lw_at lw_m6 110 rfl) rfl
theorem q1405 : (Jvm.Cond.code ({ cls := "SongThatStaysModel", name := "near", desc := "(I)I" } : Jvm.MethodName) prog_28_method_39_code (4 : Nat) (Option.some Jvm.ClassFile.FieldType.int)) ∈ lw_all := lw_g (lw_at lw_m6 111 rfl) rfl
theorem q1406 : (Jvm.Cond.methodLink "SongThatStaysModel" (72 : Nat) ({ cls := "SongThatStaysModel", name := "areNear", desc := "(II)Z" } : Jvm.MethodName)) ∈ lw_all := lw_g (lw_at lw_m6 112 rfl) rfl
theorem q1407 : (Jvm.Cond.privateMethod ({ cls := "SongThatStaysModel", name := "areNear", desc := "(II)Z" } : Jvm.MethodName)) ∈ lw_tbl := lw_at lw_m6 113 rfl
theorem q1408 : (Jvm.Cond.instanceMethod ({ cls := "SongThatStaysModel", name := "areNear", desc := "(II)Z" } : Jvm.MethodName)) ∈ lw_all := lw_g (lw_at lw_m6 114 rfl) rfl
theorem q1409 : (Jvm.Cond.code ({ cls := "SongThatStaysModel", name := "areNear", desc := "(II)Z" } : Jvm.MethodName) prog_28_method_17_code (8 : Nat) (Option.some Jvm.ClassFile.FieldType.boolean)) ∈ lw_all := lw_g (lw_at lw_m6 115 rfl) rfl
theorem q1411 : (Jvm.Cond.instanceMethod ({ cls := "SongThatStaysModel", name := "door", desc := "(I)I" } : Jvm.MethodName)) ∈ lw_all := lw_g (lw_at lw_m6 117 rfl) rfl
theorem q1412 : (Jvm.Cond.selects "SongThatStaysModel" ({ cls := "SongThatStaysModel", name := "door", desc := "(I)I" } : Jvm.MethodName) ({ cls := "SongThatStaysModel", name := "door", desc := "(I)I" } : Jvm.MethodName)) ∈ lw_all := lw_g (lw_at lw_m6 118 rfl) rfl
theorem q1413 : (Jvm.Cond.code ({ cls := "SongThatStaysModel", name := "door", desc := "(I)I" } : Jvm.MethodName) prog_28_method_40_code (2 : Nat) (Option.some Jvm.ClassFile.FieldType.int)) ∈ lw_all := lw_g (lw_at lw_m6 119 rfl) rfl
theorem q1415 : (Jvm.Cond.instanceMethod ({ cls := "SongThatStaysModel", name := "go", desc := "(II)I" } : Jvm.MethodName)) ∈ lw_all := lw_g (lw_at lw_m6 121 rfl) rfl
theorem q1416 : (Jvm.Cond.selects "SongThatStaysModel" ({ cls := "SongThatStaysModel", name := "go", desc := "(II)I" } : Jvm.MethodName) ({ cls := "SongThatStaysModel", name := "go", desc := "(II)I" } : Jvm.MethodName)) ∈ lw_all := lw_g (lw_at lw_m6 122 rfl) rfl
theorem q1417 : (Jvm.Cond.code ({ cls := "SongThatStaysModel", name := "go", desc := "(II)I" } : Jvm.MethodName) prog_28_method_41_code (4 : Nat) (Option.some Jvm.ClassFile.FieldType.int)) ∈ lw_all := lw_g (lw_at lw_m6 123 rfl) rfl
theorem q1419 : (Jvm.Cond.instanceMethod ({ cls := "SongThatStaysModel", name := "get", desc := "(II)I" } : Jvm.MethodName)) ∈ lw_all := lw_g (lw_at lw_m6 125 rfl) rfl
theorem q1420 : (Jvm.Cond.selects "SongThatStaysModel" ({ cls := "SongThatStaysModel", name := "get", desc := "(II)I" } : Jvm.MethodName) ({ cls := "SongThatStaysModel", name := "get", desc := "(II)I" } : Jvm.MethodName)) ∈ lw_all := lw_g (lw_at lw_m6 126 rfl) rfl
theorem q1421 : (Jvm.Cond.code ({ cls := "SongThatStaysModel", name := "get", desc := "(II)I" } : Jvm.MethodName) prog_28_method_42_code (4 : Nat) (Option.some Jvm.ClassFile.FieldType.int)) ∈ lw_all := lw_g (lw_at lw_m6 127 rfl) rfl
theorem q1423 : (Jvm.Cond.instanceMethod ({ cls := "SongThatStaysModel", name := "remedy", desc := "(II)I" } : Jvm.MethodName)) ∈ lw_all := lw_g (lw_at lw_m6 129 rfl) rfl
theorem q1424 : (Jvm.Cond.selects "SongThatStaysModel" ({ cls := "SongThatStaysModel", name := "remedy", desc := "(II)I" } : Jvm.MethodName) ({ cls := "SongThatStaysModel", name := "remedy", desc := "(II)I" } : Jvm.MethodName)) ∈ lw_all := lw_g (lw_at lw_m6 130 rfl) rfl
theorem q1425 : (Jvm.Cond.code ({ cls := "SongThatStaysModel", name := "remedy", desc := "(II)I" } : Jvm.MethodName) prog_28_method_44_code (4 : Nat) (Option.some Jvm.ClassFile.FieldType.int)) ∈ lw_all := lw_g (lw_at lw_m6 131 rfl) rfl
theorem q1426 : (Jvm.Cond.methodLink "SongThatStaysModel" (160 : Nat) ({ cls := "SongThatStaysModel", name := "mends", desc := "(II)V" } : Jvm.MethodName)) ∈ lw_all := lw_g (lw_at lw_m6 132 rfl) rfl
theorem q1427 : (Jvm.Cond.privateMethod ({ cls := "SongThatStaysModel", name := "mends", desc := "(II)V" } : Jvm.MethodName)) ∈ lw_tbl := lw_at lw_m6 133 rfl
theorem q1428 : (Jvm.Cond.instanceMethod ({ cls := "SongThatStaysModel", name := "mends", desc := "(II)V" } : Jvm.MethodName)) ∈ lw_all := lw_g (lw_at lw_m6 134 rfl) rfl
theorem q1429 : (Jvm.Cond.code ({ cls := "SongThatStaysModel", name := "mends", desc := "(II)V" } : Jvm.MethodName) prog_28_method_43_code (4 : Nat) (Option.none : Option Jvm.ClassFile.FieldType)) ∈ lw_all := lw_g (lw_at lw_m6 135 rfl) rfl
theorem q1431 : (Jvm.Cond.instanceMethod ({ cls := "SongThatStaysModel", name := "loud", desc := "(I)I" } : Jvm.MethodName)) ∈ lw_all := lw_g (lw_at lw_m6 137 rfl) rfl
theorem q1432 : (Jvm.Cond.selects "SongThatStaysModel" ({ cls := "SongThatStaysModel", name := "loud", desc := "(I)I" } : Jvm.MethodName) ({ cls := "SongThatStaysModel", name := "loud", desc := "(I)I" } : Jvm.MethodName)) ∈ lw_all := lw_g (lw_at lw_m6 138 rfl) rfl
theorem q1433 : (Jvm.Cond.code ({ cls := "SongThatStaysModel", name := "loud", desc := "(I)I" } : Jvm.MethodName) prog_28_method_45_code (4 : Nat) (Option.some Jvm.ClassFile.FieldType.int)) ∈ lw_all := lw_g (lw_at lw_m6 139 rfl) rfl
theorem q1435 : (Jvm.Cond.instanceMethod ({ cls := "SongThatStaysModel", name := "hour", desc := "()I" } : Jvm.MethodName)) ∈ lw_all := lw_g (lw_at lw_m6 141 rfl) rfl
theorem q1436 : (Jvm.Cond.selects "SongThatStaysModel" ({ cls := "SongThatStaysModel", name := "hour", desc := "()I" } : Jvm.MethodName) ({ cls := "SongThatStaysModel", name := "hour", desc := "()I" } : Jvm.MethodName)) ∈ lw_all := lw_g (lw_at lw_m6 142 rfl) rfl
theorem q1437 : (Jvm.Cond.code ({ cls := "SongThatStaysModel", name := "hour", desc := "()I" } : Jvm.MethodName) prog_28_method_46_code (1 : Nat) (Option.some Jvm.ClassFile.FieldType.int)) ∈ lw_all := lw_g (lw_at lw_m6 143 rfl) rfl
theorem q1438 : (Jvm.Cond.methodLink "SongThatStaysModel" (99 : Nat) ({ cls := "SongThatStaysModel", name := "goes", desc := "()I" } : Jvm.MethodName)) ∈ lw_all := lw_g (lw_at lw_m6 144 rfl) rfl
theorem q1439 : (Jvm.Cond.privateMethod ({ cls := "SongThatStaysModel", name := "goes", desc := "()I" } : Jvm.MethodName)) ∈ lw_tbl := lw_at lw_m6 145 rfl
theorem q1440 : (Jvm.Cond.instanceMethod ({ cls := "SongThatStaysModel", name := "goes", desc := "()I" } : Jvm.MethodName)) ∈ lw_all := lw_g (lw_at lw_m6 146 rfl) rfl
theorem q1441 : (Jvm.Cond.code ({ cls := "SongThatStaysModel", name := "goes", desc := "()I" } : Jvm.MethodName) prog_28_method_21_code (4 : Nat) (Option.some Jvm.ClassFile.FieldType.int)) ∈ lw_all := lw_g (lw_at lw_m6 147 rfl) rfl
theorem q1442 : (Jvm.Cond.methodLink "SongThatStaysModel" (89 : Nat) ({ cls := "SongThatStaysModel", name := "hears", desc := "(II)V" } : Jvm.MethodName)) ∈ lw_all := lw_g (lw_at lw_m6 148 rfl) rfl
theorem q1443 : (Jvm.Cond.privateMethod ({ cls := "SongThatStaysModel", name := "hears", desc := "(II)V" } : Jvm.MethodName)) ∈ lw_tbl := lw_at lw_m6 149 rfl
theorem q1444 : (Jvm.Cond.instanceMethod ({ cls := "SongThatStaysModel", name := "hears", desc := "(II)V" } : Jvm.MethodName)) ∈ lw_all := lw_g (lw_at lw_m6 150 rfl) rfl
theorem q1445 : (Jvm.Cond.code ({ cls := "SongThatStaysModel", name := "hears", desc := "(II)V" } : Jvm.MethodName) prog_28_method_19_code (6 : Nat) (Option.none : Option Jvm.ClassFile.FieldType)) ∈ lw_all := lw_g (lw_at lw_m6 151 rfl) rfl
theorem q1446 : (Jvm.Cond.methodLink "SongThatStaysModel" (92 : Nat) ({ cls := "SongThatStaysModel", name := "wanes", desc := "(I)V" } : Jvm.MethodName)) ∈ lw_all := lw_g (lw_at lw_m6 152 rfl) rfl
theorem q1447 : (Jvm.Cond.privateMethod ({ cls := "SongThatStaysModel", name := "wanes", desc := "(I)V" } : Jvm.MethodName)) ∈ lw_tbl := lw_at lw_m6 153 rfl
theorem q1448 : (Jvm.Cond.instanceMethod ({ cls := "SongThatStaysModel", name := "wanes", desc := "(I)V" } : Jvm.MethodName)) ∈ lw_all := lw_g (lw_at lw_m6 154 rfl) rfl
theorem q1449 : (Jvm.Cond.code ({ cls := "SongThatStaysModel", name := "wanes", desc := "(I)V" } : Jvm.MethodName) prog_28_method_20_code (4 : Nat) (Option.none : Option Jvm.ClassFile.FieldType)) ∈ lw_all := lw_g (lw_at lw_m6 155 rfl) rfl
theorem q1450 : (Jvm.Cond.methodLink "SongThatStaysModel" (78 : Nat) ({ cls := "SongThatStaysModel", name := "fades", desc := "(I)I" } : Jvm.MethodName)) ∈ lw_all := lw_g (lw_at lw_m6 156 rfl) rfl
theorem q1451 : (Jvm.Cond.privateMethod ({ cls := "SongThatStaysModel", name := "fades", desc := "(I)I" } : Jvm.MethodName)) ∈ lw_tbl := lw_at lw_m6 157 rfl
theorem q1452 : (Jvm.Cond.instanceMethod ({ cls := "SongThatStaysModel", name := "fades", desc := "(I)I" } : Jvm.MethodName)) ∈ lw_all := lw_g (lw_at lw_m6 158 rfl) rfl
theorem q1453 : (Jvm.Cond.code ({ cls := "SongThatStaysModel", name := "fades", desc := "(I)I" } : Jvm.MethodName) prog_28_method_14_code (2 : Nat) (Option.some Jvm.ClassFile.FieldType.int)) ∈ lw_all := lw_g (lw_at lw_m6 159 rfl) rfl
theorem q1455 : (Jvm.Cond.instanceMethod ({ cls := "SongThatStaysModel", name := "hold", desc := "(III)I" } : Jvm.MethodName)) ∈ lw_all := lw_g (lw_at lw_m6 161 rfl) rfl
theorem q1456 : (Jvm.Cond.selects "SongThatStaysModel" ({ cls := "SongThatStaysModel", name := "hold", desc := "(III)I" } : Jvm.MethodName) ({ cls := "SongThatStaysModel", name := "hold", desc := "(III)I" } : Jvm.MethodName)) ∈ lw_all := lw_g (lw_at lw_m6 162 rfl) rfl
theorem q1457 : (Jvm.Cond.code ({ cls := "SongThatStaysModel", name := "hold", desc := "(III)I" } : Jvm.MethodName) prog_28_method_48_code (6 : Nat) (Option.some Jvm.ClassFile.FieldType.int)) ∈ lw_all := lw_g (lw_at lw_m6 163 rfl) rfl
theorem q1458 : (Jvm.Cond.methodLink "SongThatStaysModel" (163 : Nat) ({ cls := "SongThatStaysModel", name := "wrong", desc := "(ZI)I" } : Jvm.MethodName)) ∈ lw_all := lw_g (lw_at lw_m6 164 rfl) rfl
theorem q1459 : (Jvm.Cond.privateMethod ({ cls := "SongThatStaysModel", name := "wrong", desc := "(ZI)I" } : Jvm.MethodName)) ∈ lw_tbl := lw_at lw_m6 165 rfl
theorem q1460 : (Jvm.Cond.instanceMethod ({ cls := "SongThatStaysModel", name := "wrong", desc := "(ZI)I" } : Jvm.MethodName)) ∈ lw_all := lw_g (lw_at lw_m6 166 rfl) rfl
theorem q1461 : (Jvm.Cond.code ({ cls := "SongThatStaysModel", name := "wrong", desc := "(ZI)I" } : Jvm.MethodName) prog_28_method_47_code (3 : Nat) (Option.some Jvm.ClassFile.FieldType.int)) ∈ lw_all := lw_g (lw_at lw_m6 167 rfl) rfl
theorem q1462 : (Jvm.Cond.methodLink "SongThatStaysModel" (96 : Nat) ({ cls := "SongThatStaysModel", name := "begins", desc := "()V" } : Jvm.MethodName)) ∈ lw_all := lw_g (lw_at lw_m6 168 rfl) rfl
theorem q1463 : (Jvm.Cond.privateMethod ({ cls := "SongThatStaysModel", name := "begins", desc := "()V" } : Jvm.MethodName)) ∈ lw_tbl := lw_at lw_m6 169 rfl
theorem q1464 : (Jvm.Cond.instanceMethod ({ cls := "SongThatStaysModel", name := "begins", desc := "()V" } : Jvm.MethodName)) ∈ lw_all := lw_g (lw_at lw_m6 170 rfl) rfl
theorem q1465 : (Jvm.Cond.code ({ cls := "SongThatStaysModel", name := "begins", desc := "()V" } : Jvm.MethodName) prog_28_method_6_code (1 : Nat) (Option.none : Option Jvm.ClassFile.FieldType)) ∈ lw_all := lw_g (lw_at lw_m6 171 rfl) rfl
theorem q1466 : (Jvm.Cond.methodLink "SongThatStaysModel" (103 : Nat) ({ cls := "SongThatStaysModel", name := "goesFor", desc := "(I)V" } : Jvm.MethodName)) ∈ lw_all := lw_g (lw_at lw_m6 172 rfl) rfl
theorem q1467 : (Jvm.Cond.privateMethod ({ cls := "SongThatStaysModel", name := "goesFor", desc := "(I)V" } : Jvm.MethodName)) ∈ lw_tbl := lw_at lw_m6 173 rfl
theorem q1468 : (Jvm.Cond.instanceMethod ({ cls := "SongThatStaysModel", name := "goesFor", desc := "(I)V" } : Jvm.MethodName)) ∈ lw_all := lw_g (lw_at lw_m6 174 rfl) rfl
theorem q1469 : (Jvm.Cond.code ({ cls := "SongThatStaysModel", name := "goesFor", desc := "(I)V" } : Jvm.MethodName) prog_28_method_23_code (3 : Nat) (Option.none : Option Jvm.ClassFile.FieldType)) ∈ lw_all := lw_g (lw_at lw_m6 175 rfl) rfl
theorem q1470 : (Jvm.Cond.methodLink "SongThatStaysModel" (109 : Nat) ({ cls := "SongThatStaysModel", name := "ends", desc := "()V" } : Jvm.MethodName)) ∈ lw_all := lw_g (lw_at lw_m6 176 rfl) rfl
theorem q1471 : (Jvm.Cond.privateMethod ({ cls := "SongThatStaysModel", name := "ends", desc := "()V" } : Jvm.MethodName)) ∈ lw_tbl := lw_at lw_m6 177 rfl
theorem q1472 : (Jvm.Cond.instanceMethod ({ cls := "SongThatStaysModel", name := "ends", desc := "()V" } : Jvm.MethodName)) ∈ lw_all := lw_g (lw_at lw_m6 178 rfl) rfl
theorem q1473 : (Jvm.Cond.code ({ cls := "SongThatStaysModel", name := "ends", desc := "()V" } : Jvm.MethodName) prog_28_method_7_code (1 : Nat) (Option.none : Option Jvm.ClassFile.FieldType)) ∈ lw_all := lw_g (lw_at lw_m6 179 rfl) rfl
theorem q1475 : (Jvm.Cond.instanceMethod ({ cls := "SongThatStaysModel", name := "have", desc := "(II)I" } : Jvm.MethodName)) ∈ lw_all := lw_g (lw_at lw_m6 181 rfl) rfl
theorem q1476 : (Jvm.Cond.selects "SongThatStaysModel" ({ cls := "SongThatStaysModel", name := "have", desc := "(II)I" } : Jvm.MethodName) ({ cls := "SongThatStaysModel", name := "have", desc := "(II)I" } : Jvm.MethodName)) ∈ lw_all := lw_g (lw_at lw_m6 182 rfl) rfl
theorem q1477 : (Jvm.Cond.code ({ cls := "SongThatStaysModel", name := "have", desc := "(II)I" } : Jvm.MethodName) prog_28_method_49_code (4 : Nat) (Option.some Jvm.ClassFile.FieldType.int)) ∈ lw_all := lw_g (lw_at lw_m6 183 rfl) rfl
theorem q1478 : (Jvm.Cond.methodLink "SongThatStaysModel" (167 : Nat) ({ cls := "SongThatStaysModel", name := "haveBehind", desc := "(II)I" } : Jvm.MethodName)) ∈ lw_all := lw_g (lw_at lw_m6 184 rfl) rfl
theorem q1479 : (Jvm.Cond.privateMethod ({ cls := "SongThatStaysModel", name := "haveBehind", desc := "(II)I" } : Jvm.MethodName)) ∈ lw_tbl := lw_at lw_m6 185 rfl
theorem q1480 : (Jvm.Cond.instanceMethod ({ cls := "SongThatStaysModel", name := "haveBehind", desc := "(II)I" } : Jvm.MethodName)) ∈ lw_all := lw_g (lw_at lw_m6 186 rfl) rfl
theorem q1481 : (Jvm.Cond.code ({ cls := "SongThatStaysModel", name := "haveBehind", desc := "(II)I" } : Jvm.MethodName) prog_28_method_25_code (4 : Nat) (Option.some Jvm.ClassFile.FieldType.int)) ∈ lw_all := lw_g (lw_at lw_m6 187 rfl) rfl
theorem q1483 : (Jvm.Cond.instanceMethod ({ cls := "SongThatStaysModel", name := "takes", desc := "(II)I" } : Jvm.MethodName)) ∈ lw_all := lw_g (lw_at lw_m6 189 rfl) rfl
theorem q1484 : (Jvm.Cond.selects "SongThatStaysModel" ({ cls := "SongThatStaysModel", name := "takes", desc := "(II)I" } : Jvm.MethodName) ({ cls := "SongThatStaysModel", name := "takes", desc := "(II)I" } : Jvm.MethodName)) ∈ lw_all := lw_g (lw_at lw_m6 190 rfl) rfl
theorem q1485 : (Jvm.Cond.code ({ cls := "SongThatStaysModel", name := "takes", desc := "(II)I" } : Jvm.MethodName) prog_28_method_50_code (5 : Nat) (Option.some Jvm.ClassFile.FieldType.int)) ∈ lw_all := lw_g (lw_at lw_m6 191 rfl) rfl
theorem q1487 : (Jvm.Cond.instanceMethod ({ cls := "SongThatStaysModel", name := "still", desc := "()I" } : Jvm.MethodName)) ∈ lw_all := lw_g (lw_at lw_m6 193 rfl) rfl
theorem q1488 : (Jvm.Cond.selects "SongThatStaysModel" ({ cls := "SongThatStaysModel", name := "still", desc := "()I" } : Jvm.MethodName) ({ cls := "SongThatStaysModel", name := "still", desc := "()I" } : Jvm.MethodName)) ∈ lw_all := lw_g (lw_at lw_m6 194 rfl) rfl
theorem q1489 : (Jvm.Cond.code ({ cls := "SongThatStaysModel", name := "still", desc := "()I" } : Jvm.MethodName) prog_28_method_51_code (3 : Nat) (Option.some Jvm.ClassFile.FieldType.int)) ∈ lw_all := lw_g (lw_at lw_m6 195 rfl) rfl
theorem q1491 : (Jvm.Cond.instanceMethod ({ cls := "SongThatStaysModel", name := "most", desc := "(III)I" } : Jvm.MethodName)) ∈ lw_all := lw_g (lw_at lw_m6 197 rfl) rfl
theorem q1492 : (Jvm.Cond.selects "SongThatStaysModel" ({ cls := "SongThatStaysModel", name := "most", desc := "(III)I" } : Jvm.MethodName) ({ cls := "SongThatStaysModel", name := "most", desc := "(III)I" } : Jvm.MethodName)) ∈ lw_all := lw_g (lw_at lw_m6 198 rfl) rfl
theorem q1493 : (Jvm.Cond.code ({ cls := "SongThatStaysModel", name := "most", desc := "(III)I" } : Jvm.MethodName) prog_28_method_52_code (9 : Nat) (Option.some Jvm.ClassFile.FieldType.int)) ∈ lw_all := lw_g (lw_at lw_m6 199 rfl) rfl
theorem q1495 : (Jvm.Cond.instanceMethod ({ cls := "SongThatStaysModel", name := "lasts", desc := "(I)I" } : Jvm.MethodName)) ∈ lw_all := lw_g (lw_at lw_m6 201 rfl) rfl
theorem q1496 : (Jvm.Cond.selects "SongThatStaysModel" ({ cls := "SongThatStaysModel", name := "lasts", desc := "(I)I" } : Jvm.MethodName) ({ cls := "SongThatStaysModel", name := "lasts", desc := "(I)I" } : Jvm.MethodName)) ∈ lw_all := lw_g (lw_at lw_m6 202 rfl) rfl
theorem q1497 : (Jvm.Cond.code ({ cls := "SongThatStaysModel", name := "lasts", desc := "(I)I" } : Jvm.MethodName) prog_28_method_53_code (6 : Nat) (Option.some Jvm.ClassFile.FieldType.int)) ∈ lw_all := lw_g (lw_at lw_m6 203 rfl) rfl
theorem q1499 : (Jvm.Cond.instanceMethod ({ cls := "SongThatStaysModel", name := "from", desc := "(II)I" } : Jvm.MethodName)) ∈ lw_all := lw_g (lw_at lw_m6 205 rfl) rfl
theorem q1500 : (Jvm.Cond.selects "SongThatStaysModel" ({ cls := "SongThatStaysModel", name := "from", desc := "(II)I" } : Jvm.MethodName) ({ cls := "SongThatStaysModel", name := "from", desc := "(II)I" } : Jvm.MethodName)) ∈ lw_all := lw_g (lw_at lw_m6 206 rfl) rfl
theorem q1501 : (Jvm.Cond.code ({ cls := "SongThatStaysModel", name := "from", desc := "(II)I" } : Jvm.MethodName) prog_28_method_55_code (3 : Nat) (Option.some Jvm.ClassFile.FieldType.int)) ∈ lw_all := lw_g (lw_at lw_m6 207 rfl) rfl
theorem q1502 : (Jvm.Cond.methodLink "SongThatStaysModel" (173 : Nat) ({ cls := "SongThatStaysModel", name := "wentBy", desc := "(IIZ)I" } : Jvm.MethodName)) ∈ lw_all := lw_g (lw_at lw_m6 208 rfl) rfl
theorem q1503 : (Jvm.Cond.privateMethod ({ cls := "SongThatStaysModel", name := "wentBy", desc := "(IIZ)I" } : Jvm.MethodName)) ∈ lw_tbl := lw_at lw_m6 209 rfl
theorem q1504 : (Jvm.Cond.instanceMethod ({ cls := "SongThatStaysModel", name := "wentBy", desc := "(IIZ)I" } : Jvm.MethodName)) ∈ lw_all := lw_g (lw_at lw_m6 210 rfl) rfl
theorem q1505 : (Jvm.Cond.code ({ cls := "SongThatStaysModel", name := "wentBy", desc := "(IIZ)I" } : Jvm.MethodName) prog_28_method_54_code (6 : Nat) (Option.some Jvm.ClassFile.FieldType.int)) ∈ lw_all := lw_g (lw_at lw_m6 211 rfl) rfl
theorem q1506 : (Jvm.Cond.methodLink "SongThatStaysModel" (170 : Nat) ({ cls := "SongThatStaysModel", name := "starts", desc := "()V" } : Jvm.MethodName)) ∈ lw_all := lw_g (lw_at lw_m6 212 rfl) rfl
theorem q1507 : (Jvm.Cond.privateMethod ({ cls := "SongThatStaysModel", name := "starts", desc := "()V" } : Jvm.MethodName)) ∈ lw_tbl := lw_at lw_m6 213 rfl
theorem q1508 : (Jvm.Cond.instanceMethod ({ cls := "SongThatStaysModel", name := "starts", desc := "()V" } : Jvm.MethodName)) ∈ lw_all := lw_g (lw_at lw_m6 214 rfl) rfl
theorem q1509 : (Jvm.Cond.code ({ cls := "SongThatStaysModel", name := "starts", desc := "()V" } : Jvm.MethodName) prog_28_method_22_code (2 : Nat) (Option.none : Option Jvm.ClassFile.FieldType)) ∈ lw_all := lw_g (lw_at lw_m6 215 rfl) rfl
theorem q1511 : (Jvm.Cond.instanceMethod ({ cls := "SongThatStaysModel", name := "first", desc := "(II)I" } : Jvm.MethodName)) ∈ lw_all := lw_g (lw_at lw_m6 217 rfl) rfl
theorem q1512 : (Jvm.Cond.selects "SongThatStaysModel" ({ cls := "SongThatStaysModel", name := "first", desc := "(II)I" } : Jvm.MethodName) ({ cls := "SongThatStaysModel", name := "first", desc := "(II)I" } : Jvm.MethodName)) ∈ lw_all := lw_g (lw_at lw_m6 218 rfl) rfl
theorem q1513 : (Jvm.Cond.code ({ cls := "SongThatStaysModel", name := "first", desc := "(II)I" } : Jvm.MethodName) prog_28_method_56_code (3 : Nat) (Option.some Jvm.ClassFile.FieldType.int)) ∈ lw_all := lw_g (lw_at lw_m6 219 rfl) rfl
theorem q1515 : (Jvm.Cond.instanceMethod ({ cls := "SongThatStaysModel", name := "rid", desc := "(II)I" } : Jvm.MethodName)) ∈ lw_all := lw_g (lw_at lw_m6 221 rfl) rfl
theorem q1516 : (Jvm.Cond.selects "SongThatStaysModel" ({ cls := "SongThatStaysModel", name := "rid", desc := "(II)I" } : Jvm.MethodName) ({ cls := "SongThatStaysModel", name := "rid", desc := "(II)I" } : Jvm.MethodName)) ∈ lw_all := lw_g (lw_at lw_m6 222 rfl) rfl
theorem q1517 : (Jvm.Cond.code ({ cls := "SongThatStaysModel", name := "rid", desc := "(II)I" } : Jvm.MethodName) prog_28_method_58_code (8 : Nat) (Option.some Jvm.ClassFile.FieldType.int)) ∈ lw_all := lw_g (lw_at lw_m6 223 rfl) rfl
theorem q1518 : (Jvm.Cond.methodLink "SongThatStaysModel" (177 : Nat) ({ cls := "SongThatStaysModel", name := "ridOf", desc := "(I)I" } : Jvm.MethodName)) ∈ lw_all := lw_g (lw_at lw_m6 224 rfl) rfl
theorem q1519 : (Jvm.Cond.privateMethod ({ cls := "SongThatStaysModel", name := "ridOf", desc := "(I)I" } : Jvm.MethodName)) ∈ lw_tbl := lw_at lw_m6 225 rfl
theorem q1520 : (Jvm.Cond.instanceMethod ({ cls := "SongThatStaysModel", name := "ridOf", desc := "(I)I" } : Jvm.MethodName)) ∈ lw_all := lw_g (lw_at lw_m6 226 rfl) rfl
theorem q1521 : (Jvm.Cond.code ({ cls := "SongThatStaysModel", name := "ridOf", desc := "(I)I" } : Jvm.MethodName) prog_28_method_57_code (4 : Nat) (Option.some Jvm.ClassFile.FieldType.int)) ∈ lw_all := lw_g (lw_at lw_m6 227 rfl) rfl
theorem q1523 : (Jvm.Cond.instanceMethod ({ cls := "SongThatStaysModel", name := "instead", desc := "(I)I" } : Jvm.MethodName)) ∈ lw_all := lw_g (lw_at lw_m6 229 rfl) rfl
theorem q1524 : (Jvm.Cond.selects "SongThatStaysModel" ({ cls := "SongThatStaysModel", name := "instead", desc := "(I)I" } : Jvm.MethodName) ({ cls := "SongThatStaysModel", name := "instead", desc := "(I)I" } : Jvm.MethodName)) ∈ lw_all := lw_g (lw_at lw_m6 230 rfl) rfl
theorem q1525 : (Jvm.Cond.code ({ cls := "SongThatStaysModel", name := "instead", desc := "(I)I" } : Jvm.MethodName) prog_28_method_59_code (8 : Nat) (Option.some Jvm.ClassFile.FieldType.int)) ∈ lw_all := lw_g (lw_at lw_m6 231 rfl) rfl
theorem q1527 : (Jvm.Cond.instanceMethod ({ cls := "SongThatStaysModel", name := "shut", desc := "(I)I" } : Jvm.MethodName)) ∈ lw_all := lw_g (lw_at lw_m6 233 rfl) rfl
theorem q1528 : (Jvm.Cond.selects "SongThatStaysModel" ({ cls := "SongThatStaysModel", name := "shut", desc := "(I)I" } : Jvm.MethodName) ({ cls := "SongThatStaysModel", name := "shut", desc := "(I)I" } : Jvm.MethodName)) ∈ lw_all := lw_g (lw_at lw_m6 234 rfl) rfl
theorem q1529 : (Jvm.Cond.code ({ cls := "SongThatStaysModel", name := "shut", desc := "(I)I" } : Jvm.MethodName) prog_28_method_60_code (7 : Nat) (Option.some Jvm.ClassFile.FieldType.int)) ∈ lw_all := lw_g (lw_at lw_m6 235 rfl) rfl
theorem q1531 : (Jvm.Cond.instanceMethod ({ cls := "SongThatStaysModel", name := "seats", desc := "(I)I" } : Jvm.MethodName)) ∈ lw_all := lw_g (lw_at lw_m6 237 rfl) rfl
theorem q1532 : (Jvm.Cond.selects "SongThatStaysModel" ({ cls := "SongThatStaysModel", name := "seats", desc := "(I)I" } : Jvm.MethodName) ({ cls := "SongThatStaysModel", name := "seats", desc := "(I)I" } : Jvm.MethodName)) ∈ lw_all := lw_g (lw_at lw_m6 238 rfl) rfl
theorem q1533 : (Jvm.Cond.code ({ cls := "SongThatStaysModel", name := "seats", desc := "(I)I" } : Jvm.MethodName) prog_28_method_61_code (9 : Nat) (Option.some Jvm.ClassFile.FieldType.int)) ∈ lw_all := lw_g (lw_at lw_m6 239 rfl) rfl
theorem q1535 : (Jvm.Cond.instanceMethod ({ cls := "SongThatStaysModel", name := "write", desc := "(III)I" } : Jvm.MethodName)) ∈ lw_all := lw_g (lw_at lw_m7 1 rfl) rfl
theorem q1536 : (Jvm.Cond.selects "SongThatStaysModel" ({ cls := "SongThatStaysModel", name := "write", desc := "(III)I" } : Jvm.MethodName) ({ cls := "SongThatStaysModel", name := "write", desc := "(III)I" } : Jvm.MethodName)) ∈ lw_all := lw_g (lw_at lw_m7 2 rfl) rfl
theorem q1537 : (Jvm.Cond.code ({ cls := "SongThatStaysModel", name := "write", desc := "(III)I" } : Jvm.MethodName) prog_28_method_62_code (10 : Nat) (Option.some Jvm.ClassFile.FieldType.int)) ∈ lw_all := lw_g (lw_at lw_m7 3 rfl) rfl
theorem q1539 : (Jvm.Cond.instanceMethod ({ cls := "SongThatStaysModel", name := "row", desc := "(I)I" } : Jvm.MethodName)) ∈ lw_all := lw_g (lw_at lw_m7 5 rfl) rfl
theorem q1540 : (Jvm.Cond.selects "SongThatStaysModel" ({ cls := "SongThatStaysModel", name := "row", desc := "(I)I" } : Jvm.MethodName) ({ cls := "SongThatStaysModel", name := "row", desc := "(I)I" } : Jvm.MethodName)) ∈ lw_all := lw_g (lw_at lw_m7 6 rfl) rfl
theorem q1541 : (Jvm.Cond.code ({ cls := "SongThatStaysModel", name := "row", desc := "(I)I" } : Jvm.MethodName) prog_28_method_63_code (3 : Nat) (Option.some Jvm.ClassFile.FieldType.int)) ∈ lw_all := lw_g (lw_at lw_m7 7 rfl) rfl
theorem q1543 : (Jvm.Cond.instanceMethod ({ cls := "SongThatStaysModel", name := "otherwise", desc := "(II)I" } : Jvm.MethodName)) ∈ lw_all := lw_g (lw_at lw_m7 9 rfl) rfl
theorem q1544 : (Jvm.Cond.selects "SongThatStaysModel" ({ cls := "SongThatStaysModel", name := "otherwise", desc := "(II)I" } : Jvm.MethodName) ({ cls := "SongThatStaysModel", name := "otherwise", desc := "(II)I" } : Jvm.MethodName)) ∈ lw_all := lw_g (lw_at lw_m7 10 rfl) rfl
theorem q1545 : (Jvm.Cond.code ({ cls := "SongThatStaysModel", name := "otherwise", desc := "(II)I" } : Jvm.MethodName) prog_28_method_66_code (10 : Nat) (Option.some Jvm.ClassFile.FieldType.int)) ∈ lw_all := lw_g (lw_at lw_m7 11 rfl) rfl
theorem q1546 : (Jvm.Cond.methodLink "SongThatStaysModel" (186 : Nat) ({ cls := "SongThatStaysModel", name := "isAllTold", desc := "()Z" } : Jvm.MethodName)) ∈ lw_all := lw_g (lw_at lw_m7 12 rfl) rfl
theorem q1547 : (Jvm.Cond.privateMethod ({ cls := "SongThatStaysModel", name := "isAllTold", desc := "()Z" } : Jvm.MethodName)) ∈ lw_tbl := lw_at lw_m7 13 rfl
theorem q1548 : (Jvm.Cond.instanceMethod ({ cls := "SongThatStaysModel", name := "isAllTold", desc := "()Z" } : Jvm.MethodName)) ∈ lw_all := lw_g (lw_at lw_m7 14 rfl) rfl
theorem q1549 : (Jvm.Cond.code ({ cls := "SongThatStaysModel", name := "isAllTold", desc := "()Z" } : Jvm.MethodName) prog_28_method_65_code (2 : Nat) (Option.some Jvm.ClassFile.FieldType.boolean)) ∈ lw_all := lw_g (lw_at lw_m7 15 rfl) rfl
theorem q1550 : (Jvm.Cond.methodLink "SongThatStaysModel" (183 : Nat) ({ cls := "SongThatStaysModel", name := "isTold", desc := "(I)Z" } : Jvm.MethodName)) ∈ lw_all := lw_g (lw_at lw_m7 16 rfl) rfl
theorem q1551 : (Jvm.Cond.privateMethod ({ cls := "SongThatStaysModel", name := "isTold", desc := "(I)Z" } : Jvm.MethodName)) ∈ lw_tbl := lw_at lw_m7 17 rfl
theorem q1552 : (Jvm.Cond.instanceMethod ({ cls := "SongThatStaysModel", name := "isTold", desc := "(I)Z" } : Jvm.MethodName)) ∈ lw_all := lw_g (lw_at lw_m7 18 rfl) rfl
theorem q1553 : (Jvm.Cond.code ({ cls := "SongThatStaysModel", name := "isTold", desc := "(I)Z" } : Jvm.MethodName) prog_28_method_64_code (2 : Nat) (Option.some Jvm.ClassFile.FieldType.boolean)) ∈ lw_all := lw_g (lw_at lw_m7 19 rfl) rfl
theorem q1555 : (Jvm.Cond.instanceMethod ({ cls := "SongThatStaysModel", name := "judge", desc := "()I" } : Jvm.MethodName)) ∈ lw_all := lw_g (lw_at lw_m7 21 rfl) rfl
theorem q1556 : (Jvm.Cond.selects "SongThatStaysModel" ({ cls := "SongThatStaysModel", name := "judge", desc := "()I" } : Jvm.MethodName) ({ cls := "SongThatStaysModel", name := "judge", desc := "()I" } : Jvm.MethodName)) ∈ lw_all := lw_g (lw_at lw_m7 22 rfl) rfl
theorem q1557 : (Jvm.Cond.code ({ cls := "SongThatStaysModel", name := "judge", desc := "()I" } : Jvm.MethodName) prog_28_method_67_code (3 : Nat) (Option.some Jvm.ClassFile.FieldType.int)) ∈ lw_all := lw_g (lw_at lw_m7 23 rfl) rfl
theorem q1559 : (Jvm.Cond.instanceMethod ({ cls := "SongThatStaysModel", name := "seeds", desc := "(II)I" } : Jvm.MethodName)) ∈ lw_all := lw_g (lw_at lw_m7 25 rfl) rfl
theorem q1560 : (Jvm.Cond.selects "SongThatStaysModel" ({ cls := "SongThatStaysModel", name := "seeds", desc := "(II)I" } : Jvm.MethodName) ({ cls := "SongThatStaysModel", name := "seeds", desc := "(II)I" } : Jvm.MethodName)) ∈ lw_all := lw_g (lw_at lw_m7 26 rfl) rfl
theorem q1561 : (Jvm.Cond.code ({ cls := "SongThatStaysModel", name := "seeds", desc := "(II)I" } : Jvm.MethodName) prog_28_method_68_code (7 : Nat) (Option.some Jvm.ClassFile.FieldType.int)) ∈ lw_all := lw_g (lw_at lw_m7 27 rfl) rfl
theorem q1562 : (Jvm.Cond.constant "SongThatStaysModel" (189 : Nat) (1664525 : Int32)) ∈ lw_all := lw_g (lw_at lw_m7 28 rfl) rfl
theorem q1563 : (Jvm.Cond.constant "SongThatStaysModel" (190 : Nat) (1013904223 : Int32)) ∈ lw_all := lw_g (lw_at lw_m7 29 rfl) rfl
theorem q1564 : (Jvm.Cond.constant "SongThatStaysModel" (191 : Nat) (2147483647 : Int32)) ∈ lw_all := lw_g (lw_at lw_m7 30 rfl) rfl
theorem q1566 : (Jvm.Cond.instanceMethod ({ cls := "SongThatStaysModel", name := "image", desc := "()I" } : Jvm.MethodName)) ∈ lw_all := lw_g (lw_at lw_m7 32 rfl) rfl
theorem q1567 : (Jvm.Cond.selects "SongThatStaysModel" ({ cls := "SongThatStaysModel", name := "image", desc := "()I" } : Jvm.MethodName) ({ cls := "SongThatStaysModel", name := "image", desc := "()I" } : Jvm.MethodName)) ∈ lw_all := lw_g (lw_at lw_m7 33 rfl) rfl
theorem q1568 : (Jvm.Cond.code ({ cls := "SongThatStaysModel", name := "image", desc := "()I" } : Jvm.MethodName) prog_28_method_69_code (1 : Nat) (Option.some Jvm.ClassFile.FieldType.int)) ∈ lw_all := lw_g (lw_at lw_m7 34 rfl) rfl
theorem q1570 : (Jvm.Cond.instanceMethod ({ cls := "SongThatStaysModel", name := "on", desc := "()I" } : Jvm.MethodName)) ∈ lw_all := lw_g (lw_at lw_m7 36 rfl) rfl
theorem q1571 : (Jvm.Cond.selects "SongThatStaysModel" ({ cls := "SongThatStaysModel", name := "on", desc := "()I" } : Jvm.MethodName) ({ cls := "SongThatStaysModel", name := "on", desc := "()I" } : Jvm.MethodName)) ∈ lw_all := lw_g (lw_at lw_m7 37 rfl) rfl
theorem q1572 : (Jvm.Cond.code ({ cls := "SongThatStaysModel", name := "on", desc := "()I" } : Jvm.MethodName) prog_28_method_70_code (1 : Nat) (Option.some Jvm.ClassFile.FieldType.int)) ∈ lw_all := lw_g (lw_at lw_m7 38 rfl) rfl
theorem q1574 : (Jvm.Cond.instanceMethod ({ cls := "SongThatStaysModel", name := "count", desc := "(I)I" } : Jvm.MethodName)) ∈ lw_all := lw_g (lw_at lw_m7 40 rfl) rfl
theorem q1575 : (Jvm.Cond.selects "SongThatStaysModel" ({ cls := "SongThatStaysModel", name := "count", desc := "(I)I" } : Jvm.MethodName) ({ cls := "SongThatStaysModel", name := "count", desc := "(I)I" } : Jvm.MethodName)) ∈ lw_all := lw_g (lw_at lw_m7 41 rfl) rfl
theorem q1576 : (Jvm.Cond.code ({ cls := "SongThatStaysModel", name := "count", desc := "(I)I" } : Jvm.MethodName) prog_28_method_72_code (4 : Nat) (Option.some Jvm.ClassFile.FieldType.int)) ∈ lw_all := lw_g (lw_at lw_m7 42 rfl) rfl
theorem q1577 : (Jvm.Cond.methodLink "SongThatStaysModel" (196 : Nat) ({ cls := "SongThatStaysModel", name := "bits", desc := "(I)I" } : Jvm.MethodName)) ∈ lw_all := lw_g (lw_at lw_m7 43 rfl) rfl
theorem q1578 : (Jvm.Cond.static ({ cls := "SongThatStaysModel", name := "bits", desc := "(I)I" } : Jvm.MethodName)) ∈ lw_all := lw_g (lw_at lw_m7 44 rfl) rfl
theorem q1579 : (Jvm.Cond.code ({ cls := "SongThatStaysModel", name := "bits", desc := "(I)I" } : Jvm.MethodName) prog_28_method_71_code (3 : Nat) (Option.some Jvm.ClassFile.FieldType.int)) ∈ lw_all := lw_g (lw_at lw_m7 45 rfl) rfl
theorem in_X9 : ∀ w ∈ wsX90, w ∈ lw_all := lw_in wsX90 [1264, 1266, 1268, 1270, 1272, 1274, 1276, 1278, 1280, 1282, 1284, 1286, 1288, 1290, 1292, 1294, 1296] (by decide +kernel) (by decide +kernel)
