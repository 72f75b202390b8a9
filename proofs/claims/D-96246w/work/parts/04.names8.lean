/-! SongThatStays$Reader -/
set_option maxRecDepth 100000
def RX12 : String := "SongThatStays$Reader"
def TX12 : u_T := fun k => match k with
  | 0 => ("SongThatStays$Reader", "size", "I", true)
  | 1 => ("SongThatStays$Reader", "at", "I", false)
  | _ => ("SongThatStays$Reader", "this$0", "LSongThatStays;", true)
def tyX12 : Nat → FieldType := fun k => match k with
  | 0 => .int
  | 1 => .int
  | _ => .object "SongThatStays"
abbrev wsX120 : List Cond := u_ws RX12 TX12 3
theorem nmX12 : ∀ a, a < 3 → ∀ b, b < 3 → a ≠ b → (TX12 a).2.1 ≠ (TX12 b).2.1 := by decide +kernel
theorem tyX12_ok : ∀ k, k < 3 → parseFieldDescriptor (TX12 k).2.2.1 = some (tyX12 k) := by decide +kernel
abbrev cX12_init : ByteArray := prog_18_method_1_code
def yX12_init : MethodName := ⟨RX12, "<init>", "(LSongThatStays;)V"⟩
def dkwX12_init_0 : List UInt8 := [42, 43, 181, 0, 1, 42, 183, 0, 7, 42, 42, 180, 0, 1, 180, 0, 13, 181, 0, 19, 177]
abbrev dktX12_init_0 : List UInt8 := dkwX12_init_0 ++ []
theorem dksX12_init_0 : cX12_init.data.toList.drop 0 = dktX12_init_0 := by decide +kernel
theorem dX12_init_0 : decode cX12_init 0 = .ok (.aload_n 0, 1) := dk_42 (dk_at dksX12_init_0 0 rfl rfl)
theorem dX12_init_1 : decode cX12_init 1 = .ok (.aload_n 1, 1) := dk_43 (dk_at dksX12_init_0 1 rfl rfl)
theorem dX12_init_2 : decode cX12_init 2 = .ok (.putfield 1, 3) := dk_181 0 1 (dk_at dksX12_init_0 2 rfl rfl)
theorem dX12_init_5 : decode cX12_init 5 = .ok (.aload_n 0, 1) := dk_42 (dk_at dksX12_init_0 5 rfl rfl)
theorem dX12_init_6 : decode cX12_init 6 = .ok (.invokespecial 7, 3) := dk_183 0 7 (dk_at dksX12_init_0 6 rfl rfl)
theorem dX12_init_9 : decode cX12_init 9 = .ok (.aload_n 0, 1) := dk_42 (dk_at dksX12_init_0 9 rfl rfl)
theorem dX12_init_10 : decode cX12_init 10 = .ok (.aload_n 0, 1) := dk_42 (dk_at dksX12_init_0 10 rfl rfl)
theorem dX12_init_11 : decode cX12_init 11 = .ok (.getfield 1, 3) := dk_180 0 1 (dk_at dksX12_init_0 11 rfl rfl)
theorem dX12_init_14 : decode cX12_init 14 = .ok (.getfield 13, 3) := dk_180 0 13 (dk_at dksX12_init_0 14 rfl rfl)
theorem dX12_init_17 : decode cX12_init 17 = .ok (.putfield 19, 3) := dk_181 0 19 (dk_at dksX12_init_0 17 rfl rfl)
theorem dX12_init_20 : decode cX12_init 20 = .ok (.return_, 1) := dk_177 (dk_at dksX12_init_0 20 rfl rfl)
abbrev cX12_statement : ByteArray := prog_18_method_7_code
def yX12_statement : MethodName := ⟨RX12, "statement", "()LSongThatStays$Told;"⟩
def dkwX12_statement_3 : List UInt8 := [182, 0, 57, 45, 176]
abbrev dktX12_statement_3 : List UInt8 := dkwX12_statement_3 ++ []
def dkwX12_statement_2 : List UInt8 := [182, 0, 38, 42, 89, 180, 0, 22, 4, 96, 181, 0, 22, 42, 28, 27, 182, 0, 53, 78, 42, 16, 59]
abbrev dktX12_statement_2 : List UInt8 := dkwX12_statement_2 ++ dktX12_statement_3
def dkwX12_statement_1 : List UInt8 := [16, 104, 159, 0, 15, 28, 16, 103, 159, 0, 9, 28, 16, 111, 160, 0, 7, 4, 167, 0, 4, 3]
abbrev dktX12_statement_1 : List UInt8 := dkwX12_statement_1 ++ dktX12_statement_2
def dkwX12_statement_0 : List UInt8 := [42, 180, 0, 22, 60, 42, 182, 0, 34, 61, 42, 28, 16, 100, 159, 0, 27, 28, 16, 115, 159, 0, 21, 28]
abbrev dktX12_statement_0 : List UInt8 := dkwX12_statement_0 ++ dktX12_statement_1
theorem dksX12_statement_0 : cX12_statement.data.toList.drop 0 = dktX12_statement_0 := by decide +kernel
theorem dksX12_statement_1 : cX12_statement.data.toList.drop 24 = dktX12_statement_1 := dk_seg dksX12_statement_0 24 rfl rfl
theorem dksX12_statement_2 : cX12_statement.data.toList.drop 46 = dktX12_statement_2 := dk_seg dksX12_statement_1 22 rfl rfl
theorem dksX12_statement_3 : cX12_statement.data.toList.drop 69 = dktX12_statement_3 := dk_seg dksX12_statement_2 23 rfl rfl
theorem dX12_statement_0 : decode cX12_statement 0 = .ok (.aload_n 0, 1) := dk_42 (dk_at dksX12_statement_0 0 rfl rfl)
theorem dX12_statement_1 : decode cX12_statement 1 = .ok (.getfield 22, 3) := dk_180 0 22 (dk_at dksX12_statement_0 1 rfl rfl)
theorem dX12_statement_4 : decode cX12_statement 4 = .ok (.istore_n 1, 1) := dk_60 (dk_at dksX12_statement_0 4 rfl rfl)
theorem dX12_statement_5 : decode cX12_statement 5 = .ok (.aload_n 0, 1) := dk_42 (dk_at dksX12_statement_0 5 rfl rfl)
theorem dX12_statement_6 : decode cX12_statement 6 = .ok (.invokevirtual 34, 3) := dk_182 0 34 (dk_at dksX12_statement_0 6 rfl rfl)
theorem dX12_statement_9 : decode cX12_statement 9 = .ok (.istore_n 2, 1) := dk_61 (dk_at dksX12_statement_0 9 rfl rfl)
theorem dX12_statement_10 : decode cX12_statement 10 = .ok (.aload_n 0, 1) := dk_42 (dk_at dksX12_statement_0 10 rfl rfl)
theorem dX12_statement_11 : decode cX12_statement 11 = .ok (.iload_n 2, 1) := dk_28 (dk_at dksX12_statement_0 11 rfl rfl)
theorem dX12_statement_12 : decode cX12_statement 12 = .ok (.bipush 100, 2) := dk_16 100 (dk_at dksX12_statement_0 12 rfl rfl)
theorem dX12_statement_14 : decode cX12_statement 14 = .ok (.if_icmp .eq 27, 3) := dk_159 0 27 (dk_at dksX12_statement_0 14 rfl rfl)
theorem dX12_statement_17 : decode cX12_statement 17 = .ok (.iload_n 2, 1) := dk_28 (dk_at dksX12_statement_0 17 rfl rfl)
theorem dX12_statement_18 : decode cX12_statement 18 = .ok (.bipush 115, 2) := dk_16 115 (dk_at dksX12_statement_0 18 rfl rfl)
theorem dX12_statement_20 : decode cX12_statement 20 = .ok (.if_icmp .eq 21, 3) := dk_159 0 21 (dk_at dksX12_statement_0 20 rfl rfl)
theorem dX12_statement_23 : decode cX12_statement 23 = .ok (.iload_n 2, 1) := dk_28 (dk_at dksX12_statement_0 23 rfl rfl)
theorem dX12_statement_24 : decode cX12_statement 24 = .ok (.bipush 104, 2) := dk_16 104 (dk_at dksX12_statement_1 0 rfl rfl)
theorem dX12_statement_26 : decode cX12_statement 26 = .ok (.if_icmp .eq 15, 3) := dk_159 0 15 (dk_at dksX12_statement_1 2 rfl rfl)
theorem dX12_statement_29 : decode cX12_statement 29 = .ok (.iload_n 2, 1) := dk_28 (dk_at dksX12_statement_1 5 rfl rfl)
theorem dX12_statement_30 : decode cX12_statement 30 = .ok (.bipush 103, 2) := dk_16 103 (dk_at dksX12_statement_1 6 rfl rfl)
theorem dX12_statement_32 : decode cX12_statement 32 = .ok (.if_icmp .eq 9, 3) := dk_159 0 9 (dk_at dksX12_statement_1 8 rfl rfl)
theorem dX12_statement_35 : decode cX12_statement 35 = .ok (.iload_n 2, 1) := dk_28 (dk_at dksX12_statement_1 11 rfl rfl)
theorem dX12_statement_36 : decode cX12_statement 36 = .ok (.bipush 111, 2) := dk_16 111 (dk_at dksX12_statement_1 12 rfl rfl)
theorem dX12_statement_38 : decode cX12_statement 38 = .ok (.if_icmp .ne 7, 3) := dk_160 0 7 (dk_at dksX12_statement_1 14 rfl rfl)
theorem dX12_statement_41 : decode cX12_statement 41 = .ok (.iconst 1, 1) := dk_4 (dk_at dksX12_statement_1 17 rfl rfl)
theorem dX12_statement_42 : decode cX12_statement 42 = .ok (.goto 4, 3) := dk_167 0 4 (dk_at dksX12_statement_1 18 rfl rfl)
theorem dX12_statement_45 : decode cX12_statement 45 = .ok (.iconst 0, 1) := dk_3 (dk_at dksX12_statement_1 21 rfl rfl)
theorem dX12_statement_46 : decode cX12_statement 46 = .ok (.invokevirtual 38, 3) := dk_182 0 38 (dk_at dksX12_statement_2 0 rfl rfl)
theorem dX12_statement_49 : decode cX12_statement 49 = .ok (.aload_n 0, 1) := dk_42 (dk_at dksX12_statement_2 3 rfl rfl)
theorem dX12_statement_50 : decode cX12_statement 50 = .ok (.dup, 1) := dk_89 (dk_at dksX12_statement_2 4 rfl rfl)
theorem dX12_statement_51 : decode cX12_statement 51 = .ok (.getfield 22, 3) := dk_180 0 22 (dk_at dksX12_statement_2 5 rfl rfl)
theorem dX12_statement_54 : decode cX12_statement 54 = .ok (.iconst 1, 1) := dk_4 (dk_at dksX12_statement_2 8 rfl rfl)
theorem dX12_statement_55 : decode cX12_statement 55 = .ok (.iadd, 1) := dk_96 (dk_at dksX12_statement_2 9 rfl rfl)
theorem dX12_statement_56 : decode cX12_statement 56 = .ok (.putfield 22, 3) := dk_181 0 22 (dk_at dksX12_statement_2 10 rfl rfl)
theorem dX12_statement_59 : decode cX12_statement 59 = .ok (.aload_n 0, 1) := dk_42 (dk_at dksX12_statement_2 13 rfl rfl)
theorem dX12_statement_60 : decode cX12_statement 60 = .ok (.iload_n 2, 1) := dk_28 (dk_at dksX12_statement_2 14 rfl rfl)
theorem dX12_statement_61 : decode cX12_statement 61 = .ok (.iload_n 1, 1) := dk_27 (dk_at dksX12_statement_2 15 rfl rfl)
theorem dX12_statement_62 : decode cX12_statement 62 = .ok (.invokevirtual 53, 3) := dk_182 0 53 (dk_at dksX12_statement_2 16 rfl rfl)
theorem dX12_statement_65 : decode cX12_statement 65 = .ok (.astore_n 3, 1) := dk_78 (dk_at dksX12_statement_2 19 rfl rfl)
theorem dX12_statement_66 : decode cX12_statement 66 = .ok (.aload_n 0, 1) := dk_42 (dk_at dksX12_statement_2 20 rfl rfl)
theorem dX12_statement_67 : decode cX12_statement 67 = .ok (.bipush 59, 2) := dk_16 59 (dk_at dksX12_statement_2 21 rfl rfl)
theorem dX12_statement_69 : decode cX12_statement 69 = .ok (.invokevirtual 57, 3) := dk_182 0 57 (dk_at dksX12_statement_3 0 rfl rfl)
theorem dX12_statement_72 : decode cX12_statement 72 = .ok (.aload_n 3, 1) := dk_45 (dk_at dksX12_statement_3 3 rfl rfl)
theorem dX12_statement_73 : decode cX12_statement 73 = .ok (.areturn, 1) := dk_176 (dk_at dksX12_statement_3 4 rfl rfl)
abbrev cX12_here : ByteArray := prog_18_method_2_code
def yX12_here : MethodName := ⟨RX12, "here", "()I"⟩
def dkwX12_here_1 : List UInt8 := [167, 0, 4, 2, 172]
abbrev dktX12_here_1 : List UInt8 := dkwX12_here_1 ++ []
def dkwX12_here_0 : List UInt8 := [42, 180, 0, 22, 42, 180, 0, 19, 162, 0, 18, 42, 180, 0, 1, 180, 0, 25, 42, 180, 0, 22, 52]
abbrev dktX12_here_0 : List UInt8 := dkwX12_here_0 ++ dktX12_here_1
theorem dksX12_here_0 : cX12_here.data.toList.drop 0 = dktX12_here_0 := by decide +kernel
theorem dksX12_here_1 : cX12_here.data.toList.drop 23 = dktX12_here_1 := dk_seg dksX12_here_0 23 rfl rfl
theorem dX12_here_0 : decode cX12_here 0 = .ok (.aload_n 0, 1) := dk_42 (dk_at dksX12_here_0 0 rfl rfl)
theorem dX12_here_1 : decode cX12_here 1 = .ok (.getfield 22, 3) := dk_180 0 22 (dk_at dksX12_here_0 1 rfl rfl)
theorem dX12_here_4 : decode cX12_here 4 = .ok (.aload_n 0, 1) := dk_42 (dk_at dksX12_here_0 4 rfl rfl)
theorem dX12_here_5 : decode cX12_here 5 = .ok (.getfield 19, 3) := dk_180 0 19 (dk_at dksX12_here_0 5 rfl rfl)
theorem dX12_here_8 : decode cX12_here 8 = .ok (.if_icmp .ge 18, 3) := dk_162 0 18 (dk_at dksX12_here_0 8 rfl rfl)
theorem dX12_here_11 : decode cX12_here 11 = .ok (.aload_n 0, 1) := dk_42 (dk_at dksX12_here_0 11 rfl rfl)
theorem dX12_here_12 : decode cX12_here 12 = .ok (.getfield 1, 3) := dk_180 0 1 (dk_at dksX12_here_0 12 rfl rfl)
theorem dX12_here_15 : decode cX12_here 15 = .ok (.getfield 25, 3) := dk_180 0 25 (dk_at dksX12_here_0 15 rfl rfl)
theorem dX12_here_18 : decode cX12_here 18 = .ok (.aload_n 0, 1) := dk_42 (dk_at dksX12_here_0 18 rfl rfl)
theorem dX12_here_19 : decode cX12_here 19 = .ok (.getfield 22, 3) := dk_180 0 22 (dk_at dksX12_here_0 19 rfl rfl)
theorem dX12_here_22 : decode cX12_here 22 = .ok (.caload, 1) := dk_52 (dk_at dksX12_here_0 22 rfl rfl)
theorem dX12_here_23 : decode cX12_here 23 = .ok (.goto 4, 3) := dk_167 0 4 (dk_at dksX12_here_1 0 rfl rfl)
theorem dX12_here_26 : decode cX12_here 26 = .ok (.iconst (-1), 1) := dk_2 (dk_at dksX12_here_1 3 rfl rfl)
theorem dX12_here_27 : decode cX12_here 27 = .ok (.ireturn, 1) := dk_172 (dk_at dksX12_here_1 4 rfl rfl)
abbrev cX12_mustStand : ByteArray := prog_18_method_3_code
def yX12_mustStand : MethodName := ⟨RX12, "mustStand", "(Z)V"⟩
def dkwX12_mustStand_0 : List UInt8 := [27, 154, 0, 19, 187, 0, 29, 89, 17, 252, 24, 42, 180, 0, 22, 100, 183, 0, 31, 191, 177]
abbrev dktX12_mustStand_0 : List UInt8 := dkwX12_mustStand_0 ++ []
theorem dksX12_mustStand_0 : cX12_mustStand.data.toList.drop 0 = dktX12_mustStand_0 := by decide +kernel
theorem dX12_mustStand_0 : decode cX12_mustStand 0 = .ok (.iload_n 1, 1) := dk_27 (dk_at dksX12_mustStand_0 0 rfl rfl)
theorem dX12_mustStand_1 : decode cX12_mustStand 1 = .ok (.ifCond .ne 19, 3) := dk_154 0 19 (dk_at dksX12_mustStand_0 1 rfl rfl)
theorem dX12_mustStand_4 : decode cX12_mustStand 4 = .ok (.new 29, 3) := dk_187 0 29 (dk_at dksX12_mustStand_0 4 rfl rfl)
theorem dX12_mustStand_7 : decode cX12_mustStand 7 = .ok (.dup, 1) := dk_89 (dk_at dksX12_mustStand_0 7 rfl rfl)
theorem dX12_mustStand_8 : decode cX12_mustStand 8 = .ok (.sipush (-1000), 3) := dk_17 252 24 (dk_at dksX12_mustStand_0 8 rfl rfl)
theorem dX12_mustStand_11 : decode cX12_mustStand 11 = .ok (.aload_n 0, 1) := dk_42 (dk_at dksX12_mustStand_0 11 rfl rfl)
theorem dX12_mustStand_12 : decode cX12_mustStand 12 = .ok (.getfield 22, 3) := dk_180 0 22 (dk_at dksX12_mustStand_0 12 rfl rfl)
theorem dX12_mustStand_15 : decode cX12_mustStand 15 = .ok (.isub, 1) := dk_100 (dk_at dksX12_mustStand_0 15 rfl rfl)
theorem dX12_mustStand_16 : decode cX12_mustStand 16 = .ok (.invokespecial 31, 3) := dk_183 0 31 (dk_at dksX12_mustStand_0 16 rfl rfl)
theorem dX12_mustStand_19 : decode cX12_mustStand 19 = .ok (.athrow, 1) := dk_191 (dk_at dksX12_mustStand_0 19 rfl rfl)
theorem dX12_mustStand_20 : decode cX12_mustStand 20 = .ok (.return_, 1) := dk_177 (dk_at dksX12_mustStand_0 20 rfl rfl)
abbrev cX12_told : ByteArray := prog_18_method_8_code
def yX12_told : MethodName := ⟨RX12, "told", "(II)LSongThatStays$Told;"⟩
def dkwX12_told_4 : List UInt8 := [21, 4, 183, 0, 77, 167, 0, 14, 187, 0, 80, 89, 28, 29, 21, 4, 183, 0, 82, 176]
abbrev dktX12_told_4 : List UInt8 := dkwX12_told_4 ++ []
def dkwX12_told_3 : List UInt8 := [176, 42, 182, 0, 50, 62, 42, 182, 0, 50, 54, 4, 27, 16, 100, 160, 0, 17, 187, 0, 75, 89, 28, 29]
abbrev dktX12_told_3 : List UInt8 := dkwX12_told_3 ++ dktX12_told_4
def dkwX12_told_2 : List UInt8 := [187, 0, 60, 89, 28, 42, 182, 0, 62, 183, 0, 65, 176, 42, 28, 182, 0, 68, 176, 42, 28, 182, 0, 72]
abbrev dktX12_told_2 : List UInt8 := dkwX12_told_2 ++ dktX12_told_3
def dkwX12_told_1 : List UInt8 := [171, 0, 0, 0, 0, 0, 60, 0, 0, 0, 3, 0, 0, 0, 104, 0, 0, 0, 54, 0, 0, 0, 111, 0, 0, 0, 35, 0, 0, 0, 115, 0, 0, 0, 48]
abbrev dktX12_told_1 : List UInt8 := dkwX12_told_1 ++ dktX12_told_2
def dkwX12_told_0 : List UInt8 := [27]
abbrev dktX12_told_0 : List UInt8 := dkwX12_told_0 ++ dktX12_told_1
theorem dksX12_told_0 : cX12_told.data.toList.drop 0 = dktX12_told_0 := by decide +kernel
theorem dksX12_told_1 : cX12_told.data.toList.drop 1 = dktX12_told_1 := dk_seg dksX12_told_0 1 rfl rfl
theorem dksX12_told_2 : cX12_told.data.toList.drop 36 = dktX12_told_2 := dk_seg dksX12_told_1 35 rfl rfl
theorem dksX12_told_3 : cX12_told.data.toList.drop 60 = dktX12_told_3 := dk_seg dksX12_told_2 24 rfl rfl
theorem dksX12_told_4 : cX12_told.data.toList.drop 84 = dktX12_told_4 := dk_seg dksX12_told_3 24 rfl rfl
theorem dX12_told_0 : decode cX12_told 0 = .ok (.iload_n 1, 1) := dk_27 (dk_at dksX12_told_0 0 rfl rfl)
theorem dX12_told_1 : decode cX12_told 1 = .ok (.lookupswitch 60 #[(104, 54), (111, 35), (115, 48)], 35) := by decide +kernel
theorem dX12_told_36 : decode cX12_told 36 = .ok (.new 60, 3) := dk_187 0 60 (dk_at dksX12_told_2 0 rfl rfl)
theorem dX12_told_39 : decode cX12_told 39 = .ok (.dup, 1) := dk_89 (dk_at dksX12_told_2 3 rfl rfl)
theorem dX12_told_40 : decode cX12_told 40 = .ok (.iload_n 2, 1) := dk_28 (dk_at dksX12_told_2 4 rfl rfl)
theorem dX12_told_41 : decode cX12_told 41 = .ok (.aload_n 0, 1) := dk_42 (dk_at dksX12_told_2 5 rfl rfl)
theorem dX12_told_42 : decode cX12_told 42 = .ok (.invokevirtual 62, 3) := dk_182 0 62 (dk_at dksX12_told_2 6 rfl rfl)
theorem dX12_told_45 : decode cX12_told 45 = .ok (.invokespecial 65, 3) := dk_183 0 65 (dk_at dksX12_told_2 9 rfl rfl)
theorem dX12_told_48 : decode cX12_told 48 = .ok (.areturn, 1) := dk_176 (dk_at dksX12_told_2 12 rfl rfl)
theorem dX12_told_49 : decode cX12_told 49 = .ok (.aload_n 0, 1) := dk_42 (dk_at dksX12_told_2 13 rfl rfl)
theorem dX12_told_50 : decode cX12_told 50 = .ok (.iload_n 2, 1) := dk_28 (dk_at dksX12_told_2 14 rfl rfl)
theorem dX12_told_51 : decode cX12_told 51 = .ok (.invokevirtual 68, 3) := dk_182 0 68 (dk_at dksX12_told_2 15 rfl rfl)
theorem dX12_told_54 : decode cX12_told 54 = .ok (.areturn, 1) := dk_176 (dk_at dksX12_told_2 18 rfl rfl)
theorem dX12_told_55 : decode cX12_told 55 = .ok (.aload_n 0, 1) := dk_42 (dk_at dksX12_told_2 19 rfl rfl)
theorem dX12_told_56 : decode cX12_told 56 = .ok (.iload_n 2, 1) := dk_28 (dk_at dksX12_told_2 20 rfl rfl)
theorem dX12_told_57 : decode cX12_told 57 = .ok (.invokevirtual 72, 3) := dk_182 0 72 (dk_at dksX12_told_2 21 rfl rfl)
theorem dX12_told_60 : decode cX12_told 60 = .ok (.areturn, 1) := dk_176 (dk_at dksX12_told_3 0 rfl rfl)
theorem dX12_told_61 : decode cX12_told 61 = .ok (.aload_n 0, 1) := dk_42 (dk_at dksX12_told_3 1 rfl rfl)
theorem dX12_told_62 : decode cX12_told 62 = .ok (.invokevirtual 50, 3) := dk_182 0 50 (dk_at dksX12_told_3 2 rfl rfl)
theorem dX12_told_65 : decode cX12_told 65 = .ok (.istore_n 3, 1) := dk_62 (dk_at dksX12_told_3 5 rfl rfl)
theorem dX12_told_66 : decode cX12_told 66 = .ok (.aload_n 0, 1) := dk_42 (dk_at dksX12_told_3 6 rfl rfl)
theorem dX12_told_67 : decode cX12_told 67 = .ok (.invokevirtual 50, 3) := dk_182 0 50 (dk_at dksX12_told_3 7 rfl rfl)
theorem dX12_told_70 : decode cX12_told 70 = .ok (.istore 4, 2) := dk_54 4 (dk_at dksX12_told_3 10 rfl rfl)
theorem dX12_told_72 : decode cX12_told 72 = .ok (.iload_n 1, 1) := dk_27 (dk_at dksX12_told_3 12 rfl rfl)
theorem dX12_told_73 : decode cX12_told 73 = .ok (.bipush 100, 2) := dk_16 100 (dk_at dksX12_told_3 13 rfl rfl)
theorem dX12_told_75 : decode cX12_told 75 = .ok (.if_icmp .ne 17, 3) := dk_160 0 17 (dk_at dksX12_told_3 15 rfl rfl)
theorem dX12_told_78 : decode cX12_told 78 = .ok (.new 75, 3) := dk_187 0 75 (dk_at dksX12_told_3 18 rfl rfl)
theorem dX12_told_81 : decode cX12_told 81 = .ok (.dup, 1) := dk_89 (dk_at dksX12_told_3 21 rfl rfl)
theorem dX12_told_82 : decode cX12_told 82 = .ok (.iload_n 2, 1) := dk_28 (dk_at dksX12_told_3 22 rfl rfl)
theorem dX12_told_83 : decode cX12_told 83 = .ok (.iload_n 3, 1) := dk_29 (dk_at dksX12_told_3 23 rfl rfl)
theorem dX12_told_84 : decode cX12_told 84 = .ok (.iload 4, 2) := dk_21 4 (dk_at dksX12_told_4 0 rfl rfl)
theorem dX12_told_86 : decode cX12_told 86 = .ok (.invokespecial 77, 3) := dk_183 0 77 (dk_at dksX12_told_4 2 rfl rfl)
theorem dX12_told_89 : decode cX12_told 89 = .ok (.goto 14, 3) := dk_167 0 14 (dk_at dksX12_told_4 5 rfl rfl)
theorem dX12_told_92 : decode cX12_told 92 = .ok (.new 80, 3) := dk_187 0 80 (dk_at dksX12_told_4 8 rfl rfl)
theorem dX12_told_95 : decode cX12_told 95 = .ok (.dup, 1) := dk_89 (dk_at dksX12_told_4 11 rfl rfl)
theorem dX12_told_96 : decode cX12_told 96 = .ok (.iload_n 2, 1) := dk_28 (dk_at dksX12_told_4 12 rfl rfl)
theorem dX12_told_97 : decode cX12_told 97 = .ok (.iload_n 3, 1) := dk_29 (dk_at dksX12_told_4 13 rfl rfl)
theorem dX12_told_98 : decode cX12_told 98 = .ok (.iload 4, 2) := dk_21 4 (dk_at dksX12_told_4 14 rfl rfl)
theorem dX12_told_100 : decode cX12_told 100 = .ok (.invokespecial 82, 3) := dk_183 0 82 (dk_at dksX12_told_4 16 rfl rfl)
theorem dX12_told_103 : decode cX12_told 103 = .ok (.areturn, 1) := dk_176 (dk_at dksX12_told_4 19 rfl rfl)
abbrev cX12_number : ByteArray := prog_18_method_6_code
def yX12_number : MethodName := ⟨RX12, "number", "()I"⟩
def dkwX12_number_1 : List UInt8 := [27, 104, 42, 182, 0, 50, 96, 167, 0, 4, 27, 172]
abbrev dktX12_number_1 : List UInt8 := dkwX12_number_1 ++ []
def dkwX12_number_0 : List UInt8 := [42, 182, 0, 50, 60, 42, 182, 0, 34, 133, 20, 0, 42, 20, 0, 44, 184, 0, 46, 153, 0, 15, 16, 10]
abbrev dktX12_number_0 : List UInt8 := dkwX12_number_0 ++ dktX12_number_1
theorem dksX12_number_0 : cX12_number.data.toList.drop 0 = dktX12_number_0 := by decide +kernel
theorem dksX12_number_1 : cX12_number.data.toList.drop 24 = dktX12_number_1 := dk_seg dksX12_number_0 24 rfl rfl
theorem dX12_number_0 : decode cX12_number 0 = .ok (.aload_n 0, 1) := dk_42 (dk_at dksX12_number_0 0 rfl rfl)
theorem dX12_number_1 : decode cX12_number 1 = .ok (.invokevirtual 50, 3) := dk_182 0 50 (dk_at dksX12_number_0 1 rfl rfl)
theorem dX12_number_4 : decode cX12_number 4 = .ok (.istore_n 1, 1) := dk_60 (dk_at dksX12_number_0 4 rfl rfl)
theorem dX12_number_5 : decode cX12_number 5 = .ok (.aload_n 0, 1) := dk_42 (dk_at dksX12_number_0 5 rfl rfl)
theorem dX12_number_6 : decode cX12_number 6 = .ok (.invokevirtual 34, 3) := dk_182 0 34 (dk_at dksX12_number_0 6 rfl rfl)
theorem dX12_number_9 : decode cX12_number 9 = .ok (.i2l, 1) := dk_133 (dk_at dksX12_number_0 9 rfl rfl)
theorem dX12_number_10 : decode cX12_number 10 = .ok (.ldc2_w 42, 3) := dk_20 0 42 (dk_at dksX12_number_0 10 rfl rfl)
theorem dX12_number_13 : decode cX12_number 13 = .ok (.ldc2_w 44, 3) := dk_20 0 44 (dk_at dksX12_number_0 13 rfl rfl)
theorem dX12_number_16 : decode cX12_number 16 = .ok (.invokestatic 46, 3) := dk_184 0 46 (dk_at dksX12_number_0 16 rfl rfl)
theorem dX12_number_19 : decode cX12_number 19 = .ok (.ifCond .eq 15, 3) := dk_153 0 15 (dk_at dksX12_number_0 19 rfl rfl)
theorem dX12_number_22 : decode cX12_number 22 = .ok (.bipush 10, 2) := dk_16 10 (dk_at dksX12_number_0 22 rfl rfl)
theorem dX12_number_24 : decode cX12_number 24 = .ok (.iload_n 1, 1) := dk_27 (dk_at dksX12_number_1 0 rfl rfl)
theorem dX12_number_25 : decode cX12_number 25 = .ok (.imul, 1) := dk_104 (dk_at dksX12_number_1 1 rfl rfl)
theorem dX12_number_26 : decode cX12_number 26 = .ok (.aload_n 0, 1) := dk_42 (dk_at dksX12_number_1 2 rfl rfl)
theorem dX12_number_27 : decode cX12_number 27 = .ok (.invokevirtual 50, 3) := dk_182 0 50 (dk_at dksX12_number_1 3 rfl rfl)
theorem dX12_number_30 : decode cX12_number 30 = .ok (.iadd, 1) := dk_96 (dk_at dksX12_number_1 6 rfl rfl)
theorem dX12_number_31 : decode cX12_number 31 = .ok (.goto 4, 3) := dk_167 0 4 (dk_at dksX12_number_1 7 rfl rfl)
theorem dX12_number_34 : decode cX12_number 34 = .ok (.iload_n 1, 1) := dk_27 (dk_at dksX12_number_1 10 rfl rfl)
theorem dX12_number_35 : decode cX12_number 35 = .ok (.ireturn, 1) := dk_172 (dk_at dksX12_number_1 11 rfl rfl)
abbrev cX12_digit : ByteArray := prog_18_method_5_code
def yX12_digit : MethodName := ⟨RX12, "digit", "()I"⟩
def dkwX12_digit_1 : List UInt8 := [96, 181, 0, 22, 42, 180, 0, 1, 180, 0, 25, 42, 180, 0, 22, 4, 100, 52, 16, 48, 100, 172]
abbrev dktX12_digit_1 : List UInt8 := dkwX12_digit_1 ++ []
def dkwX12_digit_0 : List UInt8 := [42, 42, 182, 0, 34, 133, 20, 0, 42, 20, 0, 44, 184, 0, 46, 182, 0, 38, 42, 89, 180, 0, 22, 4]
abbrev dktX12_digit_0 : List UInt8 := dkwX12_digit_0 ++ dktX12_digit_1
theorem dksX12_digit_0 : cX12_digit.data.toList.drop 0 = dktX12_digit_0 := by decide +kernel
theorem dksX12_digit_1 : cX12_digit.data.toList.drop 24 = dktX12_digit_1 := dk_seg dksX12_digit_0 24 rfl rfl
theorem dX12_digit_0 : decode cX12_digit 0 = .ok (.aload_n 0, 1) := dk_42 (dk_at dksX12_digit_0 0 rfl rfl)
theorem dX12_digit_1 : decode cX12_digit 1 = .ok (.aload_n 0, 1) := dk_42 (dk_at dksX12_digit_0 1 rfl rfl)
theorem dX12_digit_2 : decode cX12_digit 2 = .ok (.invokevirtual 34, 3) := dk_182 0 34 (dk_at dksX12_digit_0 2 rfl rfl)
theorem dX12_digit_5 : decode cX12_digit 5 = .ok (.i2l, 1) := dk_133 (dk_at dksX12_digit_0 5 rfl rfl)
theorem dX12_digit_6 : decode cX12_digit 6 = .ok (.ldc2_w 42, 3) := dk_20 0 42 (dk_at dksX12_digit_0 6 rfl rfl)
theorem dX12_digit_9 : decode cX12_digit 9 = .ok (.ldc2_w 44, 3) := dk_20 0 44 (dk_at dksX12_digit_0 9 rfl rfl)
theorem dX12_digit_12 : decode cX12_digit 12 = .ok (.invokestatic 46, 3) := dk_184 0 46 (dk_at dksX12_digit_0 12 rfl rfl)
theorem dX12_digit_15 : decode cX12_digit 15 = .ok (.invokevirtual 38, 3) := dk_182 0 38 (dk_at dksX12_digit_0 15 rfl rfl)
theorem dX12_digit_18 : decode cX12_digit 18 = .ok (.aload_n 0, 1) := dk_42 (dk_at dksX12_digit_0 18 rfl rfl)
theorem dX12_digit_19 : decode cX12_digit 19 = .ok (.dup, 1) := dk_89 (dk_at dksX12_digit_0 19 rfl rfl)
theorem dX12_digit_20 : decode cX12_digit 20 = .ok (.getfield 22, 3) := dk_180 0 22 (dk_at dksX12_digit_0 20 rfl rfl)
theorem dX12_digit_23 : decode cX12_digit 23 = .ok (.iconst 1, 1) := dk_4 (dk_at dksX12_digit_0 23 rfl rfl)
theorem dX12_digit_24 : decode cX12_digit 24 = .ok (.iadd, 1) := dk_96 (dk_at dksX12_digit_1 0 rfl rfl)
theorem dX12_digit_25 : decode cX12_digit 25 = .ok (.putfield 22, 3) := dk_181 0 22 (dk_at dksX12_digit_1 1 rfl rfl)
theorem dX12_digit_28 : decode cX12_digit 28 = .ok (.aload_n 0, 1) := dk_42 (dk_at dksX12_digit_1 4 rfl rfl)
theorem dX12_digit_29 : decode cX12_digit 29 = .ok (.getfield 1, 3) := dk_180 0 1 (dk_at dksX12_digit_1 5 rfl rfl)
theorem dX12_digit_32 : decode cX12_digit 32 = .ok (.getfield 25, 3) := dk_180 0 25 (dk_at dksX12_digit_1 8 rfl rfl)
theorem dX12_digit_35 : decode cX12_digit 35 = .ok (.aload_n 0, 1) := dk_42 (dk_at dksX12_digit_1 11 rfl rfl)
theorem dX12_digit_36 : decode cX12_digit 36 = .ok (.getfield 22, 3) := dk_180 0 22 (dk_at dksX12_digit_1 12 rfl rfl)
theorem dX12_digit_39 : decode cX12_digit 39 = .ok (.iconst 1, 1) := dk_4 (dk_at dksX12_digit_1 15 rfl rfl)
theorem dX12_digit_40 : decode cX12_digit 40 = .ok (.isub, 1) := dk_100 (dk_at dksX12_digit_1 16 rfl rfl)
theorem dX12_digit_41 : decode cX12_digit 41 = .ok (.caload, 1) := dk_52 (dk_at dksX12_digit_1 17 rfl rfl)
theorem dX12_digit_42 : decode cX12_digit 42 = .ok (.bipush 48, 2) := dk_16 48 (dk_at dksX12_digit_1 18 rfl rfl)
theorem dX12_digit_44 : decode cX12_digit 44 = .ok (.isub, 1) := dk_100 (dk_at dksX12_digit_1 20 rfl rfl)
theorem dX12_digit_45 : decode cX12_digit 45 = .ok (.ireturn, 1) := dk_172 (dk_at dksX12_digit_1 21 rfl rfl)
abbrev cX12_song : ByteArray := prog_18_method_9_code
def yX12_song : MethodName := ⟨RX12, "song", "(I)LSongThatStays$Told;"⟩
def dkwX12_song_2 : List UInt8 := [183, 0, 89, 176]
abbrev dktX12_song_2 : List UInt8 := dkwX12_song_2 ++ []
def dkwX12_song_1 : List UInt8 := [180, 0, 22, 4, 96, 181, 0, 22, 42, 182, 0, 50, 62, 187, 0, 87, 89, 27, 28, 29, 42, 182, 0, 50]
abbrev dktX12_song_1 : List UInt8 := dkwX12_song_1 ++ dktX12_song_2
def dkwX12_song_0 : List UInt8 := [42, 42, 182, 0, 34, 182, 0, 83, 61, 42, 28, 155, 0, 7, 4, 167, 0, 4, 3, 182, 0, 38, 42, 89]
abbrev dktX12_song_0 : List UInt8 := dkwX12_song_0 ++ dktX12_song_1
theorem dksX12_song_0 : cX12_song.data.toList.drop 0 = dktX12_song_0 := by decide +kernel
theorem dksX12_song_1 : cX12_song.data.toList.drop 24 = dktX12_song_1 := dk_seg dksX12_song_0 24 rfl rfl
theorem dksX12_song_2 : cX12_song.data.toList.drop 48 = dktX12_song_2 := dk_seg dksX12_song_1 24 rfl rfl
theorem dX12_song_0 : decode cX12_song 0 = .ok (.aload_n 0, 1) := dk_42 (dk_at dksX12_song_0 0 rfl rfl)
theorem dX12_song_1 : decode cX12_song 1 = .ok (.aload_n 0, 1) := dk_42 (dk_at dksX12_song_0 1 rfl rfl)
theorem dX12_song_2 : decode cX12_song 2 = .ok (.invokevirtual 34, 3) := dk_182 0 34 (dk_at dksX12_song_0 2 rfl rfl)
theorem dX12_song_5 : decode cX12_song 5 = .ok (.invokevirtual 83, 3) := dk_182 0 83 (dk_at dksX12_song_0 5 rfl rfl)
theorem dX12_song_8 : decode cX12_song 8 = .ok (.istore_n 2, 1) := dk_61 (dk_at dksX12_song_0 8 rfl rfl)
theorem dX12_song_9 : decode cX12_song 9 = .ok (.aload_n 0, 1) := dk_42 (dk_at dksX12_song_0 9 rfl rfl)
theorem dX12_song_10 : decode cX12_song 10 = .ok (.iload_n 2, 1) := dk_28 (dk_at dksX12_song_0 10 rfl rfl)
theorem dX12_song_11 : decode cX12_song 11 = .ok (.ifCond .lt 7, 3) := dk_155 0 7 (dk_at dksX12_song_0 11 rfl rfl)
theorem dX12_song_14 : decode cX12_song 14 = .ok (.iconst 1, 1) := dk_4 (dk_at dksX12_song_0 14 rfl rfl)
theorem dX12_song_15 : decode cX12_song 15 = .ok (.goto 4, 3) := dk_167 0 4 (dk_at dksX12_song_0 15 rfl rfl)
theorem dX12_song_18 : decode cX12_song 18 = .ok (.iconst 0, 1) := dk_3 (dk_at dksX12_song_0 18 rfl rfl)
theorem dX12_song_19 : decode cX12_song 19 = .ok (.invokevirtual 38, 3) := dk_182 0 38 (dk_at dksX12_song_0 19 rfl rfl)
theorem dX12_song_22 : decode cX12_song 22 = .ok (.aload_n 0, 1) := dk_42 (dk_at dksX12_song_0 22 rfl rfl)
theorem dX12_song_23 : decode cX12_song 23 = .ok (.dup, 1) := dk_89 (dk_at dksX12_song_0 23 rfl rfl)
theorem dX12_song_24 : decode cX12_song 24 = .ok (.getfield 22, 3) := dk_180 0 22 (dk_at dksX12_song_1 0 rfl rfl)
theorem dX12_song_27 : decode cX12_song 27 = .ok (.iconst 1, 1) := dk_4 (dk_at dksX12_song_1 3 rfl rfl)
theorem dX12_song_28 : decode cX12_song 28 = .ok (.iadd, 1) := dk_96 (dk_at dksX12_song_1 4 rfl rfl)
theorem dX12_song_29 : decode cX12_song 29 = .ok (.putfield 22, 3) := dk_181 0 22 (dk_at dksX12_song_1 5 rfl rfl)
theorem dX12_song_32 : decode cX12_song 32 = .ok (.aload_n 0, 1) := dk_42 (dk_at dksX12_song_1 8 rfl rfl)
theorem dX12_song_33 : decode cX12_song 33 = .ok (.invokevirtual 50, 3) := dk_182 0 50 (dk_at dksX12_song_1 9 rfl rfl)
theorem dX12_song_36 : decode cX12_song 36 = .ok (.istore_n 3, 1) := dk_62 (dk_at dksX12_song_1 12 rfl rfl)
theorem dX12_song_37 : decode cX12_song 37 = .ok (.new 87, 3) := dk_187 0 87 (dk_at dksX12_song_1 13 rfl rfl)
theorem dX12_song_40 : decode cX12_song 40 = .ok (.dup, 1) := dk_89 (dk_at dksX12_song_1 16 rfl rfl)
theorem dX12_song_41 : decode cX12_song 41 = .ok (.iload_n 1, 1) := dk_27 (dk_at dksX12_song_1 17 rfl rfl)
theorem dX12_song_42 : decode cX12_song 42 = .ok (.iload_n 2, 1) := dk_28 (dk_at dksX12_song_1 18 rfl rfl)
theorem dX12_song_43 : decode cX12_song 43 = .ok (.iload_n 3, 1) := dk_29 (dk_at dksX12_song_1 19 rfl rfl)
theorem dX12_song_44 : decode cX12_song 44 = .ok (.aload_n 0, 1) := dk_42 (dk_at dksX12_song_1 20 rfl rfl)
theorem dX12_song_45 : decode cX12_song 45 = .ok (.invokevirtual 50, 3) := dk_182 0 50 (dk_at dksX12_song_1 21 rfl rfl)
theorem dX12_song_48 : decode cX12_song 48 = .ok (.invokespecial 89, 3) := dk_183 0 89 (dk_at dksX12_song_2 0 rfl rfl)
theorem dX12_song_51 : decode cX12_song 51 = .ok (.areturn, 1) := dk_176 (dk_at dksX12_song_2 3 rfl rfl)
abbrev cX12_songKindOf : ByteArray := prog_18_method_12_code
def yX12_songKindOf : MethodName := ⟨RX12, "songKindOf", "(I)I"⟩
def dkwX12_songKindOf_2 : List UInt8 := [3, 172, 4, 172, 5, 172, 6, 172, 7, 172, 8, 172, 2, 172]
abbrev dktX12_songKindOf_2 : List UInt8 := dkwX12_songKindOf_2 ++ []
def dkwX12_songKindOf_1 : List UInt8 := [170, 0, 0, 0, 0, 0, 95, 0, 0, 0, 99, 0, 0, 0, 115, 0, 0, 0, 89, 0, 0, 0, 95, 0, 0, 0, 95, 0, 0, 0, 95, 0, 0, 0, 95, 0, 0, 0, 93, 0, 0, 0, 95, 0, 0, 0, 91, 0, 0, 0, 95, 0, 0, 0, 85, 0, 0, 0, 95, 0, 0, 0, 95, 0, 0, 0, 95, 0, 0, 0, 95, 0, 0, 0, 87, 0, 0, 0, 95, 0, 0, 0, 83]
abbrev dktX12_songKindOf_1 : List UInt8 := dkwX12_songKindOf_1 ++ dktX12_songKindOf_2
def dkwX12_songKindOf_0 : List UInt8 := [27]
abbrev dktX12_songKindOf_0 : List UInt8 := dkwX12_songKindOf_0 ++ dktX12_songKindOf_1
theorem dksX12_songKindOf_0 : cX12_songKindOf.data.toList.drop 0 = dktX12_songKindOf_0 := by decide +kernel
theorem dksX12_songKindOf_1 : cX12_songKindOf.data.toList.drop 1 = dktX12_songKindOf_1 := dk_seg dksX12_songKindOf_0 1 rfl rfl
theorem dksX12_songKindOf_2 : cX12_songKindOf.data.toList.drop 84 = dktX12_songKindOf_2 := dk_seg dksX12_songKindOf_1 83 rfl rfl
theorem dX12_songKindOf_0 : decode cX12_songKindOf 0 = .ok (.iload_n 1, 1) := dk_27 (dk_at dksX12_songKindOf_0 0 rfl rfl)
theorem dX12_songKindOf_1 : decode cX12_songKindOf 1 = .ok (.tableswitch 95 99 115 #[89, 95, 95, 95, 95, 93, 95, 91, 95, 85, 95, 95, 95, 95, 87, 95, 83], 83) := by decide +kernel
theorem dX12_songKindOf_84 : decode cX12_songKindOf 84 = .ok (.iconst 0, 1) := dk_3 (dk_at dksX12_songKindOf_2 0 rfl rfl)
theorem dX12_songKindOf_85 : decode cX12_songKindOf 85 = .ok (.ireturn, 1) := dk_172 (dk_at dksX12_songKindOf_2 1 rfl rfl)
theorem dX12_songKindOf_86 : decode cX12_songKindOf 86 = .ok (.iconst 1, 1) := dk_4 (dk_at dksX12_songKindOf_2 2 rfl rfl)
theorem dX12_songKindOf_87 : decode cX12_songKindOf 87 = .ok (.ireturn, 1) := dk_172 (dk_at dksX12_songKindOf_2 3 rfl rfl)
theorem dX12_songKindOf_88 : decode cX12_songKindOf 88 = .ok (.iconst 2, 1) := dk_5 (dk_at dksX12_songKindOf_2 4 rfl rfl)
theorem dX12_songKindOf_89 : decode cX12_songKindOf 89 = .ok (.ireturn, 1) := dk_172 (dk_at dksX12_songKindOf_2 5 rfl rfl)
theorem dX12_songKindOf_90 : decode cX12_songKindOf 90 = .ok (.iconst 3, 1) := dk_6 (dk_at dksX12_songKindOf_2 6 rfl rfl)
theorem dX12_songKindOf_91 : decode cX12_songKindOf 91 = .ok (.ireturn, 1) := dk_172 (dk_at dksX12_songKindOf_2 7 rfl rfl)
theorem dX12_songKindOf_92 : decode cX12_songKindOf 92 = .ok (.iconst 4, 1) := dk_7 (dk_at dksX12_songKindOf_2 8 rfl rfl)
theorem dX12_songKindOf_93 : decode cX12_songKindOf 93 = .ok (.ireturn, 1) := dk_172 (dk_at dksX12_songKindOf_2 9 rfl rfl)
theorem dX12_songKindOf_94 : decode cX12_songKindOf 94 = .ok (.iconst 5, 1) := dk_8 (dk_at dksX12_songKindOf_2 10 rfl rfl)
theorem dX12_songKindOf_95 : decode cX12_songKindOf 95 = .ok (.ireturn, 1) := dk_172 (dk_at dksX12_songKindOf_2 11 rfl rfl)
theorem dX12_songKindOf_96 : decode cX12_songKindOf 96 = .ok (.iconst (-1), 1) := dk_2 (dk_at dksX12_songKindOf_2 12 rfl rfl)
theorem dX12_songKindOf_97 : decode cX12_songKindOf 97 = .ok (.ireturn, 1) := dk_172 (dk_at dksX12_songKindOf_2 13 rfl rfl)
abbrev cX12_head : ByteArray := prog_18_method_10_code
def yX12_head : MethodName := ⟨RX12, "head", "(I)LSongThatStays$Told;"⟩
def dkwX12_head_2 : List UInt8 := [180, 0, 97, 28, 50, 29, 42, 182, 0, 50, 183, 0, 101, 176]
abbrev dktX12_head_2 : List UInt8 := dkwX12_head_2 ++ []
def dkwX12_head_1 : List UInt8 := [180, 0, 22, 4, 96, 181, 0, 22, 42, 182, 0, 50, 62, 187, 0, 95, 89, 27, 42, 180, 0, 1]
abbrev dktX12_head_1 : List UInt8 := dkwX12_head_1 ++ dktX12_head_2
def dkwX12_head_0 : List UInt8 := [42, 42, 182, 0, 34, 182, 0, 92, 61, 42, 28, 155, 0, 7, 4, 167, 0, 4, 3, 182, 0, 38, 42, 89]
abbrev dktX12_head_0 : List UInt8 := dkwX12_head_0 ++ dktX12_head_1
theorem dksX12_head_0 : cX12_head.data.toList.drop 0 = dktX12_head_0 := by decide +kernel
theorem dksX12_head_1 : cX12_head.data.toList.drop 24 = dktX12_head_1 := dk_seg dksX12_head_0 24 rfl rfl
theorem dksX12_head_2 : cX12_head.data.toList.drop 46 = dktX12_head_2 := dk_seg dksX12_head_1 22 rfl rfl
theorem dX12_head_0 : decode cX12_head 0 = .ok (.aload_n 0, 1) := dk_42 (dk_at dksX12_head_0 0 rfl rfl)
theorem dX12_head_1 : decode cX12_head 1 = .ok (.aload_n 0, 1) := dk_42 (dk_at dksX12_head_0 1 rfl rfl)
theorem dX12_head_2 : decode cX12_head 2 = .ok (.invokevirtual 34, 3) := dk_182 0 34 (dk_at dksX12_head_0 2 rfl rfl)
theorem dX12_head_5 : decode cX12_head 5 = .ok (.invokevirtual 92, 3) := dk_182 0 92 (dk_at dksX12_head_0 5 rfl rfl)
theorem dX12_head_8 : decode cX12_head 8 = .ok (.istore_n 2, 1) := dk_61 (dk_at dksX12_head_0 8 rfl rfl)
theorem dX12_head_9 : decode cX12_head 9 = .ok (.aload_n 0, 1) := dk_42 (dk_at dksX12_head_0 9 rfl rfl)
theorem dX12_head_10 : decode cX12_head 10 = .ok (.iload_n 2, 1) := dk_28 (dk_at dksX12_head_0 10 rfl rfl)
theorem dX12_head_11 : decode cX12_head 11 = .ok (.ifCond .lt 7, 3) := dk_155 0 7 (dk_at dksX12_head_0 11 rfl rfl)
theorem dX12_head_14 : decode cX12_head 14 = .ok (.iconst 1, 1) := dk_4 (dk_at dksX12_head_0 14 rfl rfl)
theorem dX12_head_15 : decode cX12_head 15 = .ok (.goto 4, 3) := dk_167 0 4 (dk_at dksX12_head_0 15 rfl rfl)
theorem dX12_head_18 : decode cX12_head 18 = .ok (.iconst 0, 1) := dk_3 (dk_at dksX12_head_0 18 rfl rfl)
theorem dX12_head_19 : decode cX12_head 19 = .ok (.invokevirtual 38, 3) := dk_182 0 38 (dk_at dksX12_head_0 19 rfl rfl)
theorem dX12_head_22 : decode cX12_head 22 = .ok (.aload_n 0, 1) := dk_42 (dk_at dksX12_head_0 22 rfl rfl)
theorem dX12_head_23 : decode cX12_head 23 = .ok (.dup, 1) := dk_89 (dk_at dksX12_head_0 23 rfl rfl)
theorem dX12_head_24 : decode cX12_head 24 = .ok (.getfield 22, 3) := dk_180 0 22 (dk_at dksX12_head_1 0 rfl rfl)
theorem dX12_head_27 : decode cX12_head 27 = .ok (.iconst 1, 1) := dk_4 (dk_at dksX12_head_1 3 rfl rfl)
theorem dX12_head_28 : decode cX12_head 28 = .ok (.iadd, 1) := dk_96 (dk_at dksX12_head_1 4 rfl rfl)
theorem dX12_head_29 : decode cX12_head 29 = .ok (.putfield 22, 3) := dk_181 0 22 (dk_at dksX12_head_1 5 rfl rfl)
theorem dX12_head_32 : decode cX12_head 32 = .ok (.aload_n 0, 1) := dk_42 (dk_at dksX12_head_1 8 rfl rfl)
theorem dX12_head_33 : decode cX12_head 33 = .ok (.invokevirtual 50, 3) := dk_182 0 50 (dk_at dksX12_head_1 9 rfl rfl)
theorem dX12_head_36 : decode cX12_head 36 = .ok (.istore_n 3, 1) := dk_62 (dk_at dksX12_head_1 12 rfl rfl)
theorem dX12_head_37 : decode cX12_head 37 = .ok (.new 95, 3) := dk_187 0 95 (dk_at dksX12_head_1 13 rfl rfl)
theorem dX12_head_40 : decode cX12_head 40 = .ok (.dup, 1) := dk_89 (dk_at dksX12_head_1 16 rfl rfl)
theorem dX12_head_41 : decode cX12_head 41 = .ok (.iload_n 1, 1) := dk_27 (dk_at dksX12_head_1 17 rfl rfl)
theorem dX12_head_42 : decode cX12_head 42 = .ok (.aload_n 0, 1) := dk_42 (dk_at dksX12_head_1 18 rfl rfl)
theorem dX12_head_43 : decode cX12_head 43 = .ok (.getfield 1, 3) := dk_180 0 1 (dk_at dksX12_head_1 19 rfl rfl)
theorem dX12_head_46 : decode cX12_head 46 = .ok (.getfield 97, 3) := dk_180 0 97 (dk_at dksX12_head_2 0 rfl rfl)
theorem dX12_head_49 : decode cX12_head 49 = .ok (.iload_n 2, 1) := dk_28 (dk_at dksX12_head_2 3 rfl rfl)
theorem dX12_head_50 : decode cX12_head 50 = .ok (.aaload, 1) := dk_50 (dk_at dksX12_head_2 4 rfl rfl)
theorem dX12_head_51 : decode cX12_head 51 = .ok (.iload_n 3, 1) := dk_29 (dk_at dksX12_head_2 5 rfl rfl)
theorem dX12_head_52 : decode cX12_head 52 = .ok (.aload_n 0, 1) := dk_42 (dk_at dksX12_head_2 6 rfl rfl)
theorem dX12_head_53 : decode cX12_head 53 = .ok (.invokevirtual 50, 3) := dk_182 0 50 (dk_at dksX12_head_2 7 rfl rfl)
theorem dX12_head_56 : decode cX12_head 56 = .ok (.invokespecial 101, 3) := dk_183 0 101 (dk_at dksX12_head_2 10 rfl rfl)
theorem dX12_head_59 : decode cX12_head 59 = .ok (.areturn, 1) := dk_176 (dk_at dksX12_head_2 13 rfl rfl)
abbrev cX12_kindOf : ByteArray := prog_18_method_11_code
def yX12_kindOf : MethodName := ⟨RX12, "kindOf", "(I)I"⟩
def dkwX12_kindOf_2 : List UInt8 := [3, 172, 4, 172, 5, 172, 6, 172, 7, 172, 8, 172, 2, 172]
abbrev dktX12_kindOf_2 : List UInt8 := dkwX12_kindOf_2 ++ []
def dkwX12_kindOf_1 : List UInt8 := [171, 0, 0, 0, 0, 0, 71, 0, 0, 0, 6, 0, 0, 0, 98, 0, 0, 0, 67, 0, 0, 0, 100, 0, 0, 0, 63, 0, 0, 0, 104, 0, 0, 0, 59, 0, 0, 0, 116, 0, 0, 0, 65, 0, 0, 0, 119, 0, 0, 0, 61, 0, 0, 0, 121, 0, 0, 0, 69]
abbrev dktX12_kindOf_1 : List UInt8 := dkwX12_kindOf_1 ++ dktX12_kindOf_2
def dkwX12_kindOf_0 : List UInt8 := [27]
abbrev dktX12_kindOf_0 : List UInt8 := dkwX12_kindOf_0 ++ dktX12_kindOf_1
theorem dksX12_kindOf_0 : cX12_kindOf.data.toList.drop 0 = dktX12_kindOf_0 := by decide +kernel
theorem dksX12_kindOf_1 : cX12_kindOf.data.toList.drop 1 = dktX12_kindOf_1 := dk_seg dksX12_kindOf_0 1 rfl rfl
theorem dksX12_kindOf_2 : cX12_kindOf.data.toList.drop 60 = dktX12_kindOf_2 := dk_seg dksX12_kindOf_1 59 rfl rfl
theorem dX12_kindOf_0 : decode cX12_kindOf 0 = .ok (.iload_n 1, 1) := dk_27 (dk_at dksX12_kindOf_0 0 rfl rfl)
theorem dX12_kindOf_1 : decode cX12_kindOf 1 = .ok (.lookupswitch 71 #[(98, 67), (100, 63), (104, 59), (116, 65), (119, 61), (121, 69)], 59) := by decide +kernel
theorem dX12_kindOf_60 : decode cX12_kindOf 60 = .ok (.iconst 0, 1) := dk_3 (dk_at dksX12_kindOf_2 0 rfl rfl)
theorem dX12_kindOf_61 : decode cX12_kindOf 61 = .ok (.ireturn, 1) := dk_172 (dk_at dksX12_kindOf_2 1 rfl rfl)
theorem dX12_kindOf_62 : decode cX12_kindOf 62 = .ok (.iconst 1, 1) := dk_4 (dk_at dksX12_kindOf_2 2 rfl rfl)
theorem dX12_kindOf_63 : decode cX12_kindOf 63 = .ok (.ireturn, 1) := dk_172 (dk_at dksX12_kindOf_2 3 rfl rfl)
theorem dX12_kindOf_64 : decode cX12_kindOf 64 = .ok (.iconst 2, 1) := dk_5 (dk_at dksX12_kindOf_2 4 rfl rfl)
theorem dX12_kindOf_65 : decode cX12_kindOf 65 = .ok (.ireturn, 1) := dk_172 (dk_at dksX12_kindOf_2 5 rfl rfl)
theorem dX12_kindOf_66 : decode cX12_kindOf 66 = .ok (.iconst 3, 1) := dk_6 (dk_at dksX12_kindOf_2 6 rfl rfl)
theorem dX12_kindOf_67 : decode cX12_kindOf 67 = .ok (.ireturn, 1) := dk_172 (dk_at dksX12_kindOf_2 7 rfl rfl)
theorem dX12_kindOf_68 : decode cX12_kindOf 68 = .ok (.iconst 4, 1) := dk_7 (dk_at dksX12_kindOf_2 8 rfl rfl)
theorem dX12_kindOf_69 : decode cX12_kindOf 69 = .ok (.ireturn, 1) := dk_172 (dk_at dksX12_kindOf_2 9 rfl rfl)
theorem dX12_kindOf_70 : decode cX12_kindOf 70 = .ok (.iconst 5, 1) := dk_8 (dk_at dksX12_kindOf_2 10 rfl rfl)
theorem dX12_kindOf_71 : decode cX12_kindOf 71 = .ok (.ireturn, 1) := dk_172 (dk_at dksX12_kindOf_2 11 rfl rfl)
theorem dX12_kindOf_72 : decode cX12_kindOf 72 = .ok (.iconst (-1), 1) := dk_2 (dk_at dksX12_kindOf_2 12 rfl rfl)
theorem dX12_kindOf_73 : decode cX12_kindOf 73 = .ok (.ireturn, 1) := dk_172 (dk_at dksX12_kindOf_2 13 rfl rfl)
abbrev cX12_take : ByteArray := prog_18_method_4_code
def yX12_take : MethodName := ⟨RX12, "take", "(I)V"⟩
def dkwX12_take_1 : List UInt8 := [181, 0, 22, 177]
abbrev dktX12_take_1 : List UInt8 := dkwX12_take_1 ++ []
def dkwX12_take_0 : List UInt8 := [42, 42, 182, 0, 34, 27, 160, 0, 7, 4, 167, 0, 4, 3, 182, 0, 38, 42, 89, 180, 0, 22, 4, 96]
abbrev dktX12_take_0 : List UInt8 := dkwX12_take_0 ++ dktX12_take_1
theorem dksX12_take_0 : cX12_take.data.toList.drop 0 = dktX12_take_0 := by decide +kernel
theorem dksX12_take_1 : cX12_take.data.toList.drop 24 = dktX12_take_1 := dk_seg dksX12_take_0 24 rfl rfl
theorem dX12_take_0 : decode cX12_take 0 = .ok (.aload_n 0, 1) := dk_42 (dk_at dksX12_take_0 0 rfl rfl)
theorem dX12_take_1 : decode cX12_take 1 = .ok (.aload_n 0, 1) := dk_42 (dk_at dksX12_take_0 1 rfl rfl)
theorem dX12_take_2 : decode cX12_take 2 = .ok (.invokevirtual 34, 3) := dk_182 0 34 (dk_at dksX12_take_0 2 rfl rfl)
theorem dX12_take_5 : decode cX12_take 5 = .ok (.iload_n 1, 1) := dk_27 (dk_at dksX12_take_0 5 rfl rfl)
theorem dX12_take_6 : decode cX12_take 6 = .ok (.if_icmp .ne 7, 3) := dk_160 0 7 (dk_at dksX12_take_0 6 rfl rfl)
theorem dX12_take_9 : decode cX12_take 9 = .ok (.iconst 1, 1) := dk_4 (dk_at dksX12_take_0 9 rfl rfl)
theorem dX12_take_10 : decode cX12_take 10 = .ok (.goto 4, 3) := dk_167 0 4 (dk_at dksX12_take_0 10 rfl rfl)
theorem dX12_take_13 : decode cX12_take 13 = .ok (.iconst 0, 1) := dk_3 (dk_at dksX12_take_0 13 rfl rfl)
theorem dX12_take_14 : decode cX12_take 14 = .ok (.invokevirtual 38, 3) := dk_182 0 38 (dk_at dksX12_take_0 14 rfl rfl)
theorem dX12_take_17 : decode cX12_take 17 = .ok (.aload_n 0, 1) := dk_42 (dk_at dksX12_take_0 17 rfl rfl)
theorem dX12_take_18 : decode cX12_take 18 = .ok (.dup, 1) := dk_89 (dk_at dksX12_take_0 18 rfl rfl)
theorem dX12_take_19 : decode cX12_take 19 = .ok (.getfield 22, 3) := dk_180 0 22 (dk_at dksX12_take_0 19 rfl rfl)
theorem dX12_take_22 : decode cX12_take 22 = .ok (.iconst 1, 1) := dk_4 (dk_at dksX12_take_0 22 rfl rfl)
theorem dX12_take_23 : decode cX12_take 23 = .ok (.iadd, 1) := dk_96 (dk_at dksX12_take_0 23 rfl rfl)
theorem dX12_take_24 : decode cX12_take 24 = .ok (.putfield 22, 3) := dk_181 0 22 (dk_at dksX12_take_1 0 rfl rfl)
theorem dX12_take_27 : decode cX12_take 27 = .ok (.return_, 1) := dk_177 (dk_at dksX12_take_1 3 rfl rfl)
theorem q110 : (Jvm.Cond.initialized "SongThatStays$Reader") ∈ lw_all := lw_g (lw_at lw_m1 16 rfl) rfl
theorem q283 : (Jvm.Cond.fieldLinkNest "SongThatStays$Reader" (97 : Nat) "SongThatStays" "kinds" "[LSongThatStays$Kind;" "SongThatStays") ∈ lw_tbl := lw_at lw_m1 189 rfl
theorem q290 : (Jvm.Cond.fieldLinkNest "SongThatStays$Reader" (25 : Nat) "SongThatStays" "letters" "[C" "SongThatStays") ∈ lw_tbl := lw_at lw_m1 196 rfl
theorem q292 : (Jvm.Cond.fieldLinkNest "SongThatStays$Reader" (13 : Nat) "SongThatStays" "letterMany" "I" "SongThatStays") ∈ lw_tbl := lw_at lw_m1 198 rfl
theorem q416 : (Jvm.Cond.instantiable "SongThatStays$Reader" (3 : Nat)) ∈ lw_all := lw_g (lw_at lw_m2 82 rfl) rfl
theorem q418 : (Jvm.Cond.instanceMethod ({ cls := "SongThatStays$Reader", name := "<init>", desc := "(LSongThatStays;)V" } : Jvm.MethodName)) ∈ lw_all := lw_g (lw_at lw_m2 84 rfl) rfl
theorem q419 : (Jvm.Cond.code ({ cls := "SongThatStays$Reader", name := "<init>", desc := "(LSongThatStays;)V" } : Jvm.MethodName) prog_18_method_1_code (2 : Nat) (Option.none : Option Jvm.ClassFile.FieldType)) ∈ lw_all := lw_g (lw_at lw_m2 85 rfl) rfl
theorem q420 : (Jvm.Cond.methodLink "SongThatStays$Reader" (7 : Nat) ({ cls := "java/lang/Object", name := "<init>", desc := "()V" } : Jvm.MethodName)) ∈ lw_all := lw_g (lw_at lw_m2 86 rfl) rfl
theorem q421 : (Jvm.Cond.fieldLink "SongThatStays$Reader" (19 : Nat) "SongThatStays$Reader" "size" "I") ∈ lw_all := lw_g (lw_at lw_m2 87 rfl) rfl
theorem q423 : (Jvm.Cond.fieldLink "SongThatStays$Reader" (22 : Nat) "SongThatStays$Reader" "at" "I") ∈ lw_all := lw_g (lw_at lw_m2 89 rfl) rfl
theorem q425 : (Jvm.Cond.fieldLink "SongThatStays$Reader" (1 : Nat) "SongThatStays$Reader" "this$0" "LSongThatStays;") ∈ lw_all := lw_g (lw_at lw_m2 91 rfl) rfl
theorem q426 : (Jvm.Cond.laysFinal "SongThatStays$Reader" "SongThatStays$Reader" "size" "I") ∈ lw_all := lw_g (lw_at lw_m2 92 rfl) rfl
theorem q427 : (Jvm.Cond.soleField "SongThatStays$Reader" "size") ∈ lw_all := lw_g (lw_at lw_m2 93 rfl) rfl
theorem q428 : (Jvm.Cond.lays "SongThatStays$Reader" "SongThatStays$Reader" "at" "I") ∈ lw_all := lw_g (lw_at lw_m2 94 rfl) rfl
theorem q429 : (Jvm.Cond.soleField "SongThatStays$Reader" "at") ∈ lw_all := lw_g (lw_at lw_m2 95 rfl) rfl
theorem q430 : (Jvm.Cond.laysFinal "SongThatStays$Reader" "SongThatStays$Reader" "this$0" "LSongThatStays;") ∈ lw_all := lw_g (lw_at lw_m2 96 rfl) rfl
theorem q431 : (Jvm.Cond.soleField "SongThatStays$Reader" "this$0") ∈ lw_all := lw_g (lw_at lw_m2 97 rfl) rfl
theorem q432 : (Jvm.Cond.superclass "SongThatStays$Reader" "java/lang/Object") ∈ lw_all := lw_g (lw_at lw_m2 98 rfl) rfl
theorem q436 : (Jvm.Cond.instanceMethod ({ cls := "SongThatStays$Reader", name := "statement", desc := "()LSongThatStays$Told;" } : Jvm.MethodName)) ∈ lw_all := lw_g (lw_at lw_m2 102 rfl) rfl
theorem q437 : (Jvm.Cond.selects "SongThatStays$Reader" ({ cls := "SongThatStays$Reader", name := "statement", desc := "()LSongThatStays$Told;" } : Jvm.MethodName) ({ cls := "SongThatStays$Reader", name := "statement", desc := "()LSongThatStays$Told;" } : Jvm.MethodName)) ∈ lw_all := lw_g (lw_at lw_m2 103 rfl) rfl
theorem q438 : (Jvm.Cond.code ({ cls := "SongThatStays$Reader", name := "statement", desc := "()LSongThatStays$Told;" } : Jvm.MethodName) prog_18_method_7_code (4 : Nat) (Option.some (Jvm.ClassFile.FieldType.object "SongThatStays$Told"))) ∈ lw_all := lw_g (lw_at lw_m2 104 rfl) rfl
theorem q439 : (Jvm.Cond.methodLink "SongThatStays$Reader" (34 : Nat) ({ cls := "SongThatStays$Reader", name := "here", desc := "()I" } : Jvm.MethodName)) ∈ lw_all := lw_g (lw_at lw_m2 105 rfl) rfl
theorem q440 : (Jvm.Cond.privateMethod ({ cls := "SongThatStays$Reader", name := "here", desc := "()I" } : Jvm.MethodName)) ∈ lw_tbl := lw_at lw_m2 106 rfl
theorem q441 : (Jvm.Cond.instanceMethod ({ cls := "SongThatStays$Reader", name := "here", desc := "()I" } : Jvm.MethodName)) ∈ lw_all := lw_g (lw_at lw_m2 107 rfl) rfl
theorem q442 : (Jvm.Cond.code ({ cls := "SongThatStays$Reader", name := "here", desc := "()I" } : Jvm.MethodName) prog_18_method_2_code (1 : Nat) (Option.some Jvm.ClassFile.FieldType.int)) ∈ lw_all := lw_g (lw_at lw_m2 108 rfl) rfl
theorem q443 : (Jvm.Cond.methodLink "SongThatStays$Reader" (38 : Nat) ({ cls := "SongThatStays$Reader", name := "mustStand", desc := "(Z)V" } : Jvm.MethodName)) ∈ lw_all := lw_g (lw_at lw_m2 109 rfl) rfl
theorem q444 : (Jvm.Cond.privateMethod ({ cls := "SongThatStays$Reader", name := "mustStand", desc := "(Z)V" } : Jvm.MethodName)) ∈ lw_tbl := lw_at lw_m2 110 rfl
theorem q445 : (Jvm.Cond.instanceMethod ({ cls := "SongThatStays$Reader", name := "mustStand", desc := "(Z)V" } : Jvm.MethodName)) ∈ lw_all := lw_g (lw_at lw_m2 111 rfl) rfl
theorem q446 : (Jvm.Cond.code ({ cls := "SongThatStays$Reader", name := "mustStand", desc := "(Z)V" } : Jvm.MethodName) prog_18_method_3_code (2 : Nat) (Option.none : Option Jvm.ClassFile.FieldType)) ∈ lw_all := lw_g (lw_at lw_m2 112 rfl) rfl
theorem q447 : (Jvm.Cond.classLink "SongThatStays$Reader" (29 : Nat) "SongThatStays$Fault") ∈ lw_all := lw_g (lw_at lw_m2 113 rfl) rfl
theorem q456 : (Jvm.Cond.methodLink "SongThatStays$Reader" (31 : Nat) ({ cls := "SongThatStays$Fault", name := "<init>", desc := "(I)V" } : Jvm.MethodName)) ∈ lw_all := lw_g (lw_at lw_m2 122 rfl) rfl
theorem q465 : (Jvm.Cond.methodLink "SongThatStays$Reader" (53 : Nat) ({ cls := "SongThatStays$Reader", name := "told", desc := "(II)LSongThatStays$Told;" } : Jvm.MethodName)) ∈ lw_all := lw_g (lw_at lw_m2 131 rfl) rfl
theorem q466 : (Jvm.Cond.privateMethod ({ cls := "SongThatStays$Reader", name := "told", desc := "(II)LSongThatStays$Told;" } : Jvm.MethodName)) ∈ lw_tbl := lw_at lw_m2 132 rfl
theorem q467 : (Jvm.Cond.instanceMethod ({ cls := "SongThatStays$Reader", name := "told", desc := "(II)LSongThatStays$Told;" } : Jvm.MethodName)) ∈ lw_all := lw_g (lw_at lw_m2 133 rfl) rfl
theorem q468 : (Jvm.Cond.code ({ cls := "SongThatStays$Reader", name := "told", desc := "(II)LSongThatStays$Told;" } : Jvm.MethodName) prog_18_method_8_code (5 : Nat) (Option.some (Jvm.ClassFile.FieldType.object "SongThatStays$Told"))) ∈ lw_all := lw_g (lw_at lw_m2 134 rfl) rfl
theorem q469 : (Jvm.Cond.classLink "SongThatStays$Reader" (60 : Nat) "SongThatStays$LoudTold") ∈ lw_all := lw_g (lw_at lw_m2 135 rfl) rfl
theorem q471 : (Jvm.Cond.methodLink "SongThatStays$Reader" (62 : Nat) ({ cls := "SongThatStays$Reader", name := "number", desc := "()I" } : Jvm.MethodName)) ∈ lw_all := lw_g (lw_at lw_m2 137 rfl) rfl
theorem q472 : (Jvm.Cond.privateMethod ({ cls := "SongThatStays$Reader", name := "number", desc := "()I" } : Jvm.MethodName)) ∈ lw_tbl := lw_at lw_m2 138 rfl
theorem q473 : (Jvm.Cond.instanceMethod ({ cls := "SongThatStays$Reader", name := "number", desc := "()I" } : Jvm.MethodName)) ∈ lw_all := lw_g (lw_at lw_m2 139 rfl) rfl
theorem q474 : (Jvm.Cond.code ({ cls := "SongThatStays$Reader", name := "number", desc := "()I" } : Jvm.MethodName) prog_18_method_6_code (2 : Nat) (Option.some Jvm.ClassFile.FieldType.int)) ∈ lw_all := lw_g (lw_at lw_m2 140 rfl) rfl
theorem q475 : (Jvm.Cond.methodLink "SongThatStays$Reader" (50 : Nat) ({ cls := "SongThatStays$Reader", name := "digit", desc := "()I" } : Jvm.MethodName)) ∈ lw_all := lw_g (lw_at lw_m2 141 rfl) rfl
theorem q476 : (Jvm.Cond.privateMethod ({ cls := "SongThatStays$Reader", name := "digit", desc := "()I" } : Jvm.MethodName)) ∈ lw_tbl := lw_at lw_m2 142 rfl
theorem q477 : (Jvm.Cond.instanceMethod ({ cls := "SongThatStays$Reader", name := "digit", desc := "()I" } : Jvm.MethodName)) ∈ lw_all := lw_g (lw_at lw_m2 143 rfl) rfl
theorem q478 : (Jvm.Cond.code ({ cls := "SongThatStays$Reader", name := "digit", desc := "()I" } : Jvm.MethodName) prog_18_method_5_code (1 : Nat) (Option.some Jvm.ClassFile.FieldType.int)) ∈ lw_all := lw_g (lw_at lw_m2 144 rfl) rfl
theorem q479 : (Jvm.Cond.constantLong "SongThatStays$Reader" (42 : Nat) (48 : Int64)) ∈ lw_all := lw_g (lw_at lw_m2 145 rfl) rfl
theorem q480 : (Jvm.Cond.constantLong "SongThatStays$Reader" (44 : Nat) (57 : Int64)) ∈ lw_all := lw_g (lw_at lw_m2 146 rfl) rfl
theorem q481 : (Jvm.Cond.methodLinkNest "SongThatStays$Reader" (46 : Nat) ({ cls := "SongThatStays", name := "in", desc := "(JJJ)Z" } : Jvm.MethodName) "SongThatStays") ∈ lw_tbl := lw_at lw_m2 147 rfl
theorem q484 : (Jvm.Cond.methodLink "SongThatStays$Reader" (65 : Nat) ({ cls := "SongThatStays$LoudTold", name := "<init>", desc := "(II)V" } : Jvm.MethodName)) ∈ lw_all := lw_g (lw_at lw_m2 150 rfl) rfl
theorem q520 : (Jvm.Cond.methodLink "SongThatStays$Reader" (68 : Nat) ({ cls := "SongThatStays$Reader", name := "song", desc := "(I)LSongThatStays$Told;" } : Jvm.MethodName)) ∈ lw_all := lw_g (lw_at lw_m2 186 rfl) rfl
theorem q521 : (Jvm.Cond.privateMethod ({ cls := "SongThatStays$Reader", name := "song", desc := "(I)LSongThatStays$Told;" } : Jvm.MethodName)) ∈ lw_tbl := lw_at lw_m2 187 rfl
theorem q522 : (Jvm.Cond.instanceMethod ({ cls := "SongThatStays$Reader", name := "song", desc := "(I)LSongThatStays$Told;" } : Jvm.MethodName)) ∈ lw_all := lw_g (lw_at lw_m2 188 rfl) rfl
theorem q523 : (Jvm.Cond.code ({ cls := "SongThatStays$Reader", name := "song", desc := "(I)LSongThatStays$Told;" } : Jvm.MethodName) prog_18_method_9_code (4 : Nat) (Option.some (Jvm.ClassFile.FieldType.object "SongThatStays$Told"))) ∈ lw_all := lw_g (lw_at lw_m2 189 rfl) rfl
theorem q524 : (Jvm.Cond.methodLink "SongThatStays$Reader" (83 : Nat) ({ cls := "SongThatStays$Reader", name := "songKindOf", desc := "(I)I" } : Jvm.MethodName)) ∈ lw_all := lw_g (lw_at lw_m2 190 rfl) rfl
theorem q525 : (Jvm.Cond.privateMethod ({ cls := "SongThatStays$Reader", name := "songKindOf", desc := "(I)I" } : Jvm.MethodName)) ∈ lw_tbl := lw_at lw_m2 191 rfl
theorem q526 : (Jvm.Cond.instanceMethod ({ cls := "SongThatStays$Reader", name := "songKindOf", desc := "(I)I" } : Jvm.MethodName)) ∈ lw_all := lw_g (lw_at lw_m2 192 rfl) rfl
theorem q527 : (Jvm.Cond.code ({ cls := "SongThatStays$Reader", name := "songKindOf", desc := "(I)I" } : Jvm.MethodName) prog_18_method_12_code (2 : Nat) (Option.some Jvm.ClassFile.FieldType.int)) ∈ lw_all := lw_g (lw_at lw_m2 193 rfl) rfl
theorem q528 : (Jvm.Cond.classLink "SongThatStays$Reader" (87 : Nat) "SongThatStays$SongTold") ∈ lw_all := lw_g (lw_at lw_m2 194 rfl) rfl
theorem q530 : (Jvm.Cond.methodLink "SongThatStays$Reader" (89 : Nat) ({ cls := "SongThatStays$SongTold", name := "<init>", desc := "(IIII)V" } : Jvm.MethodName)) ∈ lw_all := lw_g (lw_at lw_m2 196 rfl) rfl
theorem q541 : (Jvm.Cond.methodLink "SongThatStays$Reader" (72 : Nat) ({ cls := "SongThatStays$Reader", name := "head", desc := "(I)LSongThatStays$Told;" } : Jvm.MethodName)) ∈ lw_all := lw_g (lw_at lw_m2 207 rfl) rfl
theorem q542 : (Jvm.Cond.privateMethod ({ cls := "SongThatStays$Reader", name := "head", desc := "(I)LSongThatStays$Told;" } : Jvm.MethodName)) ∈ lw_tbl := lw_at lw_m2 208 rfl
theorem q543 : (Jvm.Cond.instanceMethod ({ cls := "SongThatStays$Reader", name := "head", desc := "(I)LSongThatStays$Told;" } : Jvm.MethodName)) ∈ lw_all := lw_g (lw_at lw_m2 209 rfl) rfl
theorem q544 : (Jvm.Cond.code ({ cls := "SongThatStays$Reader", name := "head", desc := "(I)LSongThatStays$Told;" } : Jvm.MethodName) prog_18_method_10_code (4 : Nat) (Option.some (Jvm.ClassFile.FieldType.object "SongThatStays$Told"))) ∈ lw_all := lw_g (lw_at lw_m2 210 rfl) rfl
theorem q545 : (Jvm.Cond.methodLink "SongThatStays$Reader" (92 : Nat) ({ cls := "SongThatStays$Reader", name := "kindOf", desc := "(I)I" } : Jvm.MethodName)) ∈ lw_all := lw_g (lw_at lw_m2 211 rfl) rfl
theorem q546 : (Jvm.Cond.privateMethod ({ cls := "SongThatStays$Reader", name := "kindOf", desc := "(I)I" } : Jvm.MethodName)) ∈ lw_tbl := lw_at lw_m2 212 rfl
theorem q547 : (Jvm.Cond.instanceMethod ({ cls := "SongThatStays$Reader", name := "kindOf", desc := "(I)I" } : Jvm.MethodName)) ∈ lw_all := lw_g (lw_at lw_m2 213 rfl) rfl
theorem q548 : (Jvm.Cond.code ({ cls := "SongThatStays$Reader", name := "kindOf", desc := "(I)I" } : Jvm.MethodName) prog_18_method_11_code (2 : Nat) (Option.some Jvm.ClassFile.FieldType.int)) ∈ lw_all := lw_g (lw_at lw_m2 214 rfl) rfl
theorem q549 : (Jvm.Cond.classLink "SongThatStays$Reader" (95 : Nat) "SongThatStays$HeadTold") ∈ lw_all := lw_g (lw_at lw_m2 215 rfl) rfl
theorem q551 : (Jvm.Cond.methodLink "SongThatStays$Reader" (101 : Nat) ({ cls := "SongThatStays$HeadTold", name := "<init>", desc := "(ILSongThatStays$Kind;II)V" } : Jvm.MethodName)) ∈ lw_all := lw_g (lw_at lw_m2 217 rfl) rfl
theorem q562 : (Jvm.Cond.classLink "SongThatStays$Reader" (75 : Nat) "SongThatStays$DoorTold") ∈ lw_all := lw_g (lw_at lw_m2 228 rfl) rfl
theorem q564 : (Jvm.Cond.methodLink "SongThatStays$Reader" (77 : Nat) ({ cls := "SongThatStays$DoorTold", name := "<init>", desc := "(III)V" } : Jvm.MethodName)) ∈ lw_all := lw_g (lw_at lw_m2 230 rfl) rfl
theorem q572 : (Jvm.Cond.classLink "SongThatStays$Reader" (80 : Nat) "SongThatStays$GotTold") ∈ lw_all := lw_g (lw_at lw_m2 238 rfl) rfl
theorem q574 : (Jvm.Cond.methodLink "SongThatStays$Reader" (82 : Nat) ({ cls := "SongThatStays$GotTold", name := "<init>", desc := "(III)V" } : Jvm.MethodName)) ∈ lw_all := lw_g (lw_at lw_m3 0 rfl) rfl
theorem q582 : (Jvm.Cond.methodLink "SongThatStays$Reader" (57 : Nat) ({ cls := "SongThatStays$Reader", name := "take", desc := "(I)V" } : Jvm.MethodName)) ∈ lw_all := lw_g (lw_at lw_m3 8 rfl) rfl
theorem q583 : (Jvm.Cond.privateMethod ({ cls := "SongThatStays$Reader", name := "take", desc := "(I)V" } : Jvm.MethodName)) ∈ lw_tbl := lw_at lw_m3 9 rfl
theorem q584 : (Jvm.Cond.instanceMethod ({ cls := "SongThatStays$Reader", name := "take", desc := "(I)V" } : Jvm.MethodName)) ∈ lw_all := lw_g (lw_at lw_m3 10 rfl) rfl
theorem q585 : (Jvm.Cond.code ({ cls := "SongThatStays$Reader", name := "take", desc := "(I)V" } : Jvm.MethodName) prog_18_method_4_code (2 : Nat) (Option.none : Option Jvm.ClassFile.FieldType)) ∈ lw_all := lw_g (lw_at lw_m3 11 rfl) rfl
theorem in_X12 : ∀ w ∈ wsX120, w ∈ lw_all := lw_in wsX120 [426, 428, 430] (by decide +kernel) (by decide +kernel)
/-! SongThatStays$Office -/
set_option maxRecDepth 100000
def RX8 : String := "SongThatStays$Office"
def TX8 : u_T := fun k => match k with
  | 0 => ("SongThatStays$Office", "doors", "I", false)
  | 1 => ("SongThatStays$Office", "from", "[I", true)
  | 2 => ("SongThatStays$Office", "to", "[I", true)
  | 3 => ("SongThatStays$Office", "shut", "I", false)
  | 4 => ("SongThatStays$Office", "songs", "I", false)
  | 5 => ("SongThatStays$Office", "song", "[LSongThatStays$Song;", true)
  | 6 => ("SongThatStays$Office", "heads", "I", false)
  | 7 => ("SongThatStays$Office", "kind", "[LSongThatStays$Kind;", true)
  | 8 => ("SongThatStays$Office", "rooms", "[I", true)
  | 9 => ("SongThatStays$Office", "resists", "[I", true)
  | 10 => ("SongThatStays$Office", "holds", "[I", true)
  | 11 => ("SongThatStays$Office", "strengths", "[I", true)
  | 12 => ("SongThatStays$Office", "gums", "[I", true)
  | 13 => ("SongThatStays$Office", "hour", "I", false)
  | 14 => ("SongThatStays$Office", "loud", "I", false)
  | 15 => ("SongThatStays$Office", "hummed", "[I", true)
  | 16 => ("SongThatStays$Office", "gets", "[I", true)
  | 17 => ("SongThatStays$Office", "givers", "[I", true)
  | 18 => ("SongThatStays$Office", "firsts", "[I", true)
  | _ => ("SongThatStays$Office", "firstsThen", "[I", true)
def tyX8 : Nat → FieldType := fun k => match k with
  | 0 => .int
  | 1 => .array .int
  | 2 => .array .int
  | 3 => .int
  | 4 => .int
  | 5 => .array (.object "SongThatStays$Song")
  | 6 => .int
  | 7 => .array (.object "SongThatStays$Kind")
  | 8 => .array .int
  | 9 => .array .int
  | 10 => .array .int
  | 11 => .array .int
  | 12 => .array .int
  | 13 => .int
  | 14 => .int
  | 15 => .array .int
  | 16 => .array .int
  | 17 => .array .int
  | 18 => .array .int
  | _ => .array .int
abbrev wsX80 : List Cond := u_ws RX8 TX8 20
set_option maxRecDepth 100000 in
theorem nmX8 : ∀ a, a < 20 → ∀ b, b < 20 → a ≠ b → (TX8 a).2.1 ≠ (TX8 b).2.1 := by decide +kernel
set_option maxRecDepth 100000 in
theorem tyX8_ok : ∀ k, k < 20 → parseFieldDescriptor (TX8 k).2.2.1 = some (tyX8 k) := by decide +kernel
abbrev cX8_init : ByteArray := prog_15_method_1_code
def yX8_init : MethodName := ⟨RX8, "<init>", "()V"⟩
def dkwX8_init_5 : List UInt8 := [188, 10, 181, 0, 61, 177]
abbrev dktX8_init_5 : List UInt8 := dkwX8_init_5 ++ []
def dkwX8_init_4 : List UInt8 := [188, 10, 181, 0, 52, 42, 16, 6, 188, 10, 181, 0, 55, 42, 16, 6, 188, 10, 181, 0, 58, 42, 16, 6]
abbrev dktX8_init_4 : List UInt8 := dkwX8_init_4 ++ dktX8_init_5
def dkwX8_init_3 : List UInt8 := [16, 6, 188, 10, 181, 0, 42, 42, 16, 6, 181, 0, 45, 42, 16, 6, 188, 10, 181, 0, 49, 42, 16, 6]
abbrev dktX8_init_3 : List UInt8 := dkwX8_init_3 ++ dktX8_init_4
def dkwX8_init_2 : List UInt8 := [16, 6, 188, 10, 181, 0, 33, 42, 16, 6, 188, 10, 181, 0, 36, 42, 16, 6, 188, 10, 181, 0, 39, 42]
abbrev dktX8_init_2 : List UInt8 := dkwX8_init_2 ++ dktX8_init_3
def dkwX8_init_1 : List UInt8 := [189, 0, 18, 181, 0, 20, 42, 16, 6, 189, 0, 24, 181, 0, 26, 42, 16, 6, 188, 10, 181, 0, 30, 42]
abbrev dktX8_init_1 : List UInt8 := dkwX8_init_1 ++ dktX8_init_2
def dkwX8_init_0 : List UInt8 := [42, 183, 0, 3, 42, 16, 8, 188, 10, 181, 0, 9, 42, 16, 8, 188, 10, 181, 0, 15, 42, 8]
abbrev dktX8_init_0 : List UInt8 := dkwX8_init_0 ++ dktX8_init_1
theorem dksX8_init_0 : cX8_init.data.toList.drop 0 = dktX8_init_0 := by decide +kernel
theorem dksX8_init_1 : cX8_init.data.toList.drop 22 = dktX8_init_1 := dk_seg dksX8_init_0 22 rfl rfl
theorem dksX8_init_2 : cX8_init.data.toList.drop 46 = dktX8_init_2 := dk_seg dksX8_init_1 24 rfl rfl
theorem dksX8_init_3 : cX8_init.data.toList.drop 70 = dktX8_init_3 := dk_seg dksX8_init_2 24 rfl rfl
theorem dksX8_init_4 : cX8_init.data.toList.drop 94 = dktX8_init_4 := dk_seg dksX8_init_3 24 rfl rfl
theorem dksX8_init_5 : cX8_init.data.toList.drop 118 = dktX8_init_5 := dk_seg dksX8_init_4 24 rfl rfl
theorem dX8_init_0 : decode cX8_init 0 = .ok (.aload_n 0, 1) := dk_42 (dk_at dksX8_init_0 0 rfl rfl)
theorem dX8_init_1 : decode cX8_init 1 = .ok (.invokespecial 3, 3) := dk_183 0 3 (dk_at dksX8_init_0 1 rfl rfl)
theorem dX8_init_4 : decode cX8_init 4 = .ok (.aload_n 0, 1) := dk_42 (dk_at dksX8_init_0 4 rfl rfl)
theorem dX8_init_5 : decode cX8_init 5 = .ok (.bipush 8, 2) := dk_16 8 (dk_at dksX8_init_0 5 rfl rfl)
theorem dX8_init_7 : decode cX8_init 7 = .ok (.newarray .int, 2) := dk_188_10 (dk_at dksX8_init_0 7 rfl rfl)
theorem dX8_init_9 : decode cX8_init 9 = .ok (.putfield 9, 3) := dk_181 0 9 (dk_at dksX8_init_0 9 rfl rfl)
theorem dX8_init_12 : decode cX8_init 12 = .ok (.aload_n 0, 1) := dk_42 (dk_at dksX8_init_0 12 rfl rfl)
theorem dX8_init_13 : decode cX8_init 13 = .ok (.bipush 8, 2) := dk_16 8 (dk_at dksX8_init_0 13 rfl rfl)
theorem dX8_init_15 : decode cX8_init 15 = .ok (.newarray .int, 2) := dk_188_10 (dk_at dksX8_init_0 15 rfl rfl)
theorem dX8_init_17 : decode cX8_init 17 = .ok (.putfield 15, 3) := dk_181 0 15 (dk_at dksX8_init_0 17 rfl rfl)
theorem dX8_init_20 : decode cX8_init 20 = .ok (.aload_n 0, 1) := dk_42 (dk_at dksX8_init_0 20 rfl rfl)
theorem dX8_init_21 : decode cX8_init 21 = .ok (.iconst 5, 1) := dk_8 (dk_at dksX8_init_0 21 rfl rfl)
theorem dX8_init_22 : decode cX8_init 22 = .ok (.anewarray 18, 3) := dk_189 0 18 (dk_at dksX8_init_1 0 rfl rfl)
theorem dX8_init_25 : decode cX8_init 25 = .ok (.putfield 20, 3) := dk_181 0 20 (dk_at dksX8_init_1 3 rfl rfl)
theorem dX8_init_28 : decode cX8_init 28 = .ok (.aload_n 0, 1) := dk_42 (dk_at dksX8_init_1 6 rfl rfl)
theorem dX8_init_29 : decode cX8_init 29 = .ok (.bipush 6, 2) := dk_16 6 (dk_at dksX8_init_1 7 rfl rfl)
theorem dX8_init_31 : decode cX8_init 31 = .ok (.anewarray 24, 3) := dk_189 0 24 (dk_at dksX8_init_1 9 rfl rfl)
theorem dX8_init_34 : decode cX8_init 34 = .ok (.putfield 26, 3) := dk_181 0 26 (dk_at dksX8_init_1 12 rfl rfl)
theorem dX8_init_37 : decode cX8_init 37 = .ok (.aload_n 0, 1) := dk_42 (dk_at dksX8_init_1 15 rfl rfl)
theorem dX8_init_38 : decode cX8_init 38 = .ok (.bipush 6, 2) := dk_16 6 (dk_at dksX8_init_1 16 rfl rfl)
theorem dX8_init_40 : decode cX8_init 40 = .ok (.newarray .int, 2) := dk_188_10 (dk_at dksX8_init_1 18 rfl rfl)
theorem dX8_init_42 : decode cX8_init 42 = .ok (.putfield 30, 3) := dk_181 0 30 (dk_at dksX8_init_1 20 rfl rfl)
theorem dX8_init_45 : decode cX8_init 45 = .ok (.aload_n 0, 1) := dk_42 (dk_at dksX8_init_1 23 rfl rfl)
theorem dX8_init_46 : decode cX8_init 46 = .ok (.bipush 6, 2) := dk_16 6 (dk_at dksX8_init_2 0 rfl rfl)
theorem dX8_init_48 : decode cX8_init 48 = .ok (.newarray .int, 2) := dk_188_10 (dk_at dksX8_init_2 2 rfl rfl)
theorem dX8_init_50 : decode cX8_init 50 = .ok (.putfield 33, 3) := dk_181 0 33 (dk_at dksX8_init_2 4 rfl rfl)
theorem dX8_init_53 : decode cX8_init 53 = .ok (.aload_n 0, 1) := dk_42 (dk_at dksX8_init_2 7 rfl rfl)
theorem dX8_init_54 : decode cX8_init 54 = .ok (.bipush 6, 2) := dk_16 6 (dk_at dksX8_init_2 8 rfl rfl)
theorem dX8_init_56 : decode cX8_init 56 = .ok (.newarray .int, 2) := dk_188_10 (dk_at dksX8_init_2 10 rfl rfl)
theorem dX8_init_58 : decode cX8_init 58 = .ok (.putfield 36, 3) := dk_181 0 36 (dk_at dksX8_init_2 12 rfl rfl)
theorem dX8_init_61 : decode cX8_init 61 = .ok (.aload_n 0, 1) := dk_42 (dk_at dksX8_init_2 15 rfl rfl)
theorem dX8_init_62 : decode cX8_init 62 = .ok (.bipush 6, 2) := dk_16 6 (dk_at dksX8_init_2 16 rfl rfl)
theorem dX8_init_64 : decode cX8_init 64 = .ok (.newarray .int, 2) := dk_188_10 (dk_at dksX8_init_2 18 rfl rfl)
theorem dX8_init_66 : decode cX8_init 66 = .ok (.putfield 39, 3) := dk_181 0 39 (dk_at dksX8_init_2 20 rfl rfl)
theorem dX8_init_69 : decode cX8_init 69 = .ok (.aload_n 0, 1) := dk_42 (dk_at dksX8_init_2 23 rfl rfl)
theorem dX8_init_70 : decode cX8_init 70 = .ok (.bipush 6, 2) := dk_16 6 (dk_at dksX8_init_3 0 rfl rfl)
theorem dX8_init_72 : decode cX8_init 72 = .ok (.newarray .int, 2) := dk_188_10 (dk_at dksX8_init_3 2 rfl rfl)
theorem dX8_init_74 : decode cX8_init 74 = .ok (.putfield 42, 3) := dk_181 0 42 (dk_at dksX8_init_3 4 rfl rfl)
theorem dX8_init_77 : decode cX8_init 77 = .ok (.aload_n 0, 1) := dk_42 (dk_at dksX8_init_3 7 rfl rfl)
theorem dX8_init_78 : decode cX8_init 78 = .ok (.bipush 6, 2) := dk_16 6 (dk_at dksX8_init_3 8 rfl rfl)
theorem dX8_init_80 : decode cX8_init 80 = .ok (.putfield 45, 3) := dk_181 0 45 (dk_at dksX8_init_3 10 rfl rfl)
theorem dX8_init_83 : decode cX8_init 83 = .ok (.aload_n 0, 1) := dk_42 (dk_at dksX8_init_3 13 rfl rfl)
theorem dX8_init_84 : decode cX8_init 84 = .ok (.bipush 6, 2) := dk_16 6 (dk_at dksX8_init_3 14 rfl rfl)
theorem dX8_init_86 : decode cX8_init 86 = .ok (.newarray .int, 2) := dk_188_10 (dk_at dksX8_init_3 16 rfl rfl)
theorem dX8_init_88 : decode cX8_init 88 = .ok (.putfield 49, 3) := dk_181 0 49 (dk_at dksX8_init_3 18 rfl rfl)
theorem dX8_init_91 : decode cX8_init 91 = .ok (.aload_n 0, 1) := dk_42 (dk_at dksX8_init_3 21 rfl rfl)
theorem dX8_init_92 : decode cX8_init 92 = .ok (.bipush 6, 2) := dk_16 6 (dk_at dksX8_init_3 22 rfl rfl)
theorem dX8_init_94 : decode cX8_init 94 = .ok (.newarray .int, 2) := dk_188_10 (dk_at dksX8_init_4 0 rfl rfl)
theorem dX8_init_96 : decode cX8_init 96 = .ok (.putfield 52, 3) := dk_181 0 52 (dk_at dksX8_init_4 2 rfl rfl)
theorem dX8_init_99 : decode cX8_init 99 = .ok (.aload_n 0, 1) := dk_42 (dk_at dksX8_init_4 5 rfl rfl)
theorem dX8_init_100 : decode cX8_init 100 = .ok (.bipush 6, 2) := dk_16 6 (dk_at dksX8_init_4 6 rfl rfl)
theorem dX8_init_102 : decode cX8_init 102 = .ok (.newarray .int, 2) := dk_188_10 (dk_at dksX8_init_4 8 rfl rfl)
theorem dX8_init_104 : decode cX8_init 104 = .ok (.putfield 55, 3) := dk_181 0 55 (dk_at dksX8_init_4 10 rfl rfl)
theorem dX8_init_107 : decode cX8_init 107 = .ok (.aload_n 0, 1) := dk_42 (dk_at dksX8_init_4 13 rfl rfl)
theorem dX8_init_108 : decode cX8_init 108 = .ok (.bipush 6, 2) := dk_16 6 (dk_at dksX8_init_4 14 rfl rfl)
theorem dX8_init_110 : decode cX8_init 110 = .ok (.newarray .int, 2) := dk_188_10 (dk_at dksX8_init_4 16 rfl rfl)
theorem dX8_init_112 : decode cX8_init 112 = .ok (.putfield 58, 3) := dk_181 0 58 (dk_at dksX8_init_4 18 rfl rfl)
theorem dX8_init_115 : decode cX8_init 115 = .ok (.aload_n 0, 1) := dk_42 (dk_at dksX8_init_4 21 rfl rfl)
theorem dX8_init_116 : decode cX8_init 116 = .ok (.bipush 6, 2) := dk_16 6 (dk_at dksX8_init_4 22 rfl rfl)
theorem dX8_init_118 : decode cX8_init 118 = .ok (.newarray .int, 2) := dk_188_10 (dk_at dksX8_init_5 0 rfl rfl)
theorem dX8_init_120 : decode cX8_init 120 = .ok (.putfield 61, 3) := dk_181 0 61 (dk_at dksX8_init_5 2 rfl rfl)
theorem dX8_init_123 : decode cX8_init 123 = .ok (.return_, 1) := dk_177 (dk_at dksX8_init_5 5 rfl rfl)
abbrev cX8_set : ByteArray := prog_15_method_2_code
def yX8_set : MethodName := ⟨RX8, "set", "(LSongThatStays$Office;)V"⟩
def dkwX8_set_7 : List UInt8 := [43, 180, 0, 42, 3, 42, 180, 0, 42, 3, 16, 6, 184, 0, 79, 177]
abbrev dktX8_set_7 : List UInt8 := dkwX8_set_7 ++ []
def dkwX8_set_6 : List UInt8 := [180, 0, 36, 3, 16, 6, 184, 0, 79, 43, 180, 0, 39, 3, 42, 180, 0, 39, 3, 16, 6, 184, 0, 79]
abbrev dktX8_set_6 : List UInt8 := dkwX8_set_6 ++ dktX8_set_7
def dkwX8_set_5 : List UInt8 := [184, 0, 79, 43, 180, 0, 33, 3, 42, 180, 0, 33, 3, 16, 6, 184, 0, 79, 43, 180, 0, 36, 3, 42]
abbrev dktX8_set_5 : List UInt8 := dkwX8_set_5 ++ dktX8_set_6
def dkwX8_set_4 : List UInt8 := [3, 42, 180, 0, 26, 3, 16, 6, 184, 0, 79, 43, 180, 0, 30, 3, 42, 180, 0, 30, 3, 16, 6]
abbrev dktX8_set_4 : List UInt8 := dkwX8_set_4 ++ dktX8_set_5
def dkwX8_set_3 : List UInt8 := [3, 16, 8, 184, 0, 79, 43, 180, 0, 20, 3, 42, 180, 0, 20, 3, 8, 184, 0, 79, 43, 180, 0, 26]
abbrev dktX8_set_3 : List UInt8 := dkwX8_set_3 ++ dktX8_set_4
def dkwX8_set_2 : List UInt8 := [43, 180, 0, 9, 3, 42, 180, 0, 9, 3, 16, 8, 184, 0, 79, 43, 180, 0, 15, 3, 42, 180, 0, 15]
abbrev dktX8_set_2 : List UInt8 := dkwX8_set_2 ++ dktX8_set_3
def dkwX8_set_1 : List UInt8 := [42, 43, 180, 0, 73, 181, 0, 73, 42, 43, 180, 0, 76, 181, 0, 76, 42, 43, 180, 0, 45, 181, 0, 45]
abbrev dktX8_set_1 : List UInt8 := dkwX8_set_1 ++ dktX8_set_2
def dkwX8_set_0 : List UInt8 := [42, 43, 180, 0, 64, 181, 0, 64, 42, 43, 180, 0, 67, 181, 0, 67, 42, 43, 180, 0, 70, 181, 0, 70]
abbrev dktX8_set_0 : List UInt8 := dkwX8_set_0 ++ dktX8_set_1
theorem dksX8_set_0 : cX8_set.data.toList.drop 0 = dktX8_set_0 := by decide +kernel
theorem dksX8_set_1 : cX8_set.data.toList.drop 24 = dktX8_set_1 := dk_seg dksX8_set_0 24 rfl rfl
theorem dksX8_set_2 : cX8_set.data.toList.drop 48 = dktX8_set_2 := dk_seg dksX8_set_1 24 rfl rfl
theorem dksX8_set_3 : cX8_set.data.toList.drop 72 = dktX8_set_3 := dk_seg dksX8_set_2 24 rfl rfl
theorem dksX8_set_4 : cX8_set.data.toList.drop 96 = dktX8_set_4 := dk_seg dksX8_set_3 24 rfl rfl
theorem dksX8_set_5 : cX8_set.data.toList.drop 119 = dktX8_set_5 := dk_seg dksX8_set_4 23 rfl rfl
theorem dksX8_set_6 : cX8_set.data.toList.drop 143 = dktX8_set_6 := dk_seg dksX8_set_5 24 rfl rfl
theorem dksX8_set_7 : cX8_set.data.toList.drop 167 = dktX8_set_7 := dk_seg dksX8_set_6 24 rfl rfl
theorem dX8_set_0 : decode cX8_set 0 = .ok (.aload_n 0, 1) := dk_42 (dk_at dksX8_set_0 0 rfl rfl)
theorem dX8_set_1 : decode cX8_set 1 = .ok (.aload_n 1, 1) := dk_43 (dk_at dksX8_set_0 1 rfl rfl)
theorem dX8_set_2 : decode cX8_set 2 = .ok (.getfield 64, 3) := dk_180 0 64 (dk_at dksX8_set_0 2 rfl rfl)
theorem dX8_set_5 : decode cX8_set 5 = .ok (.putfield 64, 3) := dk_181 0 64 (dk_at dksX8_set_0 5 rfl rfl)
theorem dX8_set_8 : decode cX8_set 8 = .ok (.aload_n 0, 1) := dk_42 (dk_at dksX8_set_0 8 rfl rfl)
theorem dX8_set_9 : decode cX8_set 9 = .ok (.aload_n 1, 1) := dk_43 (dk_at dksX8_set_0 9 rfl rfl)
theorem dX8_set_10 : decode cX8_set 10 = .ok (.getfield 67, 3) := dk_180 0 67 (dk_at dksX8_set_0 10 rfl rfl)
theorem dX8_set_13 : decode cX8_set 13 = .ok (.putfield 67, 3) := dk_181 0 67 (dk_at dksX8_set_0 13 rfl rfl)
theorem dX8_set_16 : decode cX8_set 16 = .ok (.aload_n 0, 1) := dk_42 (dk_at dksX8_set_0 16 rfl rfl)
theorem dX8_set_17 : decode cX8_set 17 = .ok (.aload_n 1, 1) := dk_43 (dk_at dksX8_set_0 17 rfl rfl)
theorem dX8_set_18 : decode cX8_set 18 = .ok (.getfield 70, 3) := dk_180 0 70 (dk_at dksX8_set_0 18 rfl rfl)
theorem dX8_set_21 : decode cX8_set 21 = .ok (.putfield 70, 3) := dk_181 0 70 (dk_at dksX8_set_0 21 rfl rfl)
theorem dX8_set_24 : decode cX8_set 24 = .ok (.aload_n 0, 1) := dk_42 (dk_at dksX8_set_1 0 rfl rfl)
theorem dX8_set_25 : decode cX8_set 25 = .ok (.aload_n 1, 1) := dk_43 (dk_at dksX8_set_1 1 rfl rfl)
theorem dX8_set_26 : decode cX8_set 26 = .ok (.getfield 73, 3) := dk_180 0 73 (dk_at dksX8_set_1 2 rfl rfl)
theorem dX8_set_29 : decode cX8_set 29 = .ok (.putfield 73, 3) := dk_181 0 73 (dk_at dksX8_set_1 5 rfl rfl)
theorem dX8_set_32 : decode cX8_set 32 = .ok (.aload_n 0, 1) := dk_42 (dk_at dksX8_set_1 8 rfl rfl)
theorem dX8_set_33 : decode cX8_set 33 = .ok (.aload_n 1, 1) := dk_43 (dk_at dksX8_set_1 9 rfl rfl)
theorem dX8_set_34 : decode cX8_set 34 = .ok (.getfield 76, 3) := dk_180 0 76 (dk_at dksX8_set_1 10 rfl rfl)
theorem dX8_set_37 : decode cX8_set 37 = .ok (.putfield 76, 3) := dk_181 0 76 (dk_at dksX8_set_1 13 rfl rfl)
theorem dX8_set_40 : decode cX8_set 40 = .ok (.aload_n 0, 1) := dk_42 (dk_at dksX8_set_1 16 rfl rfl)
theorem dX8_set_41 : decode cX8_set 41 = .ok (.aload_n 1, 1) := dk_43 (dk_at dksX8_set_1 17 rfl rfl)
theorem dX8_set_42 : decode cX8_set 42 = .ok (.getfield 45, 3) := dk_180 0 45 (dk_at dksX8_set_1 18 rfl rfl)
theorem dX8_set_45 : decode cX8_set 45 = .ok (.putfield 45, 3) := dk_181 0 45 (dk_at dksX8_set_1 21 rfl rfl)
theorem dX8_set_48 : decode cX8_set 48 = .ok (.aload_n 1, 1) := dk_43 (dk_at dksX8_set_2 0 rfl rfl)
theorem dX8_set_49 : decode cX8_set 49 = .ok (.getfield 9, 3) := dk_180 0 9 (dk_at dksX8_set_2 1 rfl rfl)
theorem dX8_set_52 : decode cX8_set 52 = .ok (.iconst 0, 1) := dk_3 (dk_at dksX8_set_2 4 rfl rfl)
theorem dX8_set_53 : decode cX8_set 53 = .ok (.aload_n 0, 1) := dk_42 (dk_at dksX8_set_2 5 rfl rfl)
theorem dX8_set_54 : decode cX8_set 54 = .ok (.getfield 9, 3) := dk_180 0 9 (dk_at dksX8_set_2 6 rfl rfl)
theorem dX8_set_57 : decode cX8_set 57 = .ok (.iconst 0, 1) := dk_3 (dk_at dksX8_set_2 9 rfl rfl)
theorem dX8_set_58 : decode cX8_set 58 = .ok (.bipush 8, 2) := dk_16 8 (dk_at dksX8_set_2 10 rfl rfl)
theorem dX8_set_60 : decode cX8_set 60 = .ok (.invokestatic 79, 3) := dk_184 0 79 (dk_at dksX8_set_2 12 rfl rfl)
theorem dX8_set_63 : decode cX8_set 63 = .ok (.aload_n 1, 1) := dk_43 (dk_at dksX8_set_2 15 rfl rfl)
theorem dX8_set_64 : decode cX8_set 64 = .ok (.getfield 15, 3) := dk_180 0 15 (dk_at dksX8_set_2 16 rfl rfl)
theorem dX8_set_67 : decode cX8_set 67 = .ok (.iconst 0, 1) := dk_3 (dk_at dksX8_set_2 19 rfl rfl)
theorem dX8_set_68 : decode cX8_set 68 = .ok (.aload_n 0, 1) := dk_42 (dk_at dksX8_set_2 20 rfl rfl)
theorem dX8_set_69 : decode cX8_set 69 = .ok (.getfield 15, 3) := dk_180 0 15 (dk_at dksX8_set_2 21 rfl rfl)
theorem dX8_set_72 : decode cX8_set 72 = .ok (.iconst 0, 1) := dk_3 (dk_at dksX8_set_3 0 rfl rfl)
theorem dX8_set_73 : decode cX8_set 73 = .ok (.bipush 8, 2) := dk_16 8 (dk_at dksX8_set_3 1 rfl rfl)
theorem dX8_set_75 : decode cX8_set 75 = .ok (.invokestatic 79, 3) := dk_184 0 79 (dk_at dksX8_set_3 3 rfl rfl)
theorem dX8_set_78 : decode cX8_set 78 = .ok (.aload_n 1, 1) := dk_43 (dk_at dksX8_set_3 6 rfl rfl)
theorem dX8_set_79 : decode cX8_set 79 = .ok (.getfield 20, 3) := dk_180 0 20 (dk_at dksX8_set_3 7 rfl rfl)
theorem dX8_set_82 : decode cX8_set 82 = .ok (.iconst 0, 1) := dk_3 (dk_at dksX8_set_3 10 rfl rfl)
theorem dX8_set_83 : decode cX8_set 83 = .ok (.aload_n 0, 1) := dk_42 (dk_at dksX8_set_3 11 rfl rfl)
theorem dX8_set_84 : decode cX8_set 84 = .ok (.getfield 20, 3) := dk_180 0 20 (dk_at dksX8_set_3 12 rfl rfl)
theorem dX8_set_87 : decode cX8_set 87 = .ok (.iconst 0, 1) := dk_3 (dk_at dksX8_set_3 15 rfl rfl)
theorem dX8_set_88 : decode cX8_set 88 = .ok (.iconst 5, 1) := dk_8 (dk_at dksX8_set_3 16 rfl rfl)
theorem dX8_set_89 : decode cX8_set 89 = .ok (.invokestatic 79, 3) := dk_184 0 79 (dk_at dksX8_set_3 17 rfl rfl)
theorem dX8_set_92 : decode cX8_set 92 = .ok (.aload_n 1, 1) := dk_43 (dk_at dksX8_set_3 20 rfl rfl)
theorem dX8_set_93 : decode cX8_set 93 = .ok (.getfield 26, 3) := dk_180 0 26 (dk_at dksX8_set_3 21 rfl rfl)
theorem dX8_set_96 : decode cX8_set 96 = .ok (.iconst 0, 1) := dk_3 (dk_at dksX8_set_4 0 rfl rfl)
theorem dX8_set_97 : decode cX8_set 97 = .ok (.aload_n 0, 1) := dk_42 (dk_at dksX8_set_4 1 rfl rfl)
theorem dX8_set_98 : decode cX8_set 98 = .ok (.getfield 26, 3) := dk_180 0 26 (dk_at dksX8_set_4 2 rfl rfl)
theorem dX8_set_101 : decode cX8_set 101 = .ok (.iconst 0, 1) := dk_3 (dk_at dksX8_set_4 5 rfl rfl)
theorem dX8_set_102 : decode cX8_set 102 = .ok (.bipush 6, 2) := dk_16 6 (dk_at dksX8_set_4 6 rfl rfl)
theorem dX8_set_104 : decode cX8_set 104 = .ok (.invokestatic 79, 3) := dk_184 0 79 (dk_at dksX8_set_4 8 rfl rfl)
theorem dX8_set_107 : decode cX8_set 107 = .ok (.aload_n 1, 1) := dk_43 (dk_at dksX8_set_4 11 rfl rfl)
theorem dX8_set_108 : decode cX8_set 108 = .ok (.getfield 30, 3) := dk_180 0 30 (dk_at dksX8_set_4 12 rfl rfl)
theorem dX8_set_111 : decode cX8_set 111 = .ok (.iconst 0, 1) := dk_3 (dk_at dksX8_set_4 15 rfl rfl)
theorem dX8_set_112 : decode cX8_set 112 = .ok (.aload_n 0, 1) := dk_42 (dk_at dksX8_set_4 16 rfl rfl)
theorem dX8_set_113 : decode cX8_set 113 = .ok (.getfield 30, 3) := dk_180 0 30 (dk_at dksX8_set_4 17 rfl rfl)
theorem dX8_set_116 : decode cX8_set 116 = .ok (.iconst 0, 1) := dk_3 (dk_at dksX8_set_4 20 rfl rfl)
theorem dX8_set_117 : decode cX8_set 117 = .ok (.bipush 6, 2) := dk_16 6 (dk_at dksX8_set_4 21 rfl rfl)
theorem dX8_set_119 : decode cX8_set 119 = .ok (.invokestatic 79, 3) := dk_184 0 79 (dk_at dksX8_set_5 0 rfl rfl)
theorem dX8_set_122 : decode cX8_set 122 = .ok (.aload_n 1, 1) := dk_43 (dk_at dksX8_set_5 3 rfl rfl)
theorem dX8_set_123 : decode cX8_set 123 = .ok (.getfield 33, 3) := dk_180 0 33 (dk_at dksX8_set_5 4 rfl rfl)
theorem dX8_set_126 : decode cX8_set 126 = .ok (.iconst 0, 1) := dk_3 (dk_at dksX8_set_5 7 rfl rfl)
theorem dX8_set_127 : decode cX8_set 127 = .ok (.aload_n 0, 1) := dk_42 (dk_at dksX8_set_5 8 rfl rfl)
theorem dX8_set_128 : decode cX8_set 128 = .ok (.getfield 33, 3) := dk_180 0 33 (dk_at dksX8_set_5 9 rfl rfl)
theorem dX8_set_131 : decode cX8_set 131 = .ok (.iconst 0, 1) := dk_3 (dk_at dksX8_set_5 12 rfl rfl)
theorem dX8_set_132 : decode cX8_set 132 = .ok (.bipush 6, 2) := dk_16 6 (dk_at dksX8_set_5 13 rfl rfl)
theorem dX8_set_134 : decode cX8_set 134 = .ok (.invokestatic 79, 3) := dk_184 0 79 (dk_at dksX8_set_5 15 rfl rfl)
theorem dX8_set_137 : decode cX8_set 137 = .ok (.aload_n 1, 1) := dk_43 (dk_at dksX8_set_5 18 rfl rfl)
theorem dX8_set_138 : decode cX8_set 138 = .ok (.getfield 36, 3) := dk_180 0 36 (dk_at dksX8_set_5 19 rfl rfl)
theorem dX8_set_141 : decode cX8_set 141 = .ok (.iconst 0, 1) := dk_3 (dk_at dksX8_set_5 22 rfl rfl)
theorem dX8_set_142 : decode cX8_set 142 = .ok (.aload_n 0, 1) := dk_42 (dk_at dksX8_set_5 23 rfl rfl)
theorem dX8_set_143 : decode cX8_set 143 = .ok (.getfield 36, 3) := dk_180 0 36 (dk_at dksX8_set_6 0 rfl rfl)
theorem dX8_set_146 : decode cX8_set 146 = .ok (.iconst 0, 1) := dk_3 (dk_at dksX8_set_6 3 rfl rfl)
theorem dX8_set_147 : decode cX8_set 147 = .ok (.bipush 6, 2) := dk_16 6 (dk_at dksX8_set_6 4 rfl rfl)
theorem dX8_set_149 : decode cX8_set 149 = .ok (.invokestatic 79, 3) := dk_184 0 79 (dk_at dksX8_set_6 6 rfl rfl)
theorem dX8_set_152 : decode cX8_set 152 = .ok (.aload_n 1, 1) := dk_43 (dk_at dksX8_set_6 9 rfl rfl)
theorem dX8_set_153 : decode cX8_set 153 = .ok (.getfield 39, 3) := dk_180 0 39 (dk_at dksX8_set_6 10 rfl rfl)
theorem dX8_set_156 : decode cX8_set 156 = .ok (.iconst 0, 1) := dk_3 (dk_at dksX8_set_6 13 rfl rfl)
theorem dX8_set_157 : decode cX8_set 157 = .ok (.aload_n 0, 1) := dk_42 (dk_at dksX8_set_6 14 rfl rfl)
theorem dX8_set_158 : decode cX8_set 158 = .ok (.getfield 39, 3) := dk_180 0 39 (dk_at dksX8_set_6 15 rfl rfl)
theorem dX8_set_161 : decode cX8_set 161 = .ok (.iconst 0, 1) := dk_3 (dk_at dksX8_set_6 18 rfl rfl)
theorem dX8_set_162 : decode cX8_set 162 = .ok (.bipush 6, 2) := dk_16 6 (dk_at dksX8_set_6 19 rfl rfl)
theorem dX8_set_164 : decode cX8_set 164 = .ok (.invokestatic 79, 3) := dk_184 0 79 (dk_at dksX8_set_6 21 rfl rfl)
theorem dX8_set_167 : decode cX8_set 167 = .ok (.aload_n 1, 1) := dk_43 (dk_at dksX8_set_7 0 rfl rfl)
theorem dX8_set_168 : decode cX8_set 168 = .ok (.getfield 42, 3) := dk_180 0 42 (dk_at dksX8_set_7 1 rfl rfl)
theorem dX8_set_171 : decode cX8_set 171 = .ok (.iconst 0, 1) := dk_3 (dk_at dksX8_set_7 4 rfl rfl)
theorem dX8_set_172 : decode cX8_set 172 = .ok (.aload_n 0, 1) := dk_42 (dk_at dksX8_set_7 5 rfl rfl)
theorem dX8_set_173 : decode cX8_set 173 = .ok (.getfield 42, 3) := dk_180 0 42 (dk_at dksX8_set_7 6 rfl rfl)
theorem dX8_set_176 : decode cX8_set 176 = .ok (.iconst 0, 1) := dk_3 (dk_at dksX8_set_7 9 rfl rfl)
theorem dX8_set_177 : decode cX8_set 177 = .ok (.bipush 6, 2) := dk_16 6 (dk_at dksX8_set_7 10 rfl rfl)
theorem dX8_set_179 : decode cX8_set 179 = .ok (.invokestatic 79, 3) := dk_184 0 79 (dk_at dksX8_set_7 12 rfl rfl)
theorem dX8_set_182 : decode cX8_set 182 = .ok (.return_, 1) := dk_177 (dk_at dksX8_set_7 15 rfl rfl)
abbrev cX8_get : ByteArray := prog_15_method_4_code
def yX8_get : MethodName := ⟨RX8, "get", "(II)V"⟩
def dkwX8_get_1 : List UInt8 := [42, 180, 0, 20, 28, 50, 182, 0, 85, 184, 0, 89, 79, 177]
abbrev dktX8_get_1 : List UInt8 := dkwX8_get_1 ++ []
def dkwX8_get_0 : List UInt8 := [42, 180, 0, 36, 27, 28, 79, 42, 180, 0, 39, 27, 28, 16, 247, 160, 0, 7, 3, 167, 0, 17, 16, 60]
abbrev dktX8_get_0 : List UInt8 := dkwX8_get_0 ++ dktX8_get_1
theorem dksX8_get_0 : cX8_get.data.toList.drop 0 = dktX8_get_0 := by decide +kernel
theorem dksX8_get_1 : cX8_get.data.toList.drop 24 = dktX8_get_1 := dk_seg dksX8_get_0 24 rfl rfl
theorem dX8_get_0 : decode cX8_get 0 = .ok (.aload_n 0, 1) := dk_42 (dk_at dksX8_get_0 0 rfl rfl)
theorem dX8_get_1 : decode cX8_get 1 = .ok (.getfield 36, 3) := dk_180 0 36 (dk_at dksX8_get_0 1 rfl rfl)
theorem dX8_get_4 : decode cX8_get 4 = .ok (.iload_n 1, 1) := dk_27 (dk_at dksX8_get_0 4 rfl rfl)
theorem dX8_get_5 : decode cX8_get 5 = .ok (.iload_n 2, 1) := dk_28 (dk_at dksX8_get_0 5 rfl rfl)
theorem dX8_get_6 : decode cX8_get 6 = .ok (.iastore, 1) := dk_79 (dk_at dksX8_get_0 6 rfl rfl)
theorem dX8_get_7 : decode cX8_get 7 = .ok (.aload_n 0, 1) := dk_42 (dk_at dksX8_get_0 7 rfl rfl)
theorem dX8_get_8 : decode cX8_get 8 = .ok (.getfield 39, 3) := dk_180 0 39 (dk_at dksX8_get_0 8 rfl rfl)
theorem dX8_get_11 : decode cX8_get 11 = .ok (.iload_n 1, 1) := dk_27 (dk_at dksX8_get_0 11 rfl rfl)
theorem dX8_get_12 : decode cX8_get 12 = .ok (.iload_n 2, 1) := dk_28 (dk_at dksX8_get_0 12 rfl rfl)
theorem dX8_get_13 : decode cX8_get 13 = .ok (.bipush (-9), 2) := dk_16 247 (dk_at dksX8_get_0 13 rfl rfl)
theorem dX8_get_15 : decode cX8_get 15 = .ok (.if_icmp .ne 7, 3) := dk_160 0 7 (dk_at dksX8_get_0 15 rfl rfl)
theorem dX8_get_18 : decode cX8_get 18 = .ok (.iconst 0, 1) := dk_3 (dk_at dksX8_get_0 18 rfl rfl)
theorem dX8_get_19 : decode cX8_get 19 = .ok (.goto 17, 3) := dk_167 0 17 (dk_at dksX8_get_0 19 rfl rfl)
theorem dX8_get_22 : decode cX8_get 22 = .ok (.bipush 60, 2) := dk_16 60 (dk_at dksX8_get_0 22 rfl rfl)
theorem dX8_get_24 : decode cX8_get 24 = .ok (.aload_n 0, 1) := dk_42 (dk_at dksX8_get_1 0 rfl rfl)
theorem dX8_get_25 : decode cX8_get 25 = .ok (.getfield 20, 3) := dk_180 0 20 (dk_at dksX8_get_1 1 rfl rfl)
theorem dX8_get_28 : decode cX8_get 28 = .ok (.iload_n 2, 1) := dk_28 (dk_at dksX8_get_1 4 rfl rfl)
theorem dX8_get_29 : decode cX8_get 29 = .ok (.aaload, 1) := dk_50 (dk_at dksX8_get_1 5 rfl rfl)
theorem dX8_get_30 : decode cX8_get 30 = .ok (.invokevirtual 85, 3) := dk_182 0 85 (dk_at dksX8_get_1 6 rfl rfl)
theorem dX8_get_33 : decode cX8_get 33 = .ok (.invokestatic 89, 3) := dk_184 0 89 (dk_at dksX8_get_1 9 rfl rfl)
theorem dX8_get_36 : decode cX8_get 36 = .ok (.iastore, 1) := dk_79 (dk_at dksX8_get_1 12 rfl rfl)
theorem dX8_get_37 : decode cX8_get 37 = .ok (.return_, 1) := dk_177 (dk_at dksX8_get_1 13 rfl rfl)
abbrev cX8_have : ByteArray := prog_15_method_15_code
def yX8_have : MethodName := ⟨RX8, "have", "(I)I"⟩
def dkwX8_have_2 : List UInt8 := [167, 255, 212, 28, 172]
abbrev dktX8_have_2 : List UInt8 := dkwX8_have_2 ++ []
def dkwX8_have_1 : List UInt8 := [27, 155, 0, 13, 42, 180, 0, 36, 29, 46, 27, 160, 0, 7, 4, 167, 0, 4, 3, 96, 61, 132, 3, 1]
abbrev dktX8_have_1 : List UInt8 := dkwX8_have_1 ++ dktX8_have_2
def dkwX8_have_0 : List UInt8 := [3, 61, 3, 62, 29, 42, 180, 0, 73, 162, 0, 42, 28, 42, 180, 0, 36, 29, 46, 16, 247, 159, 0, 21]
abbrev dktX8_have_0 : List UInt8 := dkwX8_have_0 ++ dktX8_have_1
theorem dksX8_have_0 : cX8_have.data.toList.drop 0 = dktX8_have_0 := by decide +kernel
theorem dksX8_have_1 : cX8_have.data.toList.drop 24 = dktX8_have_1 := dk_seg dksX8_have_0 24 rfl rfl
theorem dksX8_have_2 : cX8_have.data.toList.drop 48 = dktX8_have_2 := dk_seg dksX8_have_1 24 rfl rfl
theorem dX8_have_0 : decode cX8_have 0 = .ok (.iconst 0, 1) := dk_3 (dk_at dksX8_have_0 0 rfl rfl)
theorem dX8_have_1 : decode cX8_have 1 = .ok (.istore_n 2, 1) := dk_61 (dk_at dksX8_have_0 1 rfl rfl)
theorem dX8_have_2 : decode cX8_have 2 = .ok (.iconst 0, 1) := dk_3 (dk_at dksX8_have_0 2 rfl rfl)
theorem dX8_have_3 : decode cX8_have 3 = .ok (.istore_n 3, 1) := dk_62 (dk_at dksX8_have_0 3 rfl rfl)
theorem dX8_have_4 : decode cX8_have 4 = .ok (.iload_n 3, 1) := dk_29 (dk_at dksX8_have_0 4 rfl rfl)
theorem dX8_have_5 : decode cX8_have 5 = .ok (.aload_n 0, 1) := dk_42 (dk_at dksX8_have_0 5 rfl rfl)
theorem dX8_have_6 : decode cX8_have 6 = .ok (.getfield 73, 3) := dk_180 0 73 (dk_at dksX8_have_0 6 rfl rfl)
theorem dX8_have_9 : decode cX8_have 9 = .ok (.if_icmp .ge 42, 3) := dk_162 0 42 (dk_at dksX8_have_0 9 rfl rfl)
theorem dX8_have_12 : decode cX8_have 12 = .ok (.iload_n 2, 1) := dk_28 (dk_at dksX8_have_0 12 rfl rfl)
theorem dX8_have_13 : decode cX8_have 13 = .ok (.aload_n 0, 1) := dk_42 (dk_at dksX8_have_0 13 rfl rfl)
theorem dX8_have_14 : decode cX8_have 14 = .ok (.getfield 36, 3) := dk_180 0 36 (dk_at dksX8_have_0 14 rfl rfl)
theorem dX8_have_17 : decode cX8_have 17 = .ok (.iload_n 3, 1) := dk_29 (dk_at dksX8_have_0 17 rfl rfl)
theorem dX8_have_18 : decode cX8_have 18 = .ok (.iaload, 1) := dk_46 (dk_at dksX8_have_0 18 rfl rfl)
theorem dX8_have_19 : decode cX8_have 19 = .ok (.bipush (-9), 2) := dk_16 247 (dk_at dksX8_have_0 19 rfl rfl)
theorem dX8_have_21 : decode cX8_have 21 = .ok (.if_icmp .eq 21, 3) := dk_159 0 21 (dk_at dksX8_have_0 21 rfl rfl)
theorem dX8_have_24 : decode cX8_have 24 = .ok (.iload_n 1, 1) := dk_27 (dk_at dksX8_have_1 0 rfl rfl)
theorem dX8_have_25 : decode cX8_have 25 = .ok (.ifCond .lt 13, 3) := dk_155 0 13 (dk_at dksX8_have_1 1 rfl rfl)
theorem dX8_have_28 : decode cX8_have 28 = .ok (.aload_n 0, 1) := dk_42 (dk_at dksX8_have_1 4 rfl rfl)
theorem dX8_have_29 : decode cX8_have 29 = .ok (.getfield 36, 3) := dk_180 0 36 (dk_at dksX8_have_1 5 rfl rfl)
theorem dX8_have_32 : decode cX8_have 32 = .ok (.iload_n 3, 1) := dk_29 (dk_at dksX8_have_1 8 rfl rfl)
theorem dX8_have_33 : decode cX8_have 33 = .ok (.iaload, 1) := dk_46 (dk_at dksX8_have_1 9 rfl rfl)
theorem dX8_have_34 : decode cX8_have 34 = .ok (.iload_n 1, 1) := dk_27 (dk_at dksX8_have_1 10 rfl rfl)
theorem dX8_have_35 : decode cX8_have 35 = .ok (.if_icmp .ne 7, 3) := dk_160 0 7 (dk_at dksX8_have_1 11 rfl rfl)
theorem dX8_have_38 : decode cX8_have 38 = .ok (.iconst 1, 1) := dk_4 (dk_at dksX8_have_1 14 rfl rfl)
theorem dX8_have_39 : decode cX8_have 39 = .ok (.goto 4, 3) := dk_167 0 4 (dk_at dksX8_have_1 15 rfl rfl)
theorem dX8_have_42 : decode cX8_have 42 = .ok (.iconst 0, 1) := dk_3 (dk_at dksX8_have_1 18 rfl rfl)
theorem dX8_have_43 : decode cX8_have 43 = .ok (.iadd, 1) := dk_96 (dk_at dksX8_have_1 19 rfl rfl)
theorem dX8_have_44 : decode cX8_have 44 = .ok (.istore_n 2, 1) := dk_61 (dk_at dksX8_have_1 20 rfl rfl)
theorem dX8_have_45 : decode cX8_have 45 = .ok (.iinc 3 1, 3) := dk_132 3 1 (dk_at dksX8_have_1 21 rfl rfl)
theorem dX8_have_48 : decode cX8_have 48 = .ok (.goto (-44), 3) := dk_167 255 212 (dk_at dksX8_have_2 0 rfl rfl)
theorem dX8_have_51 : decode cX8_have 51 = .ok (.iload_n 2, 1) := dk_28 (dk_at dksX8_have_2 3 rfl rfl)
theorem dX8_have_52 : decode cX8_have 52 = .ok (.ireturn, 1) := dk_172 (dk_at dksX8_have_2 4 rfl rfl)
abbrev cX8_bar : ByteArray := prog_15_method_8_code
def yX8_bar : MethodName := ⟨RX8, "bar", "(I)I"⟩
def dkwX8_bar_0 : List UInt8 := [42, 180, 0, 26, 27, 50, 42, 180, 0, 33, 27, 46, 182, 0, 106, 172]
abbrev dktX8_bar_0 : List UInt8 := dkwX8_bar_0 ++ []
theorem dksX8_bar_0 : cX8_bar.data.toList.drop 0 = dktX8_bar_0 := by decide +kernel
theorem dX8_bar_0 : decode cX8_bar 0 = .ok (.aload_n 0, 1) := dk_42 (dk_at dksX8_bar_0 0 rfl rfl)
theorem dX8_bar_1 : decode cX8_bar 1 = .ok (.getfield 26, 3) := dk_180 0 26 (dk_at dksX8_bar_0 1 rfl rfl)
theorem dX8_bar_4 : decode cX8_bar 4 = .ok (.iload_n 1, 1) := dk_27 (dk_at dksX8_bar_0 4 rfl rfl)
theorem dX8_bar_5 : decode cX8_bar 5 = .ok (.aaload, 1) := dk_50 (dk_at dksX8_bar_0 5 rfl rfl)
theorem dX8_bar_6 : decode cX8_bar 6 = .ok (.aload_n 0, 1) := dk_42 (dk_at dksX8_bar_0 6 rfl rfl)
theorem dX8_bar_7 : decode cX8_bar 7 = .ok (.getfield 33, 3) := dk_180 0 33 (dk_at dksX8_bar_0 7 rfl rfl)
theorem dX8_bar_10 : decode cX8_bar 10 = .ok (.iload_n 1, 1) := dk_27 (dk_at dksX8_bar_0 10 rfl rfl)
theorem dX8_bar_11 : decode cX8_bar 11 = .ok (.iaload, 1) := dk_46 (dk_at dksX8_bar_0 11 rfl rfl)
theorem dX8_bar_12 : decode cX8_bar 12 = .ok (.invokevirtual 106, 3) := dk_182 0 106 (dk_at dksX8_bar_0 12 rfl rfl)
theorem dX8_bar_15 : decode cX8_bar 15 = .ok (.ireturn, 1) := dk_172 (dk_at dksX8_bar_0 15 rfl rfl)
abbrev cX8_hums : ByteArray := prog_15_method_7_code
def yX8_hums : MethodName := ⟨RX8, "hums", "(I)Z"⟩
def dkwX8_hums_1 : List UInt8 := [180, 0, 45, 42, 180, 0, 76, 182, 0, 102, 153, 0, 7, 4, 167, 0, 4, 3, 172]
abbrev dktX8_hums_1 : List UInt8 := dkwX8_hums_1 ++ []
def dkwX8_hums_0 : List UInt8 := [42, 180, 0, 36, 27, 46, 16, 247, 159, 0, 33, 42, 180, 0, 26, 27, 50, 42, 180, 0, 39, 27, 46, 42]
abbrev dktX8_hums_0 : List UInt8 := dkwX8_hums_0 ++ dktX8_hums_1
theorem dksX8_hums_0 : cX8_hums.data.toList.drop 0 = dktX8_hums_0 := by decide +kernel
theorem dksX8_hums_1 : cX8_hums.data.toList.drop 24 = dktX8_hums_1 := dk_seg dksX8_hums_0 24 rfl rfl
theorem dX8_hums_0 : decode cX8_hums 0 = .ok (.aload_n 0, 1) := dk_42 (dk_at dksX8_hums_0 0 rfl rfl)
theorem dX8_hums_1 : decode cX8_hums 1 = .ok (.getfield 36, 3) := dk_180 0 36 (dk_at dksX8_hums_0 1 rfl rfl)
theorem dX8_hums_4 : decode cX8_hums 4 = .ok (.iload_n 1, 1) := dk_27 (dk_at dksX8_hums_0 4 rfl rfl)
theorem dX8_hums_5 : decode cX8_hums 5 = .ok (.iaload, 1) := dk_46 (dk_at dksX8_hums_0 5 rfl rfl)
theorem dX8_hums_6 : decode cX8_hums 6 = .ok (.bipush (-9), 2) := dk_16 247 (dk_at dksX8_hums_0 6 rfl rfl)
theorem dX8_hums_8 : decode cX8_hums 8 = .ok (.if_icmp .eq 33, 3) := dk_159 0 33 (dk_at dksX8_hums_0 8 rfl rfl)
theorem dX8_hums_11 : decode cX8_hums 11 = .ok (.aload_n 0, 1) := dk_42 (dk_at dksX8_hums_0 11 rfl rfl)
theorem dX8_hums_12 : decode cX8_hums 12 = .ok (.getfield 26, 3) := dk_180 0 26 (dk_at dksX8_hums_0 12 rfl rfl)
theorem dX8_hums_15 : decode cX8_hums 15 = .ok (.iload_n 1, 1) := dk_27 (dk_at dksX8_hums_0 15 rfl rfl)
theorem dX8_hums_16 : decode cX8_hums 16 = .ok (.aaload, 1) := dk_50 (dk_at dksX8_hums_0 16 rfl rfl)
theorem dX8_hums_17 : decode cX8_hums 17 = .ok (.aload_n 0, 1) := dk_42 (dk_at dksX8_hums_0 17 rfl rfl)
theorem dX8_hums_18 : decode cX8_hums 18 = .ok (.getfield 39, 3) := dk_180 0 39 (dk_at dksX8_hums_0 18 rfl rfl)
theorem dX8_hums_21 : decode cX8_hums 21 = .ok (.iload_n 1, 1) := dk_27 (dk_at dksX8_hums_0 21 rfl rfl)
theorem dX8_hums_22 : decode cX8_hums 22 = .ok (.iaload, 1) := dk_46 (dk_at dksX8_hums_0 22 rfl rfl)
theorem dX8_hums_23 : decode cX8_hums 23 = .ok (.aload_n 0, 1) := dk_42 (dk_at dksX8_hums_0 23 rfl rfl)
theorem dX8_hums_24 : decode cX8_hums 24 = .ok (.getfield 45, 3) := dk_180 0 45 (dk_at dksX8_hums_1 0 rfl rfl)
theorem dX8_hums_27 : decode cX8_hums 27 = .ok (.aload_n 0, 1) := dk_42 (dk_at dksX8_hums_1 3 rfl rfl)
theorem dX8_hums_28 : decode cX8_hums 28 = .ok (.getfield 76, 3) := dk_180 0 76 (dk_at dksX8_hums_1 4 rfl rfl)
theorem dX8_hums_31 : decode cX8_hums 31 = .ok (.invokevirtual 102, 3) := dk_182 0 102 (dk_at dksX8_hums_1 7 rfl rfl)
theorem dX8_hums_34 : decode cX8_hums 34 = .ok (.ifCond .eq 7, 3) := dk_153 0 7 (dk_at dksX8_hums_1 10 rfl rfl)
theorem dX8_hums_37 : decode cX8_hums 37 = .ok (.iconst 1, 1) := dk_4 (dk_at dksX8_hums_1 13 rfl rfl)
theorem dX8_hums_38 : decode cX8_hums 38 = .ok (.goto 4, 3) := dk_167 0 4 (dk_at dksX8_hums_1 14 rfl rfl)
theorem dX8_hums_41 : decode cX8_hums 41 = .ok (.iconst 0, 1) := dk_3 (dk_at dksX8_hums_1 17 rfl rfl)
theorem dX8_hums_42 : decode cX8_hums 42 = .ok (.ireturn, 1) := dk_172 (dk_at dksX8_hums_1 18 rfl rfl)
abbrev cX8_areNear : ByteArray := prog_15_method_6_code
def yX8_areNear : MethodName := ⟨RX8, "areNear", "(II)Z"⟩
def dkwX8_areNear_1 : List UInt8 := [4, 167, 0, 4, 3, 172]
abbrev dktX8_areNear_1 : List UInt8 := dkwX8_areNear_1 ++ []
def dkwX8_areNear_0 : List UInt8 := [27, 28, 159, 0, 26, 42, 42, 180, 0, 30, 27, 46, 42, 180, 0, 30, 28, 46, 182, 0, 99, 153, 0, 7]
abbrev dktX8_areNear_0 : List UInt8 := dkwX8_areNear_0 ++ dktX8_areNear_1
theorem dksX8_areNear_0 : cX8_areNear.data.toList.drop 0 = dktX8_areNear_0 := by decide +kernel
theorem dksX8_areNear_1 : cX8_areNear.data.toList.drop 24 = dktX8_areNear_1 := dk_seg dksX8_areNear_0 24 rfl rfl
theorem dX8_areNear_0 : decode cX8_areNear 0 = .ok (.iload_n 1, 1) := dk_27 (dk_at dksX8_areNear_0 0 rfl rfl)
theorem dX8_areNear_1 : decode cX8_areNear 1 = .ok (.iload_n 2, 1) := dk_28 (dk_at dksX8_areNear_0 1 rfl rfl)
theorem dX8_areNear_2 : decode cX8_areNear 2 = .ok (.if_icmp .eq 26, 3) := dk_159 0 26 (dk_at dksX8_areNear_0 2 rfl rfl)
theorem dX8_areNear_5 : decode cX8_areNear 5 = .ok (.aload_n 0, 1) := dk_42 (dk_at dksX8_areNear_0 5 rfl rfl)
theorem dX8_areNear_6 : decode cX8_areNear 6 = .ok (.aload_n 0, 1) := dk_42 (dk_at dksX8_areNear_0 6 rfl rfl)
theorem dX8_areNear_7 : decode cX8_areNear 7 = .ok (.getfield 30, 3) := dk_180 0 30 (dk_at dksX8_areNear_0 7 rfl rfl)
theorem dX8_areNear_10 : decode cX8_areNear 10 = .ok (.iload_n 1, 1) := dk_27 (dk_at dksX8_areNear_0 10 rfl rfl)
theorem dX8_areNear_11 : decode cX8_areNear 11 = .ok (.iaload, 1) := dk_46 (dk_at dksX8_areNear_0 11 rfl rfl)
theorem dX8_areNear_12 : decode cX8_areNear 12 = .ok (.aload_n 0, 1) := dk_42 (dk_at dksX8_areNear_0 12 rfl rfl)
theorem dX8_areNear_13 : decode cX8_areNear 13 = .ok (.getfield 30, 3) := dk_180 0 30 (dk_at dksX8_areNear_0 13 rfl rfl)
theorem dX8_areNear_16 : decode cX8_areNear 16 = .ok (.iload_n 2, 1) := dk_28 (dk_at dksX8_areNear_0 16 rfl rfl)
theorem dX8_areNear_17 : decode cX8_areNear 17 = .ok (.iaload, 1) := dk_46 (dk_at dksX8_areNear_0 17 rfl rfl)
theorem dX8_areNear_18 : decode cX8_areNear 18 = .ok (.invokevirtual 99, 3) := dk_182 0 99 (dk_at dksX8_areNear_0 18 rfl rfl)
theorem dX8_areNear_21 : decode cX8_areNear 21 = .ok (.ifCond .eq 7, 3) := dk_153 0 7 (dk_at dksX8_areNear_0 21 rfl rfl)
theorem dX8_areNear_24 : decode cX8_areNear 24 = .ok (.iconst 1, 1) := dk_4 (dk_at dksX8_areNear_1 0 rfl rfl)
theorem dX8_areNear_25 : decode cX8_areNear 25 = .ok (.goto 4, 3) := dk_167 0 4 (dk_at dksX8_areNear_1 1 rfl rfl)
theorem dX8_areNear_28 : decode cX8_areNear 28 = .ok (.iconst 0, 1) := dk_3 (dk_at dksX8_areNear_1 4 rfl rfl)
theorem dX8_areNear_29 : decode cX8_areNear 29 = .ok (.ireturn, 1) := dk_172 (dk_at dksX8_areNear_1 5 rfl rfl)
abbrev cX8_isOpenBetween : ByteArray := prog_15_method_5_code
def yX8_isOpenBetween : MethodName := ⟨RX8, "isOpenBetween", "(II)Z"⟩
def dkwX8_isOpenBetween_4 : List UInt8 := [4, 167, 0, 4, 3, 128, 62, 132, 4, 1, 167, 255, 168, 29, 172]
abbrev dktX8_isOpenBetween_4 : List UInt8 := dkwX8_isOpenBetween_4 ++ []
def dkwX8_isOpenBetween_3 : List UInt8 := [167, 0, 4, 3, 54, 5, 29, 21, 5, 153, 0, 19, 42, 180, 0, 67, 21, 4, 184, 0, 95, 154, 0, 7]
abbrev dktX8_isOpenBetween_3 : List UInt8 := dkwX8_isOpenBetween_3 ++ dktX8_isOpenBetween_4
def dkwX8_isOpenBetween_2 : List UInt8 := [180, 0, 9, 21, 4, 46, 28, 160, 0, 18, 42, 180, 0, 15, 21, 4, 46, 27, 160, 0, 7, 4]
abbrev dktX8_isOpenBetween_2 : List UInt8 := dkwX8_isOpenBetween_2 ++ dktX8_isOpenBetween_3
def dkwX8_isOpenBetween_1 : List UInt8 := [180, 0, 9, 21, 4, 46, 27, 160, 0, 14, 42, 180, 0, 15, 21, 4, 46, 28, 159, 0, 25, 42]
abbrev dktX8_isOpenBetween_1 : List UInt8 := dkwX8_isOpenBetween_1 ++ dktX8_isOpenBetween_2
def dkwX8_isOpenBetween_0 : List UInt8 := [27, 28, 160, 0, 7, 4, 167, 0, 4, 3, 62, 3, 54, 4, 21, 4, 42, 180, 0, 64, 162, 0, 85, 42]
abbrev dktX8_isOpenBetween_0 : List UInt8 := dkwX8_isOpenBetween_0 ++ dktX8_isOpenBetween_1
theorem dksX8_isOpenBetween_0 : cX8_isOpenBetween.data.toList.drop 0 = dktX8_isOpenBetween_0 := by decide +kernel
theorem dksX8_isOpenBetween_1 : cX8_isOpenBetween.data.toList.drop 24 = dktX8_isOpenBetween_1 := dk_seg dksX8_isOpenBetween_0 24 rfl rfl
theorem dksX8_isOpenBetween_2 : cX8_isOpenBetween.data.toList.drop 46 = dktX8_isOpenBetween_2 := dk_seg dksX8_isOpenBetween_1 22 rfl rfl
theorem dksX8_isOpenBetween_3 : cX8_isOpenBetween.data.toList.drop 68 = dktX8_isOpenBetween_3 := dk_seg dksX8_isOpenBetween_2 22 rfl rfl
theorem dksX8_isOpenBetween_4 : cX8_isOpenBetween.data.toList.drop 92 = dktX8_isOpenBetween_4 := dk_seg dksX8_isOpenBetween_3 24 rfl rfl
theorem dX8_isOpenBetween_0 : decode cX8_isOpenBetween 0 = .ok (.iload_n 1, 1) := dk_27 (dk_at dksX8_isOpenBetween_0 0 rfl rfl)
theorem dX8_isOpenBetween_1 : decode cX8_isOpenBetween 1 = .ok (.iload_n 2, 1) := dk_28 (dk_at dksX8_isOpenBetween_0 1 rfl rfl)
theorem dX8_isOpenBetween_2 : decode cX8_isOpenBetween 2 = .ok (.if_icmp .ne 7, 3) := dk_160 0 7 (dk_at dksX8_isOpenBetween_0 2 rfl rfl)
theorem dX8_isOpenBetween_5 : decode cX8_isOpenBetween 5 = .ok (.iconst 1, 1) := dk_4 (dk_at dksX8_isOpenBetween_0 5 rfl rfl)
theorem dX8_isOpenBetween_6 : decode cX8_isOpenBetween 6 = .ok (.goto 4, 3) := dk_167 0 4 (dk_at dksX8_isOpenBetween_0 6 rfl rfl)
theorem dX8_isOpenBetween_9 : decode cX8_isOpenBetween 9 = .ok (.iconst 0, 1) := dk_3 (dk_at dksX8_isOpenBetween_0 9 rfl rfl)
theorem dX8_isOpenBetween_10 : decode cX8_isOpenBetween 10 = .ok (.istore_n 3, 1) := dk_62 (dk_at dksX8_isOpenBetween_0 10 rfl rfl)
theorem dX8_isOpenBetween_11 : decode cX8_isOpenBetween 11 = .ok (.iconst 0, 1) := dk_3 (dk_at dksX8_isOpenBetween_0 11 rfl rfl)
theorem dX8_isOpenBetween_12 : decode cX8_isOpenBetween 12 = .ok (.istore 4, 2) := dk_54 4 (dk_at dksX8_isOpenBetween_0 12 rfl rfl)
theorem dX8_isOpenBetween_14 : decode cX8_isOpenBetween 14 = .ok (.iload 4, 2) := dk_21 4 (dk_at dksX8_isOpenBetween_0 14 rfl rfl)
theorem dX8_isOpenBetween_16 : decode cX8_isOpenBetween 16 = .ok (.aload_n 0, 1) := dk_42 (dk_at dksX8_isOpenBetween_0 16 rfl rfl)
theorem dX8_isOpenBetween_17 : decode cX8_isOpenBetween 17 = .ok (.getfield 64, 3) := dk_180 0 64 (dk_at dksX8_isOpenBetween_0 17 rfl rfl)
theorem dX8_isOpenBetween_20 : decode cX8_isOpenBetween 20 = .ok (.if_icmp .ge 85, 3) := dk_162 0 85 (dk_at dksX8_isOpenBetween_0 20 rfl rfl)
theorem dX8_isOpenBetween_23 : decode cX8_isOpenBetween 23 = .ok (.aload_n 0, 1) := dk_42 (dk_at dksX8_isOpenBetween_0 23 rfl rfl)
theorem dX8_isOpenBetween_24 : decode cX8_isOpenBetween 24 = .ok (.getfield 9, 3) := dk_180 0 9 (dk_at dksX8_isOpenBetween_1 0 rfl rfl)
theorem dX8_isOpenBetween_27 : decode cX8_isOpenBetween 27 = .ok (.iload 4, 2) := dk_21 4 (dk_at dksX8_isOpenBetween_1 3 rfl rfl)
theorem dX8_isOpenBetween_29 : decode cX8_isOpenBetween 29 = .ok (.iaload, 1) := dk_46 (dk_at dksX8_isOpenBetween_1 5 rfl rfl)
theorem dX8_isOpenBetween_30 : decode cX8_isOpenBetween 30 = .ok (.iload_n 1, 1) := dk_27 (dk_at dksX8_isOpenBetween_1 6 rfl rfl)
theorem dX8_isOpenBetween_31 : decode cX8_isOpenBetween 31 = .ok (.if_icmp .ne 14, 3) := dk_160 0 14 (dk_at dksX8_isOpenBetween_1 7 rfl rfl)
theorem dX8_isOpenBetween_34 : decode cX8_isOpenBetween 34 = .ok (.aload_n 0, 1) := dk_42 (dk_at dksX8_isOpenBetween_1 10 rfl rfl)
theorem dX8_isOpenBetween_35 : decode cX8_isOpenBetween 35 = .ok (.getfield 15, 3) := dk_180 0 15 (dk_at dksX8_isOpenBetween_1 11 rfl rfl)
theorem dX8_isOpenBetween_38 : decode cX8_isOpenBetween 38 = .ok (.iload 4, 2) := dk_21 4 (dk_at dksX8_isOpenBetween_1 14 rfl rfl)
theorem dX8_isOpenBetween_40 : decode cX8_isOpenBetween 40 = .ok (.iaload, 1) := dk_46 (dk_at dksX8_isOpenBetween_1 16 rfl rfl)
theorem dX8_isOpenBetween_41 : decode cX8_isOpenBetween 41 = .ok (.iload_n 2, 1) := dk_28 (dk_at dksX8_isOpenBetween_1 17 rfl rfl)
theorem dX8_isOpenBetween_42 : decode cX8_isOpenBetween 42 = .ok (.if_icmp .eq 25, 3) := dk_159 0 25 (dk_at dksX8_isOpenBetween_1 18 rfl rfl)
theorem dX8_isOpenBetween_45 : decode cX8_isOpenBetween 45 = .ok (.aload_n 0, 1) := dk_42 (dk_at dksX8_isOpenBetween_1 21 rfl rfl)
theorem dX8_isOpenBetween_46 : decode cX8_isOpenBetween 46 = .ok (.getfield 9, 3) := dk_180 0 9 (dk_at dksX8_isOpenBetween_2 0 rfl rfl)
theorem dX8_isOpenBetween_49 : decode cX8_isOpenBetween 49 = .ok (.iload 4, 2) := dk_21 4 (dk_at dksX8_isOpenBetween_2 3 rfl rfl)
theorem dX8_isOpenBetween_51 : decode cX8_isOpenBetween 51 = .ok (.iaload, 1) := dk_46 (dk_at dksX8_isOpenBetween_2 5 rfl rfl)
theorem dX8_isOpenBetween_52 : decode cX8_isOpenBetween 52 = .ok (.iload_n 2, 1) := dk_28 (dk_at dksX8_isOpenBetween_2 6 rfl rfl)
theorem dX8_isOpenBetween_53 : decode cX8_isOpenBetween 53 = .ok (.if_icmp .ne 18, 3) := dk_160 0 18 (dk_at dksX8_isOpenBetween_2 7 rfl rfl)
theorem dX8_isOpenBetween_56 : decode cX8_isOpenBetween 56 = .ok (.aload_n 0, 1) := dk_42 (dk_at dksX8_isOpenBetween_2 10 rfl rfl)
theorem dX8_isOpenBetween_57 : decode cX8_isOpenBetween 57 = .ok (.getfield 15, 3) := dk_180 0 15 (dk_at dksX8_isOpenBetween_2 11 rfl rfl)
theorem dX8_isOpenBetween_60 : decode cX8_isOpenBetween 60 = .ok (.iload 4, 2) := dk_21 4 (dk_at dksX8_isOpenBetween_2 14 rfl rfl)
theorem dX8_isOpenBetween_62 : decode cX8_isOpenBetween 62 = .ok (.iaload, 1) := dk_46 (dk_at dksX8_isOpenBetween_2 16 rfl rfl)
theorem dX8_isOpenBetween_63 : decode cX8_isOpenBetween 63 = .ok (.iload_n 1, 1) := dk_27 (dk_at dksX8_isOpenBetween_2 17 rfl rfl)
theorem dX8_isOpenBetween_64 : decode cX8_isOpenBetween 64 = .ok (.if_icmp .ne 7, 3) := dk_160 0 7 (dk_at dksX8_isOpenBetween_2 18 rfl rfl)
theorem dX8_isOpenBetween_67 : decode cX8_isOpenBetween 67 = .ok (.iconst 1, 1) := dk_4 (dk_at dksX8_isOpenBetween_2 21 rfl rfl)
theorem dX8_isOpenBetween_68 : decode cX8_isOpenBetween 68 = .ok (.goto 4, 3) := dk_167 0 4 (dk_at dksX8_isOpenBetween_3 0 rfl rfl)
theorem dX8_isOpenBetween_71 : decode cX8_isOpenBetween 71 = .ok (.iconst 0, 1) := dk_3 (dk_at dksX8_isOpenBetween_3 3 rfl rfl)
theorem dX8_isOpenBetween_72 : decode cX8_isOpenBetween 72 = .ok (.istore 5, 2) := dk_54 5 (dk_at dksX8_isOpenBetween_3 4 rfl rfl)
theorem dX8_isOpenBetween_74 : decode cX8_isOpenBetween 74 = .ok (.iload_n 3, 1) := dk_29 (dk_at dksX8_isOpenBetween_3 6 rfl rfl)
theorem dX8_isOpenBetween_75 : decode cX8_isOpenBetween 75 = .ok (.iload 5, 2) := dk_21 5 (dk_at dksX8_isOpenBetween_3 7 rfl rfl)
theorem dX8_isOpenBetween_77 : decode cX8_isOpenBetween 77 = .ok (.ifCond .eq 19, 3) := dk_153 0 19 (dk_at dksX8_isOpenBetween_3 9 rfl rfl)
theorem dX8_isOpenBetween_80 : decode cX8_isOpenBetween 80 = .ok (.aload_n 0, 1) := dk_42 (dk_at dksX8_isOpenBetween_3 12 rfl rfl)
theorem dX8_isOpenBetween_81 : decode cX8_isOpenBetween 81 = .ok (.getfield 67, 3) := dk_180 0 67 (dk_at dksX8_isOpenBetween_3 13 rfl rfl)
theorem dX8_isOpenBetween_84 : decode cX8_isOpenBetween 84 = .ok (.iload 4, 2) := dk_21 4 (dk_at dksX8_isOpenBetween_3 16 rfl rfl)
theorem dX8_isOpenBetween_86 : decode cX8_isOpenBetween 86 = .ok (.invokestatic 95, 3) := dk_184 0 95 (dk_at dksX8_isOpenBetween_3 18 rfl rfl)
theorem dX8_isOpenBetween_89 : decode cX8_isOpenBetween 89 = .ok (.ifCond .ne 7, 3) := dk_154 0 7 (dk_at dksX8_isOpenBetween_3 21 rfl rfl)
theorem dX8_isOpenBetween_92 : decode cX8_isOpenBetween 92 = .ok (.iconst 1, 1) := dk_4 (dk_at dksX8_isOpenBetween_4 0 rfl rfl)
theorem dX8_isOpenBetween_93 : decode cX8_isOpenBetween 93 = .ok (.goto 4, 3) := dk_167 0 4 (dk_at dksX8_isOpenBetween_4 1 rfl rfl)
theorem dX8_isOpenBetween_96 : decode cX8_isOpenBetween 96 = .ok (.iconst 0, 1) := dk_3 (dk_at dksX8_isOpenBetween_4 4 rfl rfl)
theorem dX8_isOpenBetween_97 : decode cX8_isOpenBetween 97 = .ok (.ior, 1) := dk_128 (dk_at dksX8_isOpenBetween_4 5 rfl rfl)
theorem dX8_isOpenBetween_98 : decode cX8_isOpenBetween 98 = .ok (.istore_n 3, 1) := dk_62 (dk_at dksX8_isOpenBetween_4 6 rfl rfl)
theorem dX8_isOpenBetween_99 : decode cX8_isOpenBetween 99 = .ok (.iinc 4 1, 3) := dk_132 4 1 (dk_at dksX8_isOpenBetween_4 7 rfl rfl)
theorem dX8_isOpenBetween_102 : decode cX8_isOpenBetween 102 = .ok (.goto (-88), 3) := dk_167 255 168 (dk_at dksX8_isOpenBetween_4 10 rfl rfl)
theorem dX8_isOpenBetween_105 : decode cX8_isOpenBetween 105 = .ok (.iload_n 3, 1) := dk_29 (dk_at dksX8_isOpenBetween_4 13 rfl rfl)
theorem dX8_isOpenBetween_106 : decode cX8_isOpenBetween 106 = .ok (.ireturn, 1) := dk_172 (dk_at dksX8_isOpenBetween_4 14 rfl rfl)
abbrev cX8_remedy : ByteArray := prog_15_method_16_code
def yX8_remedy : MethodName := ⟨RX8, "remedy", "(II)V"⟩
def dkwX8_remedy_2 : List UInt8 := [27, 46, 5, 108, 100, 167, 0, 4, 7, 182, 0, 140, 177]
abbrev dktX8_remedy_2 : List UInt8 := dkwX8_remedy_2 ++ []
def dkwX8_remedy_1 : List UInt8 := [159, 0, 36, 28, 5, 162, 0, 31, 42, 27, 28, 154, 0, 21, 42, 180, 0, 39, 27, 46, 42, 180, 0, 39]
abbrev dktX8_remedy_1 : List UInt8 := dkwX8_remedy_1 ++ dktX8_remedy_2
def dkwX8_remedy_0 : List UInt8 := [28, 5, 160, 0, 13, 42, 180, 0, 42, 27, 6, 79, 167, 0, 47, 42, 180, 0, 36, 27, 46, 16, 247]
abbrev dktX8_remedy_0 : List UInt8 := dkwX8_remedy_0 ++ dktX8_remedy_1
theorem dksX8_remedy_0 : cX8_remedy.data.toList.drop 0 = dktX8_remedy_0 := by decide +kernel
theorem dksX8_remedy_1 : cX8_remedy.data.toList.drop 23 = dktX8_remedy_1 := dk_seg dksX8_remedy_0 23 rfl rfl
theorem dksX8_remedy_2 : cX8_remedy.data.toList.drop 47 = dktX8_remedy_2 := dk_seg dksX8_remedy_1 24 rfl rfl
theorem dX8_remedy_0 : decode cX8_remedy 0 = .ok (.iload_n 2, 1) := dk_28 (dk_at dksX8_remedy_0 0 rfl rfl)
theorem dX8_remedy_1 : decode cX8_remedy 1 = .ok (.iconst 2, 1) := dk_5 (dk_at dksX8_remedy_0 1 rfl rfl)
theorem dX8_remedy_2 : decode cX8_remedy 2 = .ok (.if_icmp .ne 13, 3) := dk_160 0 13 (dk_at dksX8_remedy_0 2 rfl rfl)
theorem dX8_remedy_5 : decode cX8_remedy 5 = .ok (.aload_n 0, 1) := dk_42 (dk_at dksX8_remedy_0 5 rfl rfl)
theorem dX8_remedy_6 : decode cX8_remedy 6 = .ok (.getfield 42, 3) := dk_180 0 42 (dk_at dksX8_remedy_0 6 rfl rfl)
theorem dX8_remedy_9 : decode cX8_remedy 9 = .ok (.iload_n 1, 1) := dk_27 (dk_at dksX8_remedy_0 9 rfl rfl)
theorem dX8_remedy_10 : decode cX8_remedy 10 = .ok (.iconst 3, 1) := dk_6 (dk_at dksX8_remedy_0 10 rfl rfl)
theorem dX8_remedy_11 : decode cX8_remedy 11 = .ok (.iastore, 1) := dk_79 (dk_at dksX8_remedy_0 11 rfl rfl)
theorem dX8_remedy_12 : decode cX8_remedy 12 = .ok (.goto 47, 3) := dk_167 0 47 (dk_at dksX8_remedy_0 12 rfl rfl)
theorem dX8_remedy_15 : decode cX8_remedy 15 = .ok (.aload_n 0, 1) := dk_42 (dk_at dksX8_remedy_0 15 rfl rfl)
theorem dX8_remedy_16 : decode cX8_remedy 16 = .ok (.getfield 36, 3) := dk_180 0 36 (dk_at dksX8_remedy_0 16 rfl rfl)
theorem dX8_remedy_19 : decode cX8_remedy 19 = .ok (.iload_n 1, 1) := dk_27 (dk_at dksX8_remedy_0 19 rfl rfl)
theorem dX8_remedy_20 : decode cX8_remedy 20 = .ok (.iaload, 1) := dk_46 (dk_at dksX8_remedy_0 20 rfl rfl)
theorem dX8_remedy_21 : decode cX8_remedy 21 = .ok (.bipush (-9), 2) := dk_16 247 (dk_at dksX8_remedy_0 21 rfl rfl)
theorem dX8_remedy_23 : decode cX8_remedy 23 = .ok (.if_icmp .eq 36, 3) := dk_159 0 36 (dk_at dksX8_remedy_1 0 rfl rfl)
theorem dX8_remedy_26 : decode cX8_remedy 26 = .ok (.iload_n 2, 1) := dk_28 (dk_at dksX8_remedy_1 3 rfl rfl)
theorem dX8_remedy_27 : decode cX8_remedy 27 = .ok (.iconst 2, 1) := dk_5 (dk_at dksX8_remedy_1 4 rfl rfl)
theorem dX8_remedy_28 : decode cX8_remedy 28 = .ok (.if_icmp .ge 31, 3) := dk_162 0 31 (dk_at dksX8_remedy_1 5 rfl rfl)
theorem dX8_remedy_31 : decode cX8_remedy 31 = .ok (.aload_n 0, 1) := dk_42 (dk_at dksX8_remedy_1 8 rfl rfl)
theorem dX8_remedy_32 : decode cX8_remedy 32 = .ok (.iload_n 1, 1) := dk_27 (dk_at dksX8_remedy_1 9 rfl rfl)
theorem dX8_remedy_33 : decode cX8_remedy 33 = .ok (.iload_n 2, 1) := dk_28 (dk_at dksX8_remedy_1 10 rfl rfl)
theorem dX8_remedy_34 : decode cX8_remedy 34 = .ok (.ifCond .ne 21, 3) := dk_154 0 21 (dk_at dksX8_remedy_1 11 rfl rfl)
theorem dX8_remedy_37 : decode cX8_remedy 37 = .ok (.aload_n 0, 1) := dk_42 (dk_at dksX8_remedy_1 14 rfl rfl)
theorem dX8_remedy_38 : decode cX8_remedy 38 = .ok (.getfield 39, 3) := dk_180 0 39 (dk_at dksX8_remedy_1 15 rfl rfl)
theorem dX8_remedy_41 : decode cX8_remedy 41 = .ok (.iload_n 1, 1) := dk_27 (dk_at dksX8_remedy_1 18 rfl rfl)
theorem dX8_remedy_42 : decode cX8_remedy 42 = .ok (.iaload, 1) := dk_46 (dk_at dksX8_remedy_1 19 rfl rfl)
theorem dX8_remedy_43 : decode cX8_remedy 43 = .ok (.aload_n 0, 1) := dk_42 (dk_at dksX8_remedy_1 20 rfl rfl)
theorem dX8_remedy_44 : decode cX8_remedy 44 = .ok (.getfield 39, 3) := dk_180 0 39 (dk_at dksX8_remedy_1 21 rfl rfl)
theorem dX8_remedy_47 : decode cX8_remedy 47 = .ok (.iload_n 1, 1) := dk_27 (dk_at dksX8_remedy_2 0 rfl rfl)
theorem dX8_remedy_48 : decode cX8_remedy 48 = .ok (.iaload, 1) := dk_46 (dk_at dksX8_remedy_2 1 rfl rfl)
theorem dX8_remedy_49 : decode cX8_remedy 49 = .ok (.iconst 2, 1) := dk_5 (dk_at dksX8_remedy_2 2 rfl rfl)
theorem dX8_remedy_50 : decode cX8_remedy 50 = .ok (.idiv, 1) := dk_108 (dk_at dksX8_remedy_2 3 rfl rfl)
theorem dX8_remedy_51 : decode cX8_remedy 51 = .ok (.isub, 1) := dk_100 (dk_at dksX8_remedy_2 4 rfl rfl)
theorem dX8_remedy_52 : decode cX8_remedy 52 = .ok (.goto 4, 3) := dk_167 0 4 (dk_at dksX8_remedy_2 5 rfl rfl)
theorem dX8_remedy_55 : decode cX8_remedy 55 = .ok (.iconst 4, 1) := dk_7 (dk_at dksX8_remedy_2 8 rfl rfl)
theorem dX8_remedy_56 : decode cX8_remedy 56 = .ok (.invokevirtual 140, 3) := dk_182 0 140 (dk_at dksX8_remedy_2 9 rfl rfl)
theorem dX8_remedy_59 : decode cX8_remedy 59 = .ok (.return_, 1) := dk_177 (dk_at dksX8_remedy_2 12 rfl rfl)
abbrev cX8_weaken : ByteArray := prog_15_method_13_code
def yX8_weaken : MethodName := ⟨RX8, "weaken", "(II)V"⟩
def dkwX8_weaken_2 : List UInt8 := [79, 177]
abbrev dktX8_weaken_2 : List UInt8 := dkwX8_weaken_2 ++ []
def dkwX8_weaken_1 : List UInt8 := [180, 0, 36, 27, 42, 180, 0, 39, 27, 46, 154, 0, 8, 16, 247, 167, 0, 9, 42, 180, 0, 36, 27, 46]
abbrev dktX8_weaken_1 : List UInt8 := dkwX8_weaken_1 ++ dktX8_weaken_2
def dkwX8_weaken_0 : List UInt8 := [42, 180, 0, 39, 27, 3, 16, 60, 42, 180, 0, 39, 27, 46, 28, 100, 184, 0, 89, 184, 0, 134, 79, 42]
abbrev dktX8_weaken_0 : List UInt8 := dkwX8_weaken_0 ++ dktX8_weaken_1
theorem dksX8_weaken_0 : cX8_weaken.data.toList.drop 0 = dktX8_weaken_0 := by decide +kernel
theorem dksX8_weaken_1 : cX8_weaken.data.toList.drop 24 = dktX8_weaken_1 := dk_seg dksX8_weaken_0 24 rfl rfl
theorem dksX8_weaken_2 : cX8_weaken.data.toList.drop 48 = dktX8_weaken_2 := dk_seg dksX8_weaken_1 24 rfl rfl
theorem dX8_weaken_0 : decode cX8_weaken 0 = .ok (.aload_n 0, 1) := dk_42 (dk_at dksX8_weaken_0 0 rfl rfl)
theorem dX8_weaken_1 : decode cX8_weaken 1 = .ok (.getfield 39, 3) := dk_180 0 39 (dk_at dksX8_weaken_0 1 rfl rfl)
theorem dX8_weaken_4 : decode cX8_weaken 4 = .ok (.iload_n 1, 1) := dk_27 (dk_at dksX8_weaken_0 4 rfl rfl)
theorem dX8_weaken_5 : decode cX8_weaken 5 = .ok (.iconst 0, 1) := dk_3 (dk_at dksX8_weaken_0 5 rfl rfl)
theorem dX8_weaken_6 : decode cX8_weaken 6 = .ok (.bipush 60, 2) := dk_16 60 (dk_at dksX8_weaken_0 6 rfl rfl)
theorem dX8_weaken_8 : decode cX8_weaken 8 = .ok (.aload_n 0, 1) := dk_42 (dk_at dksX8_weaken_0 8 rfl rfl)
theorem dX8_weaken_9 : decode cX8_weaken 9 = .ok (.getfield 39, 3) := dk_180 0 39 (dk_at dksX8_weaken_0 9 rfl rfl)
theorem dX8_weaken_12 : decode cX8_weaken 12 = .ok (.iload_n 1, 1) := dk_27 (dk_at dksX8_weaken_0 12 rfl rfl)
theorem dX8_weaken_13 : decode cX8_weaken 13 = .ok (.iaload, 1) := dk_46 (dk_at dksX8_weaken_0 13 rfl rfl)
theorem dX8_weaken_14 : decode cX8_weaken 14 = .ok (.iload_n 2, 1) := dk_28 (dk_at dksX8_weaken_0 14 rfl rfl)
theorem dX8_weaken_15 : decode cX8_weaken 15 = .ok (.isub, 1) := dk_100 (dk_at dksX8_weaken_0 15 rfl rfl)
theorem dX8_weaken_16 : decode cX8_weaken 16 = .ok (.invokestatic 89, 3) := dk_184 0 89 (dk_at dksX8_weaken_0 16 rfl rfl)
theorem dX8_weaken_19 : decode cX8_weaken 19 = .ok (.invokestatic 134, 3) := dk_184 0 134 (dk_at dksX8_weaken_0 19 rfl rfl)
theorem dX8_weaken_22 : decode cX8_weaken 22 = .ok (.iastore, 1) := dk_79 (dk_at dksX8_weaken_0 22 rfl rfl)
theorem dX8_weaken_23 : decode cX8_weaken 23 = .ok (.aload_n 0, 1) := dk_42 (dk_at dksX8_weaken_0 23 rfl rfl)
theorem dX8_weaken_24 : decode cX8_weaken 24 = .ok (.getfield 36, 3) := dk_180 0 36 (dk_at dksX8_weaken_1 0 rfl rfl)
theorem dX8_weaken_27 : decode cX8_weaken 27 = .ok (.iload_n 1, 1) := dk_27 (dk_at dksX8_weaken_1 3 rfl rfl)
theorem dX8_weaken_28 : decode cX8_weaken 28 = .ok (.aload_n 0, 1) := dk_42 (dk_at dksX8_weaken_1 4 rfl rfl)
theorem dX8_weaken_29 : decode cX8_weaken 29 = .ok (.getfield 39, 3) := dk_180 0 39 (dk_at dksX8_weaken_1 5 rfl rfl)
theorem dX8_weaken_32 : decode cX8_weaken 32 = .ok (.iload_n 1, 1) := dk_27 (dk_at dksX8_weaken_1 8 rfl rfl)
theorem dX8_weaken_33 : decode cX8_weaken 33 = .ok (.iaload, 1) := dk_46 (dk_at dksX8_weaken_1 9 rfl rfl)
theorem dX8_weaken_34 : decode cX8_weaken 34 = .ok (.ifCond .ne 8, 3) := dk_154 0 8 (dk_at dksX8_weaken_1 10 rfl rfl)
theorem dX8_weaken_37 : decode cX8_weaken 37 = .ok (.bipush (-9), 2) := dk_16 247 (dk_at dksX8_weaken_1 13 rfl rfl)
theorem dX8_weaken_39 : decode cX8_weaken 39 = .ok (.goto 9, 3) := dk_167 0 9 (dk_at dksX8_weaken_1 15 rfl rfl)
theorem dX8_weaken_42 : decode cX8_weaken 42 = .ok (.aload_n 0, 1) := dk_42 (dk_at dksX8_weaken_1 18 rfl rfl)
theorem dX8_weaken_43 : decode cX8_weaken 43 = .ok (.getfield 36, 3) := dk_180 0 36 (dk_at dksX8_weaken_1 19 rfl rfl)
theorem dX8_weaken_46 : decode cX8_weaken 46 = .ok (.iload_n 1, 1) := dk_27 (dk_at dksX8_weaken_1 22 rfl rfl)
theorem dX8_weaken_47 : decode cX8_weaken 47 = .ok (.iaload, 1) := dk_46 (dk_at dksX8_weaken_1 23 rfl rfl)
theorem dX8_weaken_48 : decode cX8_weaken 48 = .ok (.iastore, 1) := dk_79 (dk_at dksX8_weaken_2 0 rfl rfl)
theorem dX8_weaken_49 : decode cX8_weaken 49 = .ok (.return_, 1) := dk_177 (dk_at dksX8_weaken_2 1 rfl rfl)
abbrev cX8_hourOn : ByteArray := prog_15_method_11_code
def yX8_hourOn : MethodName := ⟨RX8, "hourOn", "()I"⟩
def dkwX8_hourOn_9 : List UInt8 := [181, 0, 76, 27, 172]
abbrev dktX8_hourOn_9 : List UInt8 := dkwX8_hourOn_9 ++ []
def dkwX8_hourOn_8 : List UInt8 := [180, 0, 42, 28, 46, 4, 100, 184, 0, 134, 79, 132, 2, 1, 167, 255, 158, 42, 89, 180, 0, 76, 4, 96]
abbrev dktX8_hourOn_8 : List UInt8 := dkwX8_hourOn_8 ++ dktX8_hourOn_9
def dkwX8_hourOn_7 : List UInt8 := [180, 0, 36, 28, 46, 16, 247, 159, 0, 8, 42, 28, 182, 0, 130, 42, 180, 0, 42, 28, 3, 42]
abbrev dktX8_hourOn_7 : List UInt8 := dkwX8_hourOn_7 ++ dktX8_hourOn_8
def dkwX8_hourOn_6 : List UInt8 := [180, 0, 55, 28, 46, 46, 79, 42, 28, 42, 180, 0, 52, 28, 46, 182, 0, 126, 167, 0, 19, 42]
abbrev dktX8_hourOn_6 : List UInt8 := dkwX8_hourOn_6 ++ dktX8_hourOn_7
def dkwX8_hourOn_5 : List UInt8 := [159, 0, 45, 42, 180, 0, 55, 28, 42, 28, 182, 0, 123, 79, 42, 180, 0, 58, 28, 42, 180, 0, 61, 42]
abbrev dktX8_hourOn_5 : List UInt8 := dkwX8_hourOn_5 ++ dktX8_hourOn_6
def dkwX8_hourOn_4 : List UInt8 := [132, 2, 1, 167, 255, 203, 3, 61, 28, 42, 180, 0, 73, 162, 0, 96, 42, 180, 0, 52, 28, 46, 16, 247]
abbrev dktX8_hourOn_4 : List UInt8 := dkwX8_hourOn_4 ++ dktX8_hourOn_5
def dkwX8_hourOn_3 : List UInt8 := [16, 247, 160, 0, 7, 3, 167, 0, 4, 4, 96, 60, 42, 180, 0, 61, 28, 42, 180, 0, 58, 28, 46, 79]
abbrev dktX8_hourOn_3 : List UInt8 := dkwX8_hourOn_3 ++ dktX8_hourOn_4
def dkwX8_hourOn_2 : List UInt8 := [180, 0, 73, 162, 0, 51, 42, 180, 0, 52, 28, 42, 28, 182, 0, 120, 79, 27, 42, 180, 0, 52, 28, 46]
abbrev dktX8_hourOn_2 : List UInt8 := dkwX8_hourOn_2 ++ dktX8_hourOn_3
def dkwX8_hourOn_1 : List UInt8 := [180, 0, 36, 27, 46, 167, 0, 5, 16, 247, 79, 132, 1, 1, 167, 255, 220, 3, 60, 3, 61, 28, 42]
abbrev dktX8_hourOn_1 : List UInt8 := dkwX8_hourOn_1 ++ dktX8_hourOn_2
def dkwX8_hourOn_0 : List UInt8 := [3, 60, 27, 42, 180, 0, 73, 162, 0, 34, 42, 180, 0, 49, 27, 42, 27, 182, 0, 117, 153, 0, 12, 42]
abbrev dktX8_hourOn_0 : List UInt8 := dkwX8_hourOn_0 ++ dktX8_hourOn_1
theorem dksX8_hourOn_0 : cX8_hourOn.data.toList.drop 0 = dktX8_hourOn_0 := by decide +kernel
theorem dksX8_hourOn_1 : cX8_hourOn.data.toList.drop 24 = dktX8_hourOn_1 := dk_seg dksX8_hourOn_0 24 rfl rfl
theorem dksX8_hourOn_2 : cX8_hourOn.data.toList.drop 47 = dktX8_hourOn_2 := dk_seg dksX8_hourOn_1 23 rfl rfl
theorem dksX8_hourOn_3 : cX8_hourOn.data.toList.drop 71 = dktX8_hourOn_3 := dk_seg dksX8_hourOn_2 24 rfl rfl
theorem dksX8_hourOn_4 : cX8_hourOn.data.toList.drop 95 = dktX8_hourOn_4 := dk_seg dksX8_hourOn_3 24 rfl rfl
theorem dksX8_hourOn_5 : cX8_hourOn.data.toList.drop 119 = dktX8_hourOn_5 := dk_seg dksX8_hourOn_4 24 rfl rfl
theorem dksX8_hourOn_6 : cX8_hourOn.data.toList.drop 143 = dktX8_hourOn_6 := dk_seg dksX8_hourOn_5 24 rfl rfl
theorem dksX8_hourOn_7 : cX8_hourOn.data.toList.drop 165 = dktX8_hourOn_7 := dk_seg dksX8_hourOn_6 22 rfl rfl
theorem dksX8_hourOn_8 : cX8_hourOn.data.toList.drop 187 = dktX8_hourOn_8 := dk_seg dksX8_hourOn_7 22 rfl rfl
theorem dksX8_hourOn_9 : cX8_hourOn.data.toList.drop 211 = dktX8_hourOn_9 := dk_seg dksX8_hourOn_8 24 rfl rfl
theorem dX8_hourOn_0 : decode cX8_hourOn 0 = .ok (.iconst 0, 1) := dk_3 (dk_at dksX8_hourOn_0 0 rfl rfl)
theorem dX8_hourOn_1 : decode cX8_hourOn 1 = .ok (.istore_n 1, 1) := dk_60 (dk_at dksX8_hourOn_0 1 rfl rfl)
theorem dX8_hourOn_2 : decode cX8_hourOn 2 = .ok (.iload_n 1, 1) := dk_27 (dk_at dksX8_hourOn_0 2 rfl rfl)
theorem dX8_hourOn_3 : decode cX8_hourOn 3 = .ok (.aload_n 0, 1) := dk_42 (dk_at dksX8_hourOn_0 3 rfl rfl)
theorem dX8_hourOn_4 : decode cX8_hourOn 4 = .ok (.getfield 73, 3) := dk_180 0 73 (dk_at dksX8_hourOn_0 4 rfl rfl)
theorem dX8_hourOn_7 : decode cX8_hourOn 7 = .ok (.if_icmp .ge 34, 3) := dk_162 0 34 (dk_at dksX8_hourOn_0 7 rfl rfl)
theorem dX8_hourOn_10 : decode cX8_hourOn 10 = .ok (.aload_n 0, 1) := dk_42 (dk_at dksX8_hourOn_0 10 rfl rfl)
theorem dX8_hourOn_11 : decode cX8_hourOn 11 = .ok (.getfield 49, 3) := dk_180 0 49 (dk_at dksX8_hourOn_0 11 rfl rfl)
theorem dX8_hourOn_14 : decode cX8_hourOn 14 = .ok (.iload_n 1, 1) := dk_27 (dk_at dksX8_hourOn_0 14 rfl rfl)
theorem dX8_hourOn_15 : decode cX8_hourOn 15 = .ok (.aload_n 0, 1) := dk_42 (dk_at dksX8_hourOn_0 15 rfl rfl)
theorem dX8_hourOn_16 : decode cX8_hourOn 16 = .ok (.iload_n 1, 1) := dk_27 (dk_at dksX8_hourOn_0 16 rfl rfl)
theorem dX8_hourOn_17 : decode cX8_hourOn 17 = .ok (.invokevirtual 117, 3) := dk_182 0 117 (dk_at dksX8_hourOn_0 17 rfl rfl)
theorem dX8_hourOn_20 : decode cX8_hourOn 20 = .ok (.ifCond .eq 12, 3) := dk_153 0 12 (dk_at dksX8_hourOn_0 20 rfl rfl)
theorem dX8_hourOn_23 : decode cX8_hourOn 23 = .ok (.aload_n 0, 1) := dk_42 (dk_at dksX8_hourOn_0 23 rfl rfl)
theorem dX8_hourOn_24 : decode cX8_hourOn 24 = .ok (.getfield 36, 3) := dk_180 0 36 (dk_at dksX8_hourOn_1 0 rfl rfl)
theorem dX8_hourOn_27 : decode cX8_hourOn 27 = .ok (.iload_n 1, 1) := dk_27 (dk_at dksX8_hourOn_1 3 rfl rfl)
theorem dX8_hourOn_28 : decode cX8_hourOn 28 = .ok (.iaload, 1) := dk_46 (dk_at dksX8_hourOn_1 4 rfl rfl)
theorem dX8_hourOn_29 : decode cX8_hourOn 29 = .ok (.goto 5, 3) := dk_167 0 5 (dk_at dksX8_hourOn_1 5 rfl rfl)
theorem dX8_hourOn_32 : decode cX8_hourOn 32 = .ok (.bipush (-9), 2) := dk_16 247 (dk_at dksX8_hourOn_1 8 rfl rfl)
theorem dX8_hourOn_34 : decode cX8_hourOn 34 = .ok (.iastore, 1) := dk_79 (dk_at dksX8_hourOn_1 10 rfl rfl)
theorem dX8_hourOn_35 : decode cX8_hourOn 35 = .ok (.iinc 1 1, 3) := dk_132 1 1 (dk_at dksX8_hourOn_1 11 rfl rfl)
theorem dX8_hourOn_38 : decode cX8_hourOn 38 = .ok (.goto (-36), 3) := dk_167 255 220 (dk_at dksX8_hourOn_1 14 rfl rfl)
theorem dX8_hourOn_41 : decode cX8_hourOn 41 = .ok (.iconst 0, 1) := dk_3 (dk_at dksX8_hourOn_1 17 rfl rfl)
theorem dX8_hourOn_42 : decode cX8_hourOn 42 = .ok (.istore_n 1, 1) := dk_60 (dk_at dksX8_hourOn_1 18 rfl rfl)
theorem dX8_hourOn_43 : decode cX8_hourOn 43 = .ok (.iconst 0, 1) := dk_3 (dk_at dksX8_hourOn_1 19 rfl rfl)
theorem dX8_hourOn_44 : decode cX8_hourOn 44 = .ok (.istore_n 2, 1) := dk_61 (dk_at dksX8_hourOn_1 20 rfl rfl)
theorem dX8_hourOn_45 : decode cX8_hourOn 45 = .ok (.iload_n 2, 1) := dk_28 (dk_at dksX8_hourOn_1 21 rfl rfl)
theorem dX8_hourOn_46 : decode cX8_hourOn 46 = .ok (.aload_n 0, 1) := dk_42 (dk_at dksX8_hourOn_1 22 rfl rfl)
theorem dX8_hourOn_47 : decode cX8_hourOn 47 = .ok (.getfield 73, 3) := dk_180 0 73 (dk_at dksX8_hourOn_2 0 rfl rfl)
theorem dX8_hourOn_50 : decode cX8_hourOn 50 = .ok (.if_icmp .ge 51, 3) := dk_162 0 51 (dk_at dksX8_hourOn_2 3 rfl rfl)
theorem dX8_hourOn_53 : decode cX8_hourOn 53 = .ok (.aload_n 0, 1) := dk_42 (dk_at dksX8_hourOn_2 6 rfl rfl)
theorem dX8_hourOn_54 : decode cX8_hourOn 54 = .ok (.getfield 52, 3) := dk_180 0 52 (dk_at dksX8_hourOn_2 7 rfl rfl)
theorem dX8_hourOn_57 : decode cX8_hourOn 57 = .ok (.iload_n 2, 1) := dk_28 (dk_at dksX8_hourOn_2 10 rfl rfl)
theorem dX8_hourOn_58 : decode cX8_hourOn 58 = .ok (.aload_n 0, 1) := dk_42 (dk_at dksX8_hourOn_2 11 rfl rfl)
theorem dX8_hourOn_59 : decode cX8_hourOn 59 = .ok (.iload_n 2, 1) := dk_28 (dk_at dksX8_hourOn_2 12 rfl rfl)
theorem dX8_hourOn_60 : decode cX8_hourOn 60 = .ok (.invokevirtual 120, 3) := dk_182 0 120 (dk_at dksX8_hourOn_2 13 rfl rfl)
theorem dX8_hourOn_63 : decode cX8_hourOn 63 = .ok (.iastore, 1) := dk_79 (dk_at dksX8_hourOn_2 16 rfl rfl)
theorem dX8_hourOn_64 : decode cX8_hourOn 64 = .ok (.iload_n 1, 1) := dk_27 (dk_at dksX8_hourOn_2 17 rfl rfl)
theorem dX8_hourOn_65 : decode cX8_hourOn 65 = .ok (.aload_n 0, 1) := dk_42 (dk_at dksX8_hourOn_2 18 rfl rfl)
theorem dX8_hourOn_66 : decode cX8_hourOn 66 = .ok (.getfield 52, 3) := dk_180 0 52 (dk_at dksX8_hourOn_2 19 rfl rfl)
theorem dX8_hourOn_69 : decode cX8_hourOn 69 = .ok (.iload_n 2, 1) := dk_28 (dk_at dksX8_hourOn_2 22 rfl rfl)
theorem dX8_hourOn_70 : decode cX8_hourOn 70 = .ok (.iaload, 1) := dk_46 (dk_at dksX8_hourOn_2 23 rfl rfl)
theorem dX8_hourOn_71 : decode cX8_hourOn 71 = .ok (.bipush (-9), 2) := dk_16 247 (dk_at dksX8_hourOn_3 0 rfl rfl)
theorem dX8_hourOn_73 : decode cX8_hourOn 73 = .ok (.if_icmp .ne 7, 3) := dk_160 0 7 (dk_at dksX8_hourOn_3 2 rfl rfl)
theorem dX8_hourOn_76 : decode cX8_hourOn 76 = .ok (.iconst 0, 1) := dk_3 (dk_at dksX8_hourOn_3 5 rfl rfl)
theorem dX8_hourOn_77 : decode cX8_hourOn 77 = .ok (.goto 4, 3) := dk_167 0 4 (dk_at dksX8_hourOn_3 6 rfl rfl)
theorem dX8_hourOn_80 : decode cX8_hourOn 80 = .ok (.iconst 1, 1) := dk_4 (dk_at dksX8_hourOn_3 9 rfl rfl)
theorem dX8_hourOn_81 : decode cX8_hourOn 81 = .ok (.iadd, 1) := dk_96 (dk_at dksX8_hourOn_3 10 rfl rfl)
theorem dX8_hourOn_82 : decode cX8_hourOn 82 = .ok (.istore_n 1, 1) := dk_60 (dk_at dksX8_hourOn_3 11 rfl rfl)
theorem dX8_hourOn_83 : decode cX8_hourOn 83 = .ok (.aload_n 0, 1) := dk_42 (dk_at dksX8_hourOn_3 12 rfl rfl)
theorem dX8_hourOn_84 : decode cX8_hourOn 84 = .ok (.getfield 61, 3) := dk_180 0 61 (dk_at dksX8_hourOn_3 13 rfl rfl)
theorem dX8_hourOn_87 : decode cX8_hourOn 87 = .ok (.iload_n 2, 1) := dk_28 (dk_at dksX8_hourOn_3 16 rfl rfl)
theorem dX8_hourOn_88 : decode cX8_hourOn 88 = .ok (.aload_n 0, 1) := dk_42 (dk_at dksX8_hourOn_3 17 rfl rfl)
theorem dX8_hourOn_89 : decode cX8_hourOn 89 = .ok (.getfield 58, 3) := dk_180 0 58 (dk_at dksX8_hourOn_3 18 rfl rfl)
theorem dX8_hourOn_92 : decode cX8_hourOn 92 = .ok (.iload_n 2, 1) := dk_28 (dk_at dksX8_hourOn_3 21 rfl rfl)
theorem dX8_hourOn_93 : decode cX8_hourOn 93 = .ok (.iaload, 1) := dk_46 (dk_at dksX8_hourOn_3 22 rfl rfl)
theorem dX8_hourOn_94 : decode cX8_hourOn 94 = .ok (.iastore, 1) := dk_79 (dk_at dksX8_hourOn_3 23 rfl rfl)
theorem dX8_hourOn_95 : decode cX8_hourOn 95 = .ok (.iinc 2 1, 3) := dk_132 2 1 (dk_at dksX8_hourOn_4 0 rfl rfl)
theorem dX8_hourOn_98 : decode cX8_hourOn 98 = .ok (.goto (-53), 3) := dk_167 255 203 (dk_at dksX8_hourOn_4 3 rfl rfl)
theorem dX8_hourOn_101 : decode cX8_hourOn 101 = .ok (.iconst 0, 1) := dk_3 (dk_at dksX8_hourOn_4 6 rfl rfl)
theorem dX8_hourOn_102 : decode cX8_hourOn 102 = .ok (.istore_n 2, 1) := dk_61 (dk_at dksX8_hourOn_4 7 rfl rfl)
theorem dX8_hourOn_103 : decode cX8_hourOn 103 = .ok (.iload_n 2, 1) := dk_28 (dk_at dksX8_hourOn_4 8 rfl rfl)
theorem dX8_hourOn_104 : decode cX8_hourOn 104 = .ok (.aload_n 0, 1) := dk_42 (dk_at dksX8_hourOn_4 9 rfl rfl)
theorem dX8_hourOn_105 : decode cX8_hourOn 105 = .ok (.getfield 73, 3) := dk_180 0 73 (dk_at dksX8_hourOn_4 10 rfl rfl)
theorem dX8_hourOn_108 : decode cX8_hourOn 108 = .ok (.if_icmp .ge 96, 3) := dk_162 0 96 (dk_at dksX8_hourOn_4 13 rfl rfl)
theorem dX8_hourOn_111 : decode cX8_hourOn 111 = .ok (.aload_n 0, 1) := dk_42 (dk_at dksX8_hourOn_4 16 rfl rfl)
theorem dX8_hourOn_112 : decode cX8_hourOn 112 = .ok (.getfield 52, 3) := dk_180 0 52 (dk_at dksX8_hourOn_4 17 rfl rfl)
theorem dX8_hourOn_115 : decode cX8_hourOn 115 = .ok (.iload_n 2, 1) := dk_28 (dk_at dksX8_hourOn_4 20 rfl rfl)
theorem dX8_hourOn_116 : decode cX8_hourOn 116 = .ok (.iaload, 1) := dk_46 (dk_at dksX8_hourOn_4 21 rfl rfl)
theorem dX8_hourOn_117 : decode cX8_hourOn 117 = .ok (.bipush (-9), 2) := dk_16 247 (dk_at dksX8_hourOn_4 22 rfl rfl)
theorem dX8_hourOn_119 : decode cX8_hourOn 119 = .ok (.if_icmp .eq 45, 3) := dk_159 0 45 (dk_at dksX8_hourOn_5 0 rfl rfl)
theorem dX8_hourOn_122 : decode cX8_hourOn 122 = .ok (.aload_n 0, 1) := dk_42 (dk_at dksX8_hourOn_5 3 rfl rfl)
theorem dX8_hourOn_123 : decode cX8_hourOn 123 = .ok (.getfield 55, 3) := dk_180 0 55 (dk_at dksX8_hourOn_5 4 rfl rfl)
theorem dX8_hourOn_126 : decode cX8_hourOn 126 = .ok (.iload_n 2, 1) := dk_28 (dk_at dksX8_hourOn_5 7 rfl rfl)
theorem dX8_hourOn_127 : decode cX8_hourOn 127 = .ok (.aload_n 0, 1) := dk_42 (dk_at dksX8_hourOn_5 8 rfl rfl)
theorem dX8_hourOn_128 : decode cX8_hourOn 128 = .ok (.iload_n 2, 1) := dk_28 (dk_at dksX8_hourOn_5 9 rfl rfl)
theorem dX8_hourOn_129 : decode cX8_hourOn 129 = .ok (.invokevirtual 123, 3) := dk_182 0 123 (dk_at dksX8_hourOn_5 10 rfl rfl)
theorem dX8_hourOn_132 : decode cX8_hourOn 132 = .ok (.iastore, 1) := dk_79 (dk_at dksX8_hourOn_5 13 rfl rfl)
theorem dX8_hourOn_133 : decode cX8_hourOn 133 = .ok (.aload_n 0, 1) := dk_42 (dk_at dksX8_hourOn_5 14 rfl rfl)
theorem dX8_hourOn_134 : decode cX8_hourOn 134 = .ok (.getfield 58, 3) := dk_180 0 58 (dk_at dksX8_hourOn_5 15 rfl rfl)
theorem dX8_hourOn_137 : decode cX8_hourOn 137 = .ok (.iload_n 2, 1) := dk_28 (dk_at dksX8_hourOn_5 18 rfl rfl)
theorem dX8_hourOn_138 : decode cX8_hourOn 138 = .ok (.aload_n 0, 1) := dk_42 (dk_at dksX8_hourOn_5 19 rfl rfl)
theorem dX8_hourOn_139 : decode cX8_hourOn 139 = .ok (.getfield 61, 3) := dk_180 0 61 (dk_at dksX8_hourOn_5 20 rfl rfl)
theorem dX8_hourOn_142 : decode cX8_hourOn 142 = .ok (.aload_n 0, 1) := dk_42 (dk_at dksX8_hourOn_5 23 rfl rfl)
theorem dX8_hourOn_143 : decode cX8_hourOn 143 = .ok (.getfield 55, 3) := dk_180 0 55 (dk_at dksX8_hourOn_6 0 rfl rfl)
theorem dX8_hourOn_146 : decode cX8_hourOn 146 = .ok (.iload_n 2, 1) := dk_28 (dk_at dksX8_hourOn_6 3 rfl rfl)
theorem dX8_hourOn_147 : decode cX8_hourOn 147 = .ok (.iaload, 1) := dk_46 (dk_at dksX8_hourOn_6 4 rfl rfl)
theorem dX8_hourOn_148 : decode cX8_hourOn 148 = .ok (.iaload, 1) := dk_46 (dk_at dksX8_hourOn_6 5 rfl rfl)
theorem dX8_hourOn_149 : decode cX8_hourOn 149 = .ok (.iastore, 1) := dk_79 (dk_at dksX8_hourOn_6 6 rfl rfl)
theorem dX8_hourOn_150 : decode cX8_hourOn 150 = .ok (.aload_n 0, 1) := dk_42 (dk_at dksX8_hourOn_6 7 rfl rfl)
theorem dX8_hourOn_151 : decode cX8_hourOn 151 = .ok (.iload_n 2, 1) := dk_28 (dk_at dksX8_hourOn_6 8 rfl rfl)
theorem dX8_hourOn_152 : decode cX8_hourOn 152 = .ok (.aload_n 0, 1) := dk_42 (dk_at dksX8_hourOn_6 9 rfl rfl)
theorem dX8_hourOn_153 : decode cX8_hourOn 153 = .ok (.getfield 52, 3) := dk_180 0 52 (dk_at dksX8_hourOn_6 10 rfl rfl)
theorem dX8_hourOn_156 : decode cX8_hourOn 156 = .ok (.iload_n 2, 1) := dk_28 (dk_at dksX8_hourOn_6 13 rfl rfl)
theorem dX8_hourOn_157 : decode cX8_hourOn 157 = .ok (.iaload, 1) := dk_46 (dk_at dksX8_hourOn_6 14 rfl rfl)
theorem dX8_hourOn_158 : decode cX8_hourOn 158 = .ok (.invokevirtual 126, 3) := dk_182 0 126 (dk_at dksX8_hourOn_6 15 rfl rfl)
theorem dX8_hourOn_161 : decode cX8_hourOn 161 = .ok (.goto 19, 3) := dk_167 0 19 (dk_at dksX8_hourOn_6 18 rfl rfl)
theorem dX8_hourOn_164 : decode cX8_hourOn 164 = .ok (.aload_n 0, 1) := dk_42 (dk_at dksX8_hourOn_6 21 rfl rfl)
theorem dX8_hourOn_165 : decode cX8_hourOn 165 = .ok (.getfield 36, 3) := dk_180 0 36 (dk_at dksX8_hourOn_7 0 rfl rfl)
theorem dX8_hourOn_168 : decode cX8_hourOn 168 = .ok (.iload_n 2, 1) := dk_28 (dk_at dksX8_hourOn_7 3 rfl rfl)
theorem dX8_hourOn_169 : decode cX8_hourOn 169 = .ok (.iaload, 1) := dk_46 (dk_at dksX8_hourOn_7 4 rfl rfl)
theorem dX8_hourOn_170 : decode cX8_hourOn 170 = .ok (.bipush (-9), 2) := dk_16 247 (dk_at dksX8_hourOn_7 5 rfl rfl)
theorem dX8_hourOn_172 : decode cX8_hourOn 172 = .ok (.if_icmp .eq 8, 3) := dk_159 0 8 (dk_at dksX8_hourOn_7 7 rfl rfl)
theorem dX8_hourOn_175 : decode cX8_hourOn 175 = .ok (.aload_n 0, 1) := dk_42 (dk_at dksX8_hourOn_7 10 rfl rfl)
theorem dX8_hourOn_176 : decode cX8_hourOn 176 = .ok (.iload_n 2, 1) := dk_28 (dk_at dksX8_hourOn_7 11 rfl rfl)
theorem dX8_hourOn_177 : decode cX8_hourOn 177 = .ok (.invokevirtual 130, 3) := dk_182 0 130 (dk_at dksX8_hourOn_7 12 rfl rfl)
theorem dX8_hourOn_180 : decode cX8_hourOn 180 = .ok (.aload_n 0, 1) := dk_42 (dk_at dksX8_hourOn_7 15 rfl rfl)
theorem dX8_hourOn_181 : decode cX8_hourOn 181 = .ok (.getfield 42, 3) := dk_180 0 42 (dk_at dksX8_hourOn_7 16 rfl rfl)
theorem dX8_hourOn_184 : decode cX8_hourOn 184 = .ok (.iload_n 2, 1) := dk_28 (dk_at dksX8_hourOn_7 19 rfl rfl)
theorem dX8_hourOn_185 : decode cX8_hourOn 185 = .ok (.iconst 0, 1) := dk_3 (dk_at dksX8_hourOn_7 20 rfl rfl)
theorem dX8_hourOn_186 : decode cX8_hourOn 186 = .ok (.aload_n 0, 1) := dk_42 (dk_at dksX8_hourOn_7 21 rfl rfl)
theorem dX8_hourOn_187 : decode cX8_hourOn 187 = .ok (.getfield 42, 3) := dk_180 0 42 (dk_at dksX8_hourOn_8 0 rfl rfl)
theorem dX8_hourOn_190 : decode cX8_hourOn 190 = .ok (.iload_n 2, 1) := dk_28 (dk_at dksX8_hourOn_8 3 rfl rfl)
theorem dX8_hourOn_191 : decode cX8_hourOn 191 = .ok (.iaload, 1) := dk_46 (dk_at dksX8_hourOn_8 4 rfl rfl)
theorem dX8_hourOn_192 : decode cX8_hourOn 192 = .ok (.iconst 1, 1) := dk_4 (dk_at dksX8_hourOn_8 5 rfl rfl)
theorem dX8_hourOn_193 : decode cX8_hourOn 193 = .ok (.isub, 1) := dk_100 (dk_at dksX8_hourOn_8 6 rfl rfl)
theorem dX8_hourOn_194 : decode cX8_hourOn 194 = .ok (.invokestatic 134, 3) := dk_184 0 134 (dk_at dksX8_hourOn_8 7 rfl rfl)
theorem dX8_hourOn_197 : decode cX8_hourOn 197 = .ok (.iastore, 1) := dk_79 (dk_at dksX8_hourOn_8 10 rfl rfl)
theorem dX8_hourOn_198 : decode cX8_hourOn 198 = .ok (.iinc 2 1, 3) := dk_132 2 1 (dk_at dksX8_hourOn_8 11 rfl rfl)
theorem dX8_hourOn_201 : decode cX8_hourOn 201 = .ok (.goto (-98), 3) := dk_167 255 158 (dk_at dksX8_hourOn_8 14 rfl rfl)
theorem dX8_hourOn_204 : decode cX8_hourOn 204 = .ok (.aload_n 0, 1) := dk_42 (dk_at dksX8_hourOn_8 17 rfl rfl)
theorem dX8_hourOn_205 : decode cX8_hourOn 205 = .ok (.dup, 1) := dk_89 (dk_at dksX8_hourOn_8 18 rfl rfl)
theorem dX8_hourOn_206 : decode cX8_hourOn 206 = .ok (.getfield 76, 3) := dk_180 0 76 (dk_at dksX8_hourOn_8 19 rfl rfl)
theorem dX8_hourOn_209 : decode cX8_hourOn 209 = .ok (.iconst 1, 1) := dk_4 (dk_at dksX8_hourOn_8 22 rfl rfl)
theorem dX8_hourOn_210 : decode cX8_hourOn 210 = .ok (.iadd, 1) := dk_96 (dk_at dksX8_hourOn_8 23 rfl rfl)
theorem dX8_hourOn_211 : decode cX8_hourOn 211 = .ok (.putfield 76, 3) := dk_181 0 76 (dk_at dksX8_hourOn_9 0 rfl rfl)
theorem dX8_hourOn_214 : decode cX8_hourOn 214 = .ok (.iload_n 1, 1) := dk_27 (dk_at dksX8_hourOn_9 3 rfl rfl)
theorem dX8_hourOn_215 : decode cX8_hourOn 215 = .ok (.ireturn, 1) := dk_172 (dk_at dksX8_hourOn_9 4 rfl rfl)
abbrev cX8_gotBy : ByteArray := prog_15_method_9_code
def yX8_gotBy : MethodName := ⟨RX8, "gotBy", "(I)I"⟩
def dkwX8_gotBy_8 : List UInt8 := [27, 46, 164, 0, 7, 4, 167, 0, 4, 3, 62, 29, 153, 0, 7, 28, 167, 0, 5, 16, 247, 172]
abbrev dktX8_gotBy_8 : List UInt8 := dkwX8_gotBy_8 ++ []
def dkwX8_gotBy_7 : List UInt8 := [180, 0, 113, 42, 27, 182, 0, 116, 164, 0, 25, 42, 180, 0, 20, 28, 50, 182, 0, 85, 42, 180, 0, 39]
abbrev dktX8_gotBy_7 : List UInt8 := dkwX8_gotBy_7 ++ dktX8_gotBy_8
def dkwX8_gotBy_6 : List UInt8 := [167, 0, 4, 28, 61, 132, 3, 1, 167, 255, 118, 28, 16, 247, 159, 0, 42, 42, 180, 0, 20, 28, 50]
abbrev dktX8_gotBy_6 : List UInt8 := dkwX8_gotBy_6 ++ dktX8_gotBy_7
def dkwX8_gotBy_5 : List UInt8 := [160, 0, 13, 21, 4, 28, 162, 0, 7, 4, 167, 0, 4, 3, 54, 6, 21, 6, 153, 0, 8, 21, 4]
abbrev dktX8_gotBy_5 : List UInt8 := dkwX8_gotBy_5 ++ dktX8_gotBy_6
def dkwX8_gotBy_4 : List UInt8 := [163, 0, 31, 42, 180, 0, 20, 21, 4, 50, 180, 0, 113, 42, 180, 0, 20, 28, 50, 180, 0, 113]
abbrev dktX8_gotBy_4 : List UInt8 := dkwX8_gotBy_4 ++ dktX8_gotBy_5
def dkwX8_gotBy_3 : List UInt8 := [159, 0, 53, 42, 180, 0, 20, 21, 4, 50, 180, 0, 113, 42, 180, 0, 20, 28, 50, 180, 0, 113]
abbrev dktX8_gotBy_3 : List UInt8 := dkwX8_gotBy_3 ++ dktX8_gotBy_4
def dkwX8_gotBy_2 : List UInt8 := [180, 0, 36, 27, 46, 159, 0, 7, 4, 167, 0, 4, 3, 54, 5, 21, 5, 153, 0, 63, 28, 16, 247]
abbrev dktX8_gotBy_2 : List UInt8 := dkwX8_gotBy_2 ++ dktX8_gotBy_3
def dkwX8_gotBy_1 : List UInt8 := [180, 0, 49, 29, 46, 167, 0, 5, 16, 247, 54, 4, 21, 4, 16, 247, 159, 0, 18, 21, 4, 42]
abbrev dktX8_gotBy_1 : List UInt8 := dkwX8_gotBy_1 ++ dktX8_gotBy_2
def dkwX8_gotBy_0 : List UInt8 := [16, 247, 61, 3, 62, 29, 42, 180, 0, 73, 162, 0, 136, 42, 27, 29, 182, 0, 110, 153, 0, 12, 42]
abbrev dktX8_gotBy_0 : List UInt8 := dkwX8_gotBy_0 ++ dktX8_gotBy_1
theorem dksX8_gotBy_0 : cX8_gotBy.data.toList.drop 0 = dktX8_gotBy_0 := by decide +kernel
theorem dksX8_gotBy_1 : cX8_gotBy.data.toList.drop 23 = dktX8_gotBy_1 := dk_seg dksX8_gotBy_0 23 rfl rfl
theorem dksX8_gotBy_2 : cX8_gotBy.data.toList.drop 45 = dktX8_gotBy_2 := dk_seg dksX8_gotBy_1 22 rfl rfl
theorem dksX8_gotBy_3 : cX8_gotBy.data.toList.drop 68 = dktX8_gotBy_3 := dk_seg dksX8_gotBy_2 23 rfl rfl
theorem dksX8_gotBy_4 : cX8_gotBy.data.toList.drop 90 = dktX8_gotBy_4 := dk_seg dksX8_gotBy_3 22 rfl rfl
theorem dksX8_gotBy_5 : cX8_gotBy.data.toList.drop 112 = dktX8_gotBy_5 := dk_seg dksX8_gotBy_4 22 rfl rfl
theorem dksX8_gotBy_6 : cX8_gotBy.data.toList.drop 135 = dktX8_gotBy_6 := dk_seg dksX8_gotBy_5 23 rfl rfl
theorem dksX8_gotBy_7 : cX8_gotBy.data.toList.drop 158 = dktX8_gotBy_7 := dk_seg dksX8_gotBy_6 23 rfl rfl
theorem dksX8_gotBy_8 : cX8_gotBy.data.toList.drop 182 = dktX8_gotBy_8 := dk_seg dksX8_gotBy_7 24 rfl rfl
theorem dX8_gotBy_0 : decode cX8_gotBy 0 = .ok (.bipush (-9), 2) := dk_16 247 (dk_at dksX8_gotBy_0 0 rfl rfl)
theorem dX8_gotBy_2 : decode cX8_gotBy 2 = .ok (.istore_n 2, 1) := dk_61 (dk_at dksX8_gotBy_0 2 rfl rfl)
theorem dX8_gotBy_3 : decode cX8_gotBy 3 = .ok (.iconst 0, 1) := dk_3 (dk_at dksX8_gotBy_0 3 rfl rfl)
theorem dX8_gotBy_4 : decode cX8_gotBy 4 = .ok (.istore_n 3, 1) := dk_62 (dk_at dksX8_gotBy_0 4 rfl rfl)
theorem dX8_gotBy_5 : decode cX8_gotBy 5 = .ok (.iload_n 3, 1) := dk_29 (dk_at dksX8_gotBy_0 5 rfl rfl)
theorem dX8_gotBy_6 : decode cX8_gotBy 6 = .ok (.aload_n 0, 1) := dk_42 (dk_at dksX8_gotBy_0 6 rfl rfl)
theorem dX8_gotBy_7 : decode cX8_gotBy 7 = .ok (.getfield 73, 3) := dk_180 0 73 (dk_at dksX8_gotBy_0 7 rfl rfl)
theorem dX8_gotBy_10 : decode cX8_gotBy 10 = .ok (.if_icmp .ge 136, 3) := dk_162 0 136 (dk_at dksX8_gotBy_0 10 rfl rfl)
theorem dX8_gotBy_13 : decode cX8_gotBy 13 = .ok (.aload_n 0, 1) := dk_42 (dk_at dksX8_gotBy_0 13 rfl rfl)
theorem dX8_gotBy_14 : decode cX8_gotBy 14 = .ok (.iload_n 1, 1) := dk_27 (dk_at dksX8_gotBy_0 14 rfl rfl)
theorem dX8_gotBy_15 : decode cX8_gotBy 15 = .ok (.iload_n 3, 1) := dk_29 (dk_at dksX8_gotBy_0 15 rfl rfl)
theorem dX8_gotBy_16 : decode cX8_gotBy 16 = .ok (.invokevirtual 110, 3) := dk_182 0 110 (dk_at dksX8_gotBy_0 16 rfl rfl)
theorem dX8_gotBy_19 : decode cX8_gotBy 19 = .ok (.ifCond .eq 12, 3) := dk_153 0 12 (dk_at dksX8_gotBy_0 19 rfl rfl)
theorem dX8_gotBy_22 : decode cX8_gotBy 22 = .ok (.aload_n 0, 1) := dk_42 (dk_at dksX8_gotBy_0 22 rfl rfl)
theorem dX8_gotBy_23 : decode cX8_gotBy 23 = .ok (.getfield 49, 3) := dk_180 0 49 (dk_at dksX8_gotBy_1 0 rfl rfl)
theorem dX8_gotBy_26 : decode cX8_gotBy 26 = .ok (.iload_n 3, 1) := dk_29 (dk_at dksX8_gotBy_1 3 rfl rfl)
theorem dX8_gotBy_27 : decode cX8_gotBy 27 = .ok (.iaload, 1) := dk_46 (dk_at dksX8_gotBy_1 4 rfl rfl)
theorem dX8_gotBy_28 : decode cX8_gotBy 28 = .ok (.goto 5, 3) := dk_167 0 5 (dk_at dksX8_gotBy_1 5 rfl rfl)
theorem dX8_gotBy_31 : decode cX8_gotBy 31 = .ok (.bipush (-9), 2) := dk_16 247 (dk_at dksX8_gotBy_1 8 rfl rfl)
theorem dX8_gotBy_33 : decode cX8_gotBy 33 = .ok (.istore 4, 2) := dk_54 4 (dk_at dksX8_gotBy_1 10 rfl rfl)
theorem dX8_gotBy_35 : decode cX8_gotBy 35 = .ok (.iload 4, 2) := dk_21 4 (dk_at dksX8_gotBy_1 12 rfl rfl)
theorem dX8_gotBy_37 : decode cX8_gotBy 37 = .ok (.bipush (-9), 2) := dk_16 247 (dk_at dksX8_gotBy_1 14 rfl rfl)
theorem dX8_gotBy_39 : decode cX8_gotBy 39 = .ok (.if_icmp .eq 18, 3) := dk_159 0 18 (dk_at dksX8_gotBy_1 16 rfl rfl)
theorem dX8_gotBy_42 : decode cX8_gotBy 42 = .ok (.iload 4, 2) := dk_21 4 (dk_at dksX8_gotBy_1 19 rfl rfl)
theorem dX8_gotBy_44 : decode cX8_gotBy 44 = .ok (.aload_n 0, 1) := dk_42 (dk_at dksX8_gotBy_1 21 rfl rfl)
theorem dX8_gotBy_45 : decode cX8_gotBy 45 = .ok (.getfield 36, 3) := dk_180 0 36 (dk_at dksX8_gotBy_2 0 rfl rfl)
theorem dX8_gotBy_48 : decode cX8_gotBy 48 = .ok (.iload_n 1, 1) := dk_27 (dk_at dksX8_gotBy_2 3 rfl rfl)
theorem dX8_gotBy_49 : decode cX8_gotBy 49 = .ok (.iaload, 1) := dk_46 (dk_at dksX8_gotBy_2 4 rfl rfl)
theorem dX8_gotBy_50 : decode cX8_gotBy 50 = .ok (.if_icmp .eq 7, 3) := dk_159 0 7 (dk_at dksX8_gotBy_2 5 rfl rfl)
theorem dX8_gotBy_53 : decode cX8_gotBy 53 = .ok (.iconst 1, 1) := dk_4 (dk_at dksX8_gotBy_2 8 rfl rfl)
theorem dX8_gotBy_54 : decode cX8_gotBy 54 = .ok (.goto 4, 3) := dk_167 0 4 (dk_at dksX8_gotBy_2 9 rfl rfl)
theorem dX8_gotBy_57 : decode cX8_gotBy 57 = .ok (.iconst 0, 1) := dk_3 (dk_at dksX8_gotBy_2 12 rfl rfl)
theorem dX8_gotBy_58 : decode cX8_gotBy 58 = .ok (.istore 5, 2) := dk_54 5 (dk_at dksX8_gotBy_2 13 rfl rfl)
theorem dX8_gotBy_60 : decode cX8_gotBy 60 = .ok (.iload 5, 2) := dk_21 5 (dk_at dksX8_gotBy_2 15 rfl rfl)
theorem dX8_gotBy_62 : decode cX8_gotBy 62 = .ok (.ifCond .eq 63, 3) := dk_153 0 63 (dk_at dksX8_gotBy_2 17 rfl rfl)
theorem dX8_gotBy_65 : decode cX8_gotBy 65 = .ok (.iload_n 2, 1) := dk_28 (dk_at dksX8_gotBy_2 20 rfl rfl)
theorem dX8_gotBy_66 : decode cX8_gotBy 66 = .ok (.bipush (-9), 2) := dk_16 247 (dk_at dksX8_gotBy_2 21 rfl rfl)
theorem dX8_gotBy_68 : decode cX8_gotBy 68 = .ok (.if_icmp .eq 53, 3) := dk_159 0 53 (dk_at dksX8_gotBy_3 0 rfl rfl)
theorem dX8_gotBy_71 : decode cX8_gotBy 71 = .ok (.aload_n 0, 1) := dk_42 (dk_at dksX8_gotBy_3 3 rfl rfl)
theorem dX8_gotBy_72 : decode cX8_gotBy 72 = .ok (.getfield 20, 3) := dk_180 0 20 (dk_at dksX8_gotBy_3 4 rfl rfl)
theorem dX8_gotBy_75 : decode cX8_gotBy 75 = .ok (.iload 4, 2) := dk_21 4 (dk_at dksX8_gotBy_3 7 rfl rfl)
theorem dX8_gotBy_77 : decode cX8_gotBy 77 = .ok (.aaload, 1) := dk_50 (dk_at dksX8_gotBy_3 9 rfl rfl)
theorem dX8_gotBy_78 : decode cX8_gotBy 78 = .ok (.getfield 113, 3) := dk_180 0 113 (dk_at dksX8_gotBy_3 10 rfl rfl)
theorem dX8_gotBy_81 : decode cX8_gotBy 81 = .ok (.aload_n 0, 1) := dk_42 (dk_at dksX8_gotBy_3 13 rfl rfl)
theorem dX8_gotBy_82 : decode cX8_gotBy 82 = .ok (.getfield 20, 3) := dk_180 0 20 (dk_at dksX8_gotBy_3 14 rfl rfl)
theorem dX8_gotBy_85 : decode cX8_gotBy 85 = .ok (.iload_n 2, 1) := dk_28 (dk_at dksX8_gotBy_3 17 rfl rfl)
theorem dX8_gotBy_86 : decode cX8_gotBy 86 = .ok (.aaload, 1) := dk_50 (dk_at dksX8_gotBy_3 18 rfl rfl)
theorem dX8_gotBy_87 : decode cX8_gotBy 87 = .ok (.getfield 113, 3) := dk_180 0 113 (dk_at dksX8_gotBy_3 19 rfl rfl)
theorem dX8_gotBy_90 : decode cX8_gotBy 90 = .ok (.if_icmp .gt 31, 3) := dk_163 0 31 (dk_at dksX8_gotBy_4 0 rfl rfl)
theorem dX8_gotBy_93 : decode cX8_gotBy 93 = .ok (.aload_n 0, 1) := dk_42 (dk_at dksX8_gotBy_4 3 rfl rfl)
theorem dX8_gotBy_94 : decode cX8_gotBy 94 = .ok (.getfield 20, 3) := dk_180 0 20 (dk_at dksX8_gotBy_4 4 rfl rfl)
theorem dX8_gotBy_97 : decode cX8_gotBy 97 = .ok (.iload 4, 2) := dk_21 4 (dk_at dksX8_gotBy_4 7 rfl rfl)
theorem dX8_gotBy_99 : decode cX8_gotBy 99 = .ok (.aaload, 1) := dk_50 (dk_at dksX8_gotBy_4 9 rfl rfl)
theorem dX8_gotBy_100 : decode cX8_gotBy 100 = .ok (.getfield 113, 3) := dk_180 0 113 (dk_at dksX8_gotBy_4 10 rfl rfl)
theorem dX8_gotBy_103 : decode cX8_gotBy 103 = .ok (.aload_n 0, 1) := dk_42 (dk_at dksX8_gotBy_4 13 rfl rfl)
theorem dX8_gotBy_104 : decode cX8_gotBy 104 = .ok (.getfield 20, 3) := dk_180 0 20 (dk_at dksX8_gotBy_4 14 rfl rfl)
theorem dX8_gotBy_107 : decode cX8_gotBy 107 = .ok (.iload_n 2, 1) := dk_28 (dk_at dksX8_gotBy_4 17 rfl rfl)
theorem dX8_gotBy_108 : decode cX8_gotBy 108 = .ok (.aaload, 1) := dk_50 (dk_at dksX8_gotBy_4 18 rfl rfl)
theorem dX8_gotBy_109 : decode cX8_gotBy 109 = .ok (.getfield 113, 3) := dk_180 0 113 (dk_at dksX8_gotBy_4 19 rfl rfl)
theorem dX8_gotBy_112 : decode cX8_gotBy 112 = .ok (.if_icmp .ne 13, 3) := dk_160 0 13 (dk_at dksX8_gotBy_5 0 rfl rfl)
theorem dX8_gotBy_115 : decode cX8_gotBy 115 = .ok (.iload 4, 2) := dk_21 4 (dk_at dksX8_gotBy_5 3 rfl rfl)
theorem dX8_gotBy_117 : decode cX8_gotBy 117 = .ok (.iload_n 2, 1) := dk_28 (dk_at dksX8_gotBy_5 5 rfl rfl)
theorem dX8_gotBy_118 : decode cX8_gotBy 118 = .ok (.if_icmp .ge 7, 3) := dk_162 0 7 (dk_at dksX8_gotBy_5 6 rfl rfl)
theorem dX8_gotBy_121 : decode cX8_gotBy 121 = .ok (.iconst 1, 1) := dk_4 (dk_at dksX8_gotBy_5 9 rfl rfl)
theorem dX8_gotBy_122 : decode cX8_gotBy 122 = .ok (.goto 4, 3) := dk_167 0 4 (dk_at dksX8_gotBy_5 10 rfl rfl)
theorem dX8_gotBy_125 : decode cX8_gotBy 125 = .ok (.iconst 0, 1) := dk_3 (dk_at dksX8_gotBy_5 13 rfl rfl)
theorem dX8_gotBy_126 : decode cX8_gotBy 126 = .ok (.istore 6, 2) := dk_54 6 (dk_at dksX8_gotBy_5 14 rfl rfl)
theorem dX8_gotBy_128 : decode cX8_gotBy 128 = .ok (.iload 6, 2) := dk_21 6 (dk_at dksX8_gotBy_5 16 rfl rfl)
theorem dX8_gotBy_130 : decode cX8_gotBy 130 = .ok (.ifCond .eq 8, 3) := dk_153 0 8 (dk_at dksX8_gotBy_5 18 rfl rfl)
theorem dX8_gotBy_133 : decode cX8_gotBy 133 = .ok (.iload 4, 2) := dk_21 4 (dk_at dksX8_gotBy_5 21 rfl rfl)
theorem dX8_gotBy_135 : decode cX8_gotBy 135 = .ok (.goto 4, 3) := dk_167 0 4 (dk_at dksX8_gotBy_6 0 rfl rfl)
theorem dX8_gotBy_138 : decode cX8_gotBy 138 = .ok (.iload_n 2, 1) := dk_28 (dk_at dksX8_gotBy_6 3 rfl rfl)
theorem dX8_gotBy_139 : decode cX8_gotBy 139 = .ok (.istore_n 2, 1) := dk_61 (dk_at dksX8_gotBy_6 4 rfl rfl)
theorem dX8_gotBy_140 : decode cX8_gotBy 140 = .ok (.iinc 3 1, 3) := dk_132 3 1 (dk_at dksX8_gotBy_6 5 rfl rfl)
theorem dX8_gotBy_143 : decode cX8_gotBy 143 = .ok (.goto (-138), 3) := dk_167 255 118 (dk_at dksX8_gotBy_6 8 rfl rfl)
theorem dX8_gotBy_146 : decode cX8_gotBy 146 = .ok (.iload_n 2, 1) := dk_28 (dk_at dksX8_gotBy_6 11 rfl rfl)
theorem dX8_gotBy_147 : decode cX8_gotBy 147 = .ok (.bipush (-9), 2) := dk_16 247 (dk_at dksX8_gotBy_6 12 rfl rfl)
theorem dX8_gotBy_149 : decode cX8_gotBy 149 = .ok (.if_icmp .eq 42, 3) := dk_159 0 42 (dk_at dksX8_gotBy_6 14 rfl rfl)
theorem dX8_gotBy_152 : decode cX8_gotBy 152 = .ok (.aload_n 0, 1) := dk_42 (dk_at dksX8_gotBy_6 17 rfl rfl)
theorem dX8_gotBy_153 : decode cX8_gotBy 153 = .ok (.getfield 20, 3) := dk_180 0 20 (dk_at dksX8_gotBy_6 18 rfl rfl)
theorem dX8_gotBy_156 : decode cX8_gotBy 156 = .ok (.iload_n 2, 1) := dk_28 (dk_at dksX8_gotBy_6 21 rfl rfl)
theorem dX8_gotBy_157 : decode cX8_gotBy 157 = .ok (.aaload, 1) := dk_50 (dk_at dksX8_gotBy_6 22 rfl rfl)
theorem dX8_gotBy_158 : decode cX8_gotBy 158 = .ok (.getfield 113, 3) := dk_180 0 113 (dk_at dksX8_gotBy_7 0 rfl rfl)
theorem dX8_gotBy_161 : decode cX8_gotBy 161 = .ok (.aload_n 0, 1) := dk_42 (dk_at dksX8_gotBy_7 3 rfl rfl)
theorem dX8_gotBy_162 : decode cX8_gotBy 162 = .ok (.iload_n 1, 1) := dk_27 (dk_at dksX8_gotBy_7 4 rfl rfl)
theorem dX8_gotBy_163 : decode cX8_gotBy 163 = .ok (.invokevirtual 116, 3) := dk_182 0 116 (dk_at dksX8_gotBy_7 5 rfl rfl)
theorem dX8_gotBy_166 : decode cX8_gotBy 166 = .ok (.if_icmp .le 25, 3) := dk_164 0 25 (dk_at dksX8_gotBy_7 8 rfl rfl)
theorem dX8_gotBy_169 : decode cX8_gotBy 169 = .ok (.aload_n 0, 1) := dk_42 (dk_at dksX8_gotBy_7 11 rfl rfl)
theorem dX8_gotBy_170 : decode cX8_gotBy 170 = .ok (.getfield 20, 3) := dk_180 0 20 (dk_at dksX8_gotBy_7 12 rfl rfl)
theorem dX8_gotBy_173 : decode cX8_gotBy 173 = .ok (.iload_n 2, 1) := dk_28 (dk_at dksX8_gotBy_7 15 rfl rfl)
theorem dX8_gotBy_174 : decode cX8_gotBy 174 = .ok (.aaload, 1) := dk_50 (dk_at dksX8_gotBy_7 16 rfl rfl)
theorem dX8_gotBy_175 : decode cX8_gotBy 175 = .ok (.invokevirtual 85, 3) := dk_182 0 85 (dk_at dksX8_gotBy_7 17 rfl rfl)
theorem dX8_gotBy_178 : decode cX8_gotBy 178 = .ok (.aload_n 0, 1) := dk_42 (dk_at dksX8_gotBy_7 20 rfl rfl)
theorem dX8_gotBy_179 : decode cX8_gotBy 179 = .ok (.getfield 39, 3) := dk_180 0 39 (dk_at dksX8_gotBy_7 21 rfl rfl)
theorem dX8_gotBy_182 : decode cX8_gotBy 182 = .ok (.iload_n 1, 1) := dk_27 (dk_at dksX8_gotBy_8 0 rfl rfl)
theorem dX8_gotBy_183 : decode cX8_gotBy 183 = .ok (.iaload, 1) := dk_46 (dk_at dksX8_gotBy_8 1 rfl rfl)
theorem dX8_gotBy_184 : decode cX8_gotBy 184 = .ok (.if_icmp .le 7, 3) := dk_164 0 7 (dk_at dksX8_gotBy_8 2 rfl rfl)
theorem dX8_gotBy_187 : decode cX8_gotBy 187 = .ok (.iconst 1, 1) := dk_4 (dk_at dksX8_gotBy_8 5 rfl rfl)
theorem dX8_gotBy_188 : decode cX8_gotBy 188 = .ok (.goto 4, 3) := dk_167 0 4 (dk_at dksX8_gotBy_8 6 rfl rfl)
theorem dX8_gotBy_191 : decode cX8_gotBy 191 = .ok (.iconst 0, 1) := dk_3 (dk_at dksX8_gotBy_8 9 rfl rfl)
theorem dX8_gotBy_192 : decode cX8_gotBy 192 = .ok (.istore_n 3, 1) := dk_62 (dk_at dksX8_gotBy_8 10 rfl rfl)
theorem dX8_gotBy_193 : decode cX8_gotBy 193 = .ok (.iload_n 3, 1) := dk_29 (dk_at dksX8_gotBy_8 11 rfl rfl)
theorem dX8_gotBy_194 : decode cX8_gotBy 194 = .ok (.ifCond .eq 7, 3) := dk_153 0 7 (dk_at dksX8_gotBy_8 12 rfl rfl)
theorem dX8_gotBy_197 : decode cX8_gotBy 197 = .ok (.iload_n 2, 1) := dk_28 (dk_at dksX8_gotBy_8 15 rfl rfl)
theorem dX8_gotBy_198 : decode cX8_gotBy 198 = .ok (.goto 5, 3) := dk_167 0 5 (dk_at dksX8_gotBy_8 16 rfl rfl)
theorem dX8_gotBy_201 : decode cX8_gotBy 201 = .ok (.bipush (-9), 2) := dk_16 247 (dk_at dksX8_gotBy_8 19 rfl rfl)
theorem dX8_gotBy_203 : decode cX8_gotBy 203 = .ok (.ireturn, 1) := dk_172 (dk_at dksX8_gotBy_8 21 rfl rfl)
abbrev cX8_giverOf : ByteArray := prog_15_method_10_code
def yX8_giverOf : MethodName := ⟨RX8, "giverOf", "(I)I"⟩
def dkwX8_giverOf_1 : List UInt8 := [46, 42, 180, 0, 52, 27, 46, 160, 0, 5, 28, 172, 132, 2, 1, 167, 255, 219, 16, 247, 172]
abbrev dktX8_giverOf_1 : List UInt8 := dkwX8_giverOf_1 ++ []
def dkwX8_giverOf_0 : List UInt8 := [3, 61, 28, 42, 180, 0, 73, 162, 0, 35, 42, 27, 28, 182, 0, 110, 153, 0, 20, 42, 180, 0, 49, 28]
abbrev dktX8_giverOf_0 : List UInt8 := dkwX8_giverOf_0 ++ dktX8_giverOf_1
theorem dksX8_giverOf_0 : cX8_giverOf.data.toList.drop 0 = dktX8_giverOf_0 := by decide +kernel
theorem dksX8_giverOf_1 : cX8_giverOf.data.toList.drop 24 = dktX8_giverOf_1 := dk_seg dksX8_giverOf_0 24 rfl rfl
theorem dX8_giverOf_0 : decode cX8_giverOf 0 = .ok (.iconst 0, 1) := dk_3 (dk_at dksX8_giverOf_0 0 rfl rfl)
theorem dX8_giverOf_1 : decode cX8_giverOf 1 = .ok (.istore_n 2, 1) := dk_61 (dk_at dksX8_giverOf_0 1 rfl rfl)
theorem dX8_giverOf_2 : decode cX8_giverOf 2 = .ok (.iload_n 2, 1) := dk_28 (dk_at dksX8_giverOf_0 2 rfl rfl)
theorem dX8_giverOf_3 : decode cX8_giverOf 3 = .ok (.aload_n 0, 1) := dk_42 (dk_at dksX8_giverOf_0 3 rfl rfl)
theorem dX8_giverOf_4 : decode cX8_giverOf 4 = .ok (.getfield 73, 3) := dk_180 0 73 (dk_at dksX8_giverOf_0 4 rfl rfl)
theorem dX8_giverOf_7 : decode cX8_giverOf 7 = .ok (.if_icmp .ge 35, 3) := dk_162 0 35 (dk_at dksX8_giverOf_0 7 rfl rfl)
theorem dX8_giverOf_10 : decode cX8_giverOf 10 = .ok (.aload_n 0, 1) := dk_42 (dk_at dksX8_giverOf_0 10 rfl rfl)
theorem dX8_giverOf_11 : decode cX8_giverOf 11 = .ok (.iload_n 1, 1) := dk_27 (dk_at dksX8_giverOf_0 11 rfl rfl)
theorem dX8_giverOf_12 : decode cX8_giverOf 12 = .ok (.iload_n 2, 1) := dk_28 (dk_at dksX8_giverOf_0 12 rfl rfl)
theorem dX8_giverOf_13 : decode cX8_giverOf 13 = .ok (.invokevirtual 110, 3) := dk_182 0 110 (dk_at dksX8_giverOf_0 13 rfl rfl)
theorem dX8_giverOf_16 : decode cX8_giverOf 16 = .ok (.ifCond .eq 20, 3) := dk_153 0 20 (dk_at dksX8_giverOf_0 16 rfl rfl)
theorem dX8_giverOf_19 : decode cX8_giverOf 19 = .ok (.aload_n 0, 1) := dk_42 (dk_at dksX8_giverOf_0 19 rfl rfl)
theorem dX8_giverOf_20 : decode cX8_giverOf 20 = .ok (.getfield 49, 3) := dk_180 0 49 (dk_at dksX8_giverOf_0 20 rfl rfl)
theorem dX8_giverOf_23 : decode cX8_giverOf 23 = .ok (.iload_n 2, 1) := dk_28 (dk_at dksX8_giverOf_0 23 rfl rfl)
theorem dX8_giverOf_24 : decode cX8_giverOf 24 = .ok (.iaload, 1) := dk_46 (dk_at dksX8_giverOf_1 0 rfl rfl)
theorem dX8_giverOf_25 : decode cX8_giverOf 25 = .ok (.aload_n 0, 1) := dk_42 (dk_at dksX8_giverOf_1 1 rfl rfl)
theorem dX8_giverOf_26 : decode cX8_giverOf 26 = .ok (.getfield 52, 3) := dk_180 0 52 (dk_at dksX8_giverOf_1 2 rfl rfl)
theorem dX8_giverOf_29 : decode cX8_giverOf 29 = .ok (.iload_n 1, 1) := dk_27 (dk_at dksX8_giverOf_1 5 rfl rfl)
theorem dX8_giverOf_30 : decode cX8_giverOf 30 = .ok (.iaload, 1) := dk_46 (dk_at dksX8_giverOf_1 6 rfl rfl)
theorem dX8_giverOf_31 : decode cX8_giverOf 31 = .ok (.if_icmp .ne 5, 3) := dk_160 0 5 (dk_at dksX8_giverOf_1 7 rfl rfl)
theorem dX8_giverOf_34 : decode cX8_giverOf 34 = .ok (.iload_n 2, 1) := dk_28 (dk_at dksX8_giverOf_1 10 rfl rfl)
theorem dX8_giverOf_35 : decode cX8_giverOf 35 = .ok (.ireturn, 1) := dk_172 (dk_at dksX8_giverOf_1 11 rfl rfl)
theorem dX8_giverOf_36 : decode cX8_giverOf 36 = .ok (.iinc 2 1, 3) := dk_132 2 1 (dk_at dksX8_giverOf_1 12 rfl rfl)
theorem dX8_giverOf_39 : decode cX8_giverOf 39 = .ok (.goto (-37), 3) := dk_167 255 219 (dk_at dksX8_giverOf_1 15 rfl rfl)
theorem dX8_giverOf_42 : decode cX8_giverOf 42 = .ok (.bipush (-9), 2) := dk_16 247 (dk_at dksX8_giverOf_1 18 rfl rfl)
theorem dX8_giverOf_44 : decode cX8_giverOf 44 = .ok (.ireturn, 1) := dk_172 (dk_at dksX8_giverOf_1 20 rfl rfl)
abbrev cX8_fade : ByteArray := prog_15_method_12_code
def yX8_fade : MethodName := ⟨RX8, "fade", "(I)V"⟩
def dkwX8_fade_1 : List UInt8 := [158, 0, 7, 4, 167, 0, 4, 3, 96, 61, 42, 27, 28, 182, 0, 140, 177]
abbrev dktX8_fade_1 : List UInt8 := dkwX8_fade_1 ++ []
def dkwX8_fade_0 : List UInt8 := [42, 180, 0, 20, 42, 180, 0, 36, 27, 46, 50, 42, 180, 0, 76, 182, 0, 137, 42, 180, 0, 42, 27, 46]
abbrev dktX8_fade_0 : List UInt8 := dkwX8_fade_0 ++ dktX8_fade_1
theorem dksX8_fade_0 : cX8_fade.data.toList.drop 0 = dktX8_fade_0 := by decide +kernel
theorem dksX8_fade_1 : cX8_fade.data.toList.drop 24 = dktX8_fade_1 := dk_seg dksX8_fade_0 24 rfl rfl
theorem dX8_fade_0 : decode cX8_fade 0 = .ok (.aload_n 0, 1) := dk_42 (dk_at dksX8_fade_0 0 rfl rfl)
theorem dX8_fade_1 : decode cX8_fade 1 = .ok (.getfield 20, 3) := dk_180 0 20 (dk_at dksX8_fade_0 1 rfl rfl)
theorem dX8_fade_4 : decode cX8_fade 4 = .ok (.aload_n 0, 1) := dk_42 (dk_at dksX8_fade_0 4 rfl rfl)
theorem dX8_fade_5 : decode cX8_fade 5 = .ok (.getfield 36, 3) := dk_180 0 36 (dk_at dksX8_fade_0 5 rfl rfl)
theorem dX8_fade_8 : decode cX8_fade 8 = .ok (.iload_n 1, 1) := dk_27 (dk_at dksX8_fade_0 8 rfl rfl)
theorem dX8_fade_9 : decode cX8_fade 9 = .ok (.iaload, 1) := dk_46 (dk_at dksX8_fade_0 9 rfl rfl)
theorem dX8_fade_10 : decode cX8_fade 10 = .ok (.aaload, 1) := dk_50 (dk_at dksX8_fade_0 10 rfl rfl)
theorem dX8_fade_11 : decode cX8_fade 11 = .ok (.aload_n 0, 1) := dk_42 (dk_at dksX8_fade_0 11 rfl rfl)
theorem dX8_fade_12 : decode cX8_fade 12 = .ok (.getfield 76, 3) := dk_180 0 76 (dk_at dksX8_fade_0 12 rfl rfl)
theorem dX8_fade_15 : decode cX8_fade 15 = .ok (.invokevirtual 137, 3) := dk_182 0 137 (dk_at dksX8_fade_0 15 rfl rfl)
theorem dX8_fade_18 : decode cX8_fade 18 = .ok (.aload_n 0, 1) := dk_42 (dk_at dksX8_fade_0 18 rfl rfl)
theorem dX8_fade_19 : decode cX8_fade 19 = .ok (.getfield 42, 3) := dk_180 0 42 (dk_at dksX8_fade_0 19 rfl rfl)
theorem dX8_fade_22 : decode cX8_fade 22 = .ok (.iload_n 1, 1) := dk_27 (dk_at dksX8_fade_0 22 rfl rfl)
theorem dX8_fade_23 : decode cX8_fade 23 = .ok (.iaload, 1) := dk_46 (dk_at dksX8_fade_0 23 rfl rfl)
theorem dX8_fade_24 : decode cX8_fade 24 = .ok (.ifCond .le 7, 3) := dk_158 0 7 (dk_at dksX8_fade_1 0 rfl rfl)
theorem dX8_fade_27 : decode cX8_fade 27 = .ok (.iconst 1, 1) := dk_4 (dk_at dksX8_fade_1 3 rfl rfl)
theorem dX8_fade_28 : decode cX8_fade 28 = .ok (.goto 4, 3) := dk_167 0 4 (dk_at dksX8_fade_1 4 rfl rfl)
theorem dX8_fade_31 : decode cX8_fade 31 = .ok (.iconst 0, 1) := dk_3 (dk_at dksX8_fade_1 7 rfl rfl)
theorem dX8_fade_32 : decode cX8_fade 32 = .ok (.iadd, 1) := dk_96 (dk_at dksX8_fade_1 8 rfl rfl)
theorem dX8_fade_33 : decode cX8_fade 33 = .ok (.istore_n 2, 1) := dk_61 (dk_at dksX8_fade_1 9 rfl rfl)
theorem dX8_fade_34 : decode cX8_fade 34 = .ok (.aload_n 0, 1) := dk_42 (dk_at dksX8_fade_1 10 rfl rfl)
theorem dX8_fade_35 : decode cX8_fade 35 = .ok (.iload_n 1, 1) := dk_27 (dk_at dksX8_fade_1 11 rfl rfl)
theorem dX8_fade_36 : decode cX8_fade 36 = .ok (.iload_n 2, 1) := dk_28 (dk_at dksX8_fade_1 12 rfl rfl)
theorem dX8_fade_37 : decode cX8_fade 37 = .ok (.invokevirtual 140, 3) := dk_182 0 140 (dk_at dksX8_fade_1 13 rfl rfl)
theorem dX8_fade_40 : decode cX8_fade 40 = .ok (.return_, 1) := dk_177 (dk_at dksX8_fade_1 16 rfl rfl)
abbrev cX8_hoursOn : ByteArray := prog_15_method_14_code
def yX8_hoursOn : MethodName := ⟨RX8, "hoursOn", "(I)LSongThatStays$Office;"⟩
def dkwX8_hoursOn_0 : List UInt8 := [3, 61, 28, 27, 162, 0, 14, 42, 182, 0, 143, 87, 132, 2, 1, 167, 255, 243, 42, 176]
abbrev dktX8_hoursOn_0 : List UInt8 := dkwX8_hoursOn_0 ++ []
theorem dksX8_hoursOn_0 : cX8_hoursOn.data.toList.drop 0 = dktX8_hoursOn_0 := by decide +kernel
theorem dX8_hoursOn_0 : decode cX8_hoursOn 0 = .ok (.iconst 0, 1) := dk_3 (dk_at dksX8_hoursOn_0 0 rfl rfl)
theorem dX8_hoursOn_1 : decode cX8_hoursOn 1 = .ok (.istore_n 2, 1) := dk_61 (dk_at dksX8_hoursOn_0 1 rfl rfl)
theorem dX8_hoursOn_2 : decode cX8_hoursOn 2 = .ok (.iload_n 2, 1) := dk_28 (dk_at dksX8_hoursOn_0 2 rfl rfl)
theorem dX8_hoursOn_3 : decode cX8_hoursOn 3 = .ok (.iload_n 1, 1) := dk_27 (dk_at dksX8_hoursOn_0 3 rfl rfl)
theorem dX8_hoursOn_4 : decode cX8_hoursOn 4 = .ok (.if_icmp .ge 14, 3) := dk_162 0 14 (dk_at dksX8_hoursOn_0 4 rfl rfl)
theorem dX8_hoursOn_7 : decode cX8_hoursOn 7 = .ok (.aload_n 0, 1) := dk_42 (dk_at dksX8_hoursOn_0 7 rfl rfl)
theorem dX8_hoursOn_8 : decode cX8_hoursOn 8 = .ok (.invokevirtual 143, 3) := dk_182 0 143 (dk_at dksX8_hoursOn_0 8 rfl rfl)
theorem dX8_hoursOn_11 : decode cX8_hoursOn 11 = .ok (.pop, 1) := dk_87 (dk_at dksX8_hoursOn_0 11 rfl rfl)
theorem dX8_hoursOn_12 : decode cX8_hoursOn 12 = .ok (.iinc 2 1, 3) := dk_132 2 1 (dk_at dksX8_hoursOn_0 12 rfl rfl)
theorem dX8_hoursOn_15 : decode cX8_hoursOn 15 = .ok (.goto (-13), 3) := dk_167 255 243 (dk_at dksX8_hoursOn_0 15 rfl rfl)
theorem dX8_hoursOn_18 : decode cX8_hoursOn 18 = .ok (.aload_n 0, 1) := dk_42 (dk_at dksX8_hoursOn_0 18 rfl rfl)
theorem dX8_hoursOn_19 : decode cX8_hoursOn 19 = .ok (.areturn, 1) := dk_176 (dk_at dksX8_hoursOn_0 19 rfl rfl)
abbrev cX8_beginTrace : ByteArray := prog_15_method_3_code
def yX8_beginTrace : MethodName := ⟨RX8, "beginTrace", "()LSongThatStays$Office;"⟩
def dkwX8_beginTrace_1 : List UInt8 := [132, 1, 1, 167, 255, 231, 42, 176]
abbrev dktX8_beginTrace_1 : List UInt8 := dkwX8_beginTrace_1 ++ []
def dkwX8_beginTrace_0 : List UInt8 := [3, 60, 27, 42, 180, 0, 73, 162, 0, 23, 42, 180, 0, 55, 27, 27, 79, 42, 180, 0, 58, 27, 27, 79]
abbrev dktX8_beginTrace_0 : List UInt8 := dkwX8_beginTrace_0 ++ dktX8_beginTrace_1
theorem dksX8_beginTrace_0 : cX8_beginTrace.data.toList.drop 0 = dktX8_beginTrace_0 := by decide +kernel
theorem dksX8_beginTrace_1 : cX8_beginTrace.data.toList.drop 24 = dktX8_beginTrace_1 := dk_seg dksX8_beginTrace_0 24 rfl rfl
theorem dX8_beginTrace_0 : decode cX8_beginTrace 0 = .ok (.iconst 0, 1) := dk_3 (dk_at dksX8_beginTrace_0 0 rfl rfl)
theorem dX8_beginTrace_1 : decode cX8_beginTrace 1 = .ok (.istore_n 1, 1) := dk_60 (dk_at dksX8_beginTrace_0 1 rfl rfl)
theorem dX8_beginTrace_2 : decode cX8_beginTrace 2 = .ok (.iload_n 1, 1) := dk_27 (dk_at dksX8_beginTrace_0 2 rfl rfl)
theorem dX8_beginTrace_3 : decode cX8_beginTrace 3 = .ok (.aload_n 0, 1) := dk_42 (dk_at dksX8_beginTrace_0 3 rfl rfl)
theorem dX8_beginTrace_4 : decode cX8_beginTrace 4 = .ok (.getfield 73, 3) := dk_180 0 73 (dk_at dksX8_beginTrace_0 4 rfl rfl)
theorem dX8_beginTrace_7 : decode cX8_beginTrace 7 = .ok (.if_icmp .ge 23, 3) := dk_162 0 23 (dk_at dksX8_beginTrace_0 7 rfl rfl)
theorem dX8_beginTrace_10 : decode cX8_beginTrace 10 = .ok (.aload_n 0, 1) := dk_42 (dk_at dksX8_beginTrace_0 10 rfl rfl)
theorem dX8_beginTrace_11 : decode cX8_beginTrace 11 = .ok (.getfield 55, 3) := dk_180 0 55 (dk_at dksX8_beginTrace_0 11 rfl rfl)
theorem dX8_beginTrace_14 : decode cX8_beginTrace 14 = .ok (.iload_n 1, 1) := dk_27 (dk_at dksX8_beginTrace_0 14 rfl rfl)
theorem dX8_beginTrace_15 : decode cX8_beginTrace 15 = .ok (.iload_n 1, 1) := dk_27 (dk_at dksX8_beginTrace_0 15 rfl rfl)
theorem dX8_beginTrace_16 : decode cX8_beginTrace 16 = .ok (.iastore, 1) := dk_79 (dk_at dksX8_beginTrace_0 16 rfl rfl)
theorem dX8_beginTrace_17 : decode cX8_beginTrace 17 = .ok (.aload_n 0, 1) := dk_42 (dk_at dksX8_beginTrace_0 17 rfl rfl)
theorem dX8_beginTrace_18 : decode cX8_beginTrace 18 = .ok (.getfield 58, 3) := dk_180 0 58 (dk_at dksX8_beginTrace_0 18 rfl rfl)
theorem dX8_beginTrace_21 : decode cX8_beginTrace 21 = .ok (.iload_n 1, 1) := dk_27 (dk_at dksX8_beginTrace_0 21 rfl rfl)
theorem dX8_beginTrace_22 : decode cX8_beginTrace 22 = .ok (.iload_n 1, 1) := dk_27 (dk_at dksX8_beginTrace_0 22 rfl rfl)
theorem dX8_beginTrace_23 : decode cX8_beginTrace 23 = .ok (.iastore, 1) := dk_79 (dk_at dksX8_beginTrace_0 23 rfl rfl)
theorem dX8_beginTrace_24 : decode cX8_beginTrace 24 = .ok (.iinc 1 1, 3) := dk_132 1 1 (dk_at dksX8_beginTrace_1 0 rfl rfl)
theorem dX8_beginTrace_27 : decode cX8_beginTrace 27 = .ok (.goto (-25), 3) := dk_167 255 231 (dk_at dksX8_beginTrace_1 3 rfl rfl)
theorem dX8_beginTrace_30 : decode cX8_beginTrace 30 = .ok (.aload_n 0, 1) := dk_42 (dk_at dksX8_beginTrace_1 6 rfl rfl)
theorem dX8_beginTrace_31 : decode cX8_beginTrace 31 = .ok (.areturn, 1) := dk_176 (dk_at dksX8_beginTrace_1 7 rfl rfl)
theorem q103 : (Jvm.Cond.initialized "SongThatStays$Office") ∈ lw_all := lw_g (lw_at lw_m1 9 rfl) rfl
theorem q183 : (Jvm.Cond.instantiable "SongThatStays$Office" (20 : Nat)) ∈ lw_all := lw_g (lw_at lw_m1 89 rfl) rfl
theorem q185 : (Jvm.Cond.instanceMethod ({ cls := "SongThatStays$Office", name := "<init>", desc := "()V" } : Jvm.MethodName)) ∈ lw_all := lw_g (lw_at lw_m1 91 rfl) rfl
theorem q186 : (Jvm.Cond.code ({ cls := "SongThatStays$Office", name := "<init>", desc := "()V" } : Jvm.MethodName) prog_15_method_1_code (1 : Nat) (Option.none : Option Jvm.ClassFile.FieldType)) ∈ lw_all := lw_g (lw_at lw_m1 92 rfl) rfl
theorem q187 : (Jvm.Cond.methodLink "SongThatStays$Office" (3 : Nat) ({ cls := "java/lang/Object", name := "<init>", desc := "()V" } : Jvm.MethodName)) ∈ lw_all := lw_g (lw_at lw_m1 93 rfl) rfl
theorem q188 : (Jvm.Cond.classLink "SongThatStays$Office" (18 : Nat) "SongThatStays$Song") ∈ lw_all := lw_g (lw_at lw_m1 94 rfl) rfl
theorem q190 : (Jvm.Cond.classLink "SongThatStays$Office" (24 : Nat) "SongThatStays$Kind") ∈ lw_all := lw_g (lw_at lw_m1 96 rfl) rfl
theorem q191 : (Jvm.Cond.fieldLink "SongThatStays$Office" (64 : Nat) "SongThatStays$Office" "doors" "I") ∈ lw_all := lw_g (lw_at lw_m1 97 rfl) rfl
theorem q194 : (Jvm.Cond.fieldLink "SongThatStays$Office" (9 : Nat) "SongThatStays$Office" "from" "[I") ∈ lw_all := lw_g (lw_at lw_m1 100 rfl) rfl
theorem q196 : (Jvm.Cond.fieldLink "SongThatStays$Office" (15 : Nat) "SongThatStays$Office" "to" "[I") ∈ lw_all := lw_g (lw_at lw_m1 102 rfl) rfl
theorem q198 : (Jvm.Cond.fieldLink "SongThatStays$Office" (67 : Nat) "SongThatStays$Office" "shut" "I") ∈ lw_all := lw_g (lw_at lw_m1 104 rfl) rfl
theorem q203 : (Jvm.Cond.fieldLink "SongThatStays$Office" (70 : Nat) "SongThatStays$Office" "songs" "I") ∈ lw_all := lw_g (lw_at lw_m1 109 rfl) rfl
theorem q205 : (Jvm.Cond.fieldLink "SongThatStays$Office" (20 : Nat) "SongThatStays$Office" "song" "[LSongThatStays$Song;") ∈ lw_all := lw_g (lw_at lw_m1 111 rfl) rfl
theorem q210 : (Jvm.Cond.fieldLink "SongThatStays$Office" (73 : Nat) "SongThatStays$Office" "heads" "I") ∈ lw_all := lw_g (lw_at lw_m1 116 rfl) rfl
theorem q212 : (Jvm.Cond.fieldLink "SongThatStays$Office" (26 : Nat) "SongThatStays$Office" "kind" "[LSongThatStays$Kind;") ∈ lw_all := lw_g (lw_at lw_m1 118 rfl) rfl
theorem q215 : (Jvm.Cond.fieldLink "SongThatStays$Office" (30 : Nat) "SongThatStays$Office" "rooms" "[I") ∈ lw_all := lw_g (lw_at lw_m1 121 rfl) rfl
theorem q218 : (Jvm.Cond.fieldLink "SongThatStays$Office" (33 : Nat) "SongThatStays$Office" "resists" "[I") ∈ lw_all := lw_g (lw_at lw_m1 124 rfl) rfl
theorem q221 : (Jvm.Cond.fieldLink "SongThatStays$Office" (36 : Nat) "SongThatStays$Office" "holds" "[I") ∈ lw_all := lw_g (lw_at lw_m1 127 rfl) rfl
theorem q223 : (Jvm.Cond.fieldLink "SongThatStays$Office" (39 : Nat) "SongThatStays$Office" "strengths" "[I") ∈ lw_all := lw_g (lw_at lw_m1 129 rfl) rfl
theorem q225 : (Jvm.Cond.fieldLink "SongThatStays$Office" (42 : Nat) "SongThatStays$Office" "gums" "[I") ∈ lw_all := lw_g (lw_at lw_m1 131 rfl) rfl
theorem q228 : (Jvm.Cond.fieldLink "SongThatStays$Office" (76 : Nat) "SongThatStays$Office" "hour" "I") ∈ lw_all := lw_g (lw_at lw_m1 134 rfl) rfl
theorem q230 : (Jvm.Cond.fieldLink "SongThatStays$Office" (45 : Nat) "SongThatStays$Office" "loud" "I") ∈ lw_all := lw_g (lw_at lw_m1 136 rfl) rfl
theorem q233 : (Jvm.Cond.fieldLink "SongThatStays$Office" (49 : Nat) "SongThatStays$Office" "hummed" "[I") ∈ lw_all := lw_g (lw_at lw_m1 139 rfl) rfl
theorem q234 : (Jvm.Cond.fieldLink "SongThatStays$Office" (52 : Nat) "SongThatStays$Office" "gets" "[I") ∈ lw_all := lw_g (lw_at lw_m1 140 rfl) rfl
theorem q235 : (Jvm.Cond.fieldLink "SongThatStays$Office" (55 : Nat) "SongThatStays$Office" "givers" "[I") ∈ lw_all := lw_g (lw_at lw_m1 141 rfl) rfl
theorem q237 : (Jvm.Cond.fieldLink "SongThatStays$Office" (58 : Nat) "SongThatStays$Office" "firsts" "[I") ∈ lw_all := lw_g (lw_at lw_m1 143 rfl) rfl
theorem q239 : (Jvm.Cond.fieldLink "SongThatStays$Office" (61 : Nat) "SongThatStays$Office" "firstsThen" "[I") ∈ lw_all := lw_g (lw_at lw_m1 145 rfl) rfl
theorem q240 : (Jvm.Cond.lays "SongThatStays$Office" "SongThatStays$Office" "doors" "I") ∈ lw_all := lw_g (lw_at lw_m1 146 rfl) rfl
theorem q241 : (Jvm.Cond.soleField "SongThatStays$Office" "doors") ∈ lw_all := lw_g (lw_at lw_m1 147 rfl) rfl
theorem q242 : (Jvm.Cond.laysFinal "SongThatStays$Office" "SongThatStays$Office" "from" "[I") ∈ lw_all := lw_g (lw_at lw_m1 148 rfl) rfl
theorem q243 : (Jvm.Cond.soleField "SongThatStays$Office" "from") ∈ lw_all := lw_g (lw_at lw_m1 149 rfl) rfl
theorem q244 : (Jvm.Cond.laysFinal "SongThatStays$Office" "SongThatStays$Office" "to" "[I") ∈ lw_all := lw_g (lw_at lw_m1 150 rfl) rfl
theorem q245 : (Jvm.Cond.soleField "SongThatStays$Office" "to") ∈ lw_all := lw_g (lw_at lw_m1 151 rfl) rfl
theorem q246 : (Jvm.Cond.lays "SongThatStays$Office" "SongThatStays$Office" "shut" "I") ∈ lw_all := lw_g (lw_at lw_m1 152 rfl) rfl
theorem q247 : (Jvm.Cond.soleField "SongThatStays$Office" "shut") ∈ lw_all := lw_g (lw_at lw_m1 153 rfl) rfl
theorem q248 : (Jvm.Cond.lays "SongThatStays$Office" "SongThatStays$Office" "songs" "I") ∈ lw_all := lw_g (lw_at lw_m1 154 rfl) rfl
theorem q249 : (Jvm.Cond.soleField "SongThatStays$Office" "songs") ∈ lw_all := lw_g (lw_at lw_m1 155 rfl) rfl
theorem q250 : (Jvm.Cond.laysFinal "SongThatStays$Office" "SongThatStays$Office" "song" "[LSongThatStays$Song;") ∈ lw_all := lw_g (lw_at lw_m1 156 rfl) rfl
theorem q251 : (Jvm.Cond.soleField "SongThatStays$Office" "song") ∈ lw_all := lw_g (lw_at lw_m1 157 rfl) rfl
theorem q252 : (Jvm.Cond.lays "SongThatStays$Office" "SongThatStays$Office" "heads" "I") ∈ lw_all := lw_g (lw_at lw_m1 158 rfl) rfl
theorem q253 : (Jvm.Cond.soleField "SongThatStays$Office" "heads") ∈ lw_all := lw_g (lw_at lw_m1 159 rfl) rfl
theorem q254 : (Jvm.Cond.laysFinal "SongThatStays$Office" "SongThatStays$Office" "kind" "[LSongThatStays$Kind;") ∈ lw_all := lw_g (lw_at lw_m1 160 rfl) rfl
theorem q255 : (Jvm.Cond.soleField "SongThatStays$Office" "kind") ∈ lw_all := lw_g (lw_at lw_m1 161 rfl) rfl
theorem q256 : (Jvm.Cond.laysFinal "SongThatStays$Office" "SongThatStays$Office" "rooms" "[I") ∈ lw_all := lw_g (lw_at lw_m1 162 rfl) rfl
theorem q257 : (Jvm.Cond.soleField "SongThatStays$Office" "rooms") ∈ lw_all := lw_g (lw_at lw_m1 163 rfl) rfl
theorem q258 : (Jvm.Cond.laysFinal "SongThatStays$Office" "SongThatStays$Office" "resists" "[I") ∈ lw_all := lw_g (lw_at lw_m1 164 rfl) rfl
theorem q259 : (Jvm.Cond.soleField "SongThatStays$Office" "resists") ∈ lw_all := lw_g (lw_at lw_m1 165 rfl) rfl
theorem q260 : (Jvm.Cond.laysFinal "SongThatStays$Office" "SongThatStays$Office" "holds" "[I") ∈ lw_all := lw_g (lw_at lw_m1 166 rfl) rfl
theorem q261 : (Jvm.Cond.soleField "SongThatStays$Office" "holds") ∈ lw_all := lw_g (lw_at lw_m1 167 rfl) rfl
theorem q262 : (Jvm.Cond.laysFinal "SongThatStays$Office" "SongThatStays$Office" "strengths" "[I") ∈ lw_all := lw_g (lw_at lw_m1 168 rfl) rfl
theorem q263 : (Jvm.Cond.soleField "SongThatStays$Office" "strengths") ∈ lw_all := lw_g (lw_at lw_m1 169 rfl) rfl
theorem q264 : (Jvm.Cond.laysFinal "SongThatStays$Office" "SongThatStays$Office" "gums" "[I") ∈ lw_all := lw_g (lw_at lw_m1 170 rfl) rfl
theorem q265 : (Jvm.Cond.soleField "SongThatStays$Office" "gums") ∈ lw_all := lw_g (lw_at lw_m1 171 rfl) rfl
theorem q266 : (Jvm.Cond.lays "SongThatStays$Office" "SongThatStays$Office" "hour" "I") ∈ lw_all := lw_g (lw_at lw_m1 172 rfl) rfl
theorem q267 : (Jvm.Cond.soleField "SongThatStays$Office" "hour") ∈ lw_all := lw_g (lw_at lw_m1 173 rfl) rfl
theorem q268 : (Jvm.Cond.lays "SongThatStays$Office" "SongThatStays$Office" "loud" "I") ∈ lw_all := lw_g (lw_at lw_m1 174 rfl) rfl
theorem q269 : (Jvm.Cond.soleField "SongThatStays$Office" "loud") ∈ lw_all := lw_g (lw_at lw_m1 175 rfl) rfl
theorem q270 : (Jvm.Cond.laysFinal "SongThatStays$Office" "SongThatStays$Office" "hummed" "[I") ∈ lw_all := lw_g (lw_at lw_m1 176 rfl) rfl
theorem q271 : (Jvm.Cond.soleField "SongThatStays$Office" "hummed") ∈ lw_all := lw_g (lw_at lw_m1 177 rfl) rfl
theorem q272 : (Jvm.Cond.laysFinal "SongThatStays$Office" "SongThatStays$Office" "gets" "[I") ∈ lw_all := lw_g (lw_at lw_m1 178 rfl) rfl
theorem q273 : (Jvm.Cond.soleField "SongThatStays$Office" "gets") ∈ lw_all := lw_g (lw_at lw_m1 179 rfl) rfl
theorem q274 : (Jvm.Cond.laysFinal "SongThatStays$Office" "SongThatStays$Office" "givers" "[I") ∈ lw_all := lw_g (lw_at lw_m1 180 rfl) rfl
theorem q275 : (Jvm.Cond.soleField "SongThatStays$Office" "givers") ∈ lw_all := lw_g (lw_at lw_m1 181 rfl) rfl
theorem q276 : (Jvm.Cond.laysFinal "SongThatStays$Office" "SongThatStays$Office" "firsts" "[I") ∈ lw_all := lw_g (lw_at lw_m1 182 rfl) rfl
theorem q277 : (Jvm.Cond.soleField "SongThatStays$Office" "firsts") ∈ lw_all := lw_g (lw_at lw_m1 183 rfl) rfl
theorem q278 : (Jvm.Cond.laysFinal "SongThatStays$Office" "SongThatStays$Office" "firstsThen" "[I") ∈ lw_all := lw_g (lw_at lw_m1 184 rfl) rfl
theorem q279 : (Jvm.Cond.soleField "SongThatStays$Office" "firstsThen") ∈ lw_all := lw_g (lw_at lw_m1 185 rfl) rfl
theorem q280 : (Jvm.Cond.superclass "SongThatStays$Office" "java/lang/Object") ∈ lw_all := lw_g (lw_at lw_m1 186 rfl) rfl
theorem q587 : (Jvm.Cond.instanceMethod ({ cls := "SongThatStays$Office", name := "set", desc := "(LSongThatStays$Office;)V" } : Jvm.MethodName)) ∈ lw_all := lw_g (lw_at lw_m3 13 rfl) rfl
theorem q588 : (Jvm.Cond.selects "SongThatStays$Office" ({ cls := "SongThatStays$Office", name := "set", desc := "(LSongThatStays$Office;)V" } : Jvm.MethodName) ({ cls := "SongThatStays$Office", name := "set", desc := "(LSongThatStays$Office;)V" } : Jvm.MethodName)) ∈ lw_all := lw_g (lw_at lw_m3 14 rfl) rfl
theorem q589 : (Jvm.Cond.code ({ cls := "SongThatStays$Office", name := "set", desc := "(LSongThatStays$Office;)V" } : Jvm.MethodName) prog_15_method_2_code (2 : Nat) (Option.none : Option Jvm.ClassFile.FieldType)) ∈ lw_all := lw_g (lw_at lw_m3 15 rfl) rfl
theorem q590 : (Jvm.Cond.methodLink "SongThatStays$Office" (79 : Nat) ({ cls := "java/lang/System", name := "arraycopy", desc := "(Ljava/lang/Object;ILjava/lang/Object;II)V" } : Jvm.MethodName)) ∈ lw_all := lw_g (lw_at lw_m3 16 rfl) rfl
theorem q632 : (Jvm.Cond.instanceMethod ({ cls := "SongThatStays$Office", name := "get", desc := "(II)V" } : Jvm.MethodName)) ∈ lw_all := lw_g (lw_at lw_m3 58 rfl) rfl
theorem q633 : (Jvm.Cond.selects "SongThatStays$Office" ({ cls := "SongThatStays$Office", name := "get", desc := "(II)V" } : Jvm.MethodName) ({ cls := "SongThatStays$Office", name := "get", desc := "(II)V" } : Jvm.MethodName)) ∈ lw_all := lw_g (lw_at lw_m3 59 rfl) rfl
theorem q634 : (Jvm.Cond.code ({ cls := "SongThatStays$Office", name := "get", desc := "(II)V" } : Jvm.MethodName) prog_15_method_4_code (3 : Nat) (Option.none : Option Jvm.ClassFile.FieldType)) ∈ lw_all := lw_g (lw_at lw_m3 60 rfl) rfl
theorem q635 : (Jvm.Cond.methodLink "SongThatStays$Office" (85 : Nat) ({ cls := "SongThatStays$Song", name := "fresh", desc := "()I" } : Jvm.MethodName)) ∈ lw_all := lw_g (lw_at lw_m3 61 rfl) rfl
theorem q654 : (Jvm.Cond.methodLink "SongThatStays$Office" (89 : Nat) ({ cls := "java/lang/Math", name := "min", desc := "(II)I" } : Jvm.MethodName)) ∈ lw_all := lw_g (lw_at lw_m3 80 rfl) rfl
theorem q682 : (Jvm.Cond.fieldLink "SongThatStays$Office" (113 : Nat) "SongThatStays$Song" "pull" "I") ∈ lw_all := lw_g (lw_at lw_m3 108 rfl) rfl
theorem q774 : (Jvm.Cond.instanceMethod ({ cls := "SongThatStays$Office", name := "have", desc := "(I)I" } : Jvm.MethodName)) ∈ lw_all := lw_g (lw_at lw_m3 200 rfl) rfl
theorem q775 : (Jvm.Cond.selects "SongThatStays$Office" ({ cls := "SongThatStays$Office", name := "have", desc := "(I)I" } : Jvm.MethodName) ({ cls := "SongThatStays$Office", name := "have", desc := "(I)I" } : Jvm.MethodName)) ∈ lw_all := lw_g (lw_at lw_m3 201 rfl) rfl
theorem q776 : (Jvm.Cond.code ({ cls := "SongThatStays$Office", name := "have", desc := "(I)I" } : Jvm.MethodName) prog_15_method_15_code (4 : Nat) (Option.some Jvm.ClassFile.FieldType.int)) ∈ lw_all := lw_g (lw_at lw_m3 202 rfl) rfl
theorem q808 : (Jvm.Cond.instanceMethod ({ cls := "SongThatStays$Office", name := "bar", desc := "(I)I" } : Jvm.MethodName)) ∈ lw_all := lw_g (lw_at lw_m3 234 rfl) rfl
theorem q809 : (Jvm.Cond.selects "SongThatStays$Office" ({ cls := "SongThatStays$Office", name := "bar", desc := "(I)I" } : Jvm.MethodName) ({ cls := "SongThatStays$Office", name := "bar", desc := "(I)I" } : Jvm.MethodName)) ∈ lw_all := lw_g (lw_at lw_m3 235 rfl) rfl
theorem q810 : (Jvm.Cond.code ({ cls := "SongThatStays$Office", name := "bar", desc := "(I)I" } : Jvm.MethodName) prog_15_method_8_code (2 : Nat) (Option.some Jvm.ClassFile.FieldType.int)) ∈ lw_all := lw_g (lw_at lw_m3 236 rfl) rfl
theorem q811 : (Jvm.Cond.methodLink "SongThatStays$Office" (106 : Nat) ({ cls := "SongThatStays$Kind", name := "bar", desc := "(I)I" } : Jvm.MethodName)) ∈ lw_all := lw_g (lw_at lw_m3 237 rfl) rfl
theorem q833 : (Jvm.Cond.instanceMethod ({ cls := "SongThatStays$Office", name := "hums", desc := "(I)Z" } : Jvm.MethodName)) ∈ lw_all := lw_g (lw_at lw_m4 19 rfl) rfl
theorem q834 : (Jvm.Cond.selects "SongThatStays$Office" ({ cls := "SongThatStays$Office", name := "hums", desc := "(I)Z" } : Jvm.MethodName) ({ cls := "SongThatStays$Office", name := "hums", desc := "(I)Z" } : Jvm.MethodName)) ∈ lw_all := lw_g (lw_at lw_m4 20 rfl) rfl
theorem q835 : (Jvm.Cond.code ({ cls := "SongThatStays$Office", name := "hums", desc := "(I)Z" } : Jvm.MethodName) prog_15_method_7_code (2 : Nat) (Option.some Jvm.ClassFile.FieldType.boolean)) ∈ lw_all := lw_g (lw_at lw_m4 21 rfl) rfl
theorem q836 : (Jvm.Cond.methodLink "SongThatStays$Office" (102 : Nat) ({ cls := "SongThatStays$Kind", name := "hums", desc := "(III)Z" } : Jvm.MethodName)) ∈ lw_all := lw_g (lw_at lw_m4 22 rfl) rfl
theorem q860 : (Jvm.Cond.instanceMethod ({ cls := "SongThatStays$Office", name := "areNear", desc := "(II)Z" } : Jvm.MethodName)) ∈ lw_all := lw_g (lw_at lw_m4 46 rfl) rfl
theorem q861 : (Jvm.Cond.selects "SongThatStays$Office" ({ cls := "SongThatStays$Office", name := "areNear", desc := "(II)Z" } : Jvm.MethodName) ({ cls := "SongThatStays$Office", name := "areNear", desc := "(II)Z" } : Jvm.MethodName)) ∈ lw_all := lw_g (lw_at lw_m4 47 rfl) rfl
theorem q862 : (Jvm.Cond.code ({ cls := "SongThatStays$Office", name := "areNear", desc := "(II)Z" } : Jvm.MethodName) prog_15_method_6_code (3 : Nat) (Option.some Jvm.ClassFile.FieldType.boolean)) ∈ lw_all := lw_g (lw_at lw_m4 48 rfl) rfl
theorem q863 : (Jvm.Cond.methodLink "SongThatStays$Office" (99 : Nat) ({ cls := "SongThatStays$Office", name := "isOpenBetween", desc := "(II)Z" } : Jvm.MethodName)) ∈ lw_all := lw_g (lw_at lw_m4 49 rfl) rfl
theorem q864 : (Jvm.Cond.instanceMethod ({ cls := "SongThatStays$Office", name := "isOpenBetween", desc := "(II)Z" } : Jvm.MethodName)) ∈ lw_all := lw_g (lw_at lw_m4 50 rfl) rfl
theorem q865 : (Jvm.Cond.selects "SongThatStays$Office" ({ cls := "SongThatStays$Office", name := "isOpenBetween", desc := "(II)Z" } : Jvm.MethodName) ({ cls := "SongThatStays$Office", name := "isOpenBetween", desc := "(II)Z" } : Jvm.MethodName)) ∈ lw_all := lw_g (lw_at lw_m4 51 rfl) rfl
theorem q866 : (Jvm.Cond.code ({ cls := "SongThatStays$Office", name := "isOpenBetween", desc := "(II)Z" } : Jvm.MethodName) prog_15_method_5_code (6 : Nat) (Option.some Jvm.ClassFile.FieldType.boolean)) ∈ lw_all := lw_g (lw_at lw_m4 52 rfl) rfl
theorem q867 : (Jvm.Cond.methodLinkNest "SongThatStays$Office" (95 : Nat) ({ cls := "SongThatStays", name := "has", desc := "(II)Z" } : Jvm.MethodName) "SongThatStays") ∈ lw_tbl := lw_at lw_m4 53 rfl
theorem q895 : (Jvm.Cond.instanceMethod ({ cls := "SongThatStays$Office", name := "remedy", desc := "(II)V" } : Jvm.MethodName)) ∈ lw_all := lw_g (lw_at lw_m4 81 rfl) rfl
theorem q896 : (Jvm.Cond.selects "SongThatStays$Office" ({ cls := "SongThatStays$Office", name := "remedy", desc := "(II)V" } : Jvm.MethodName) ({ cls := "SongThatStays$Office", name := "remedy", desc := "(II)V" } : Jvm.MethodName)) ∈ lw_all := lw_g (lw_at lw_m4 82 rfl) rfl
theorem q897 : (Jvm.Cond.code ({ cls := "SongThatStays$Office", name := "remedy", desc := "(II)V" } : Jvm.MethodName) prog_15_method_16_code (3 : Nat) (Option.none : Option Jvm.ClassFile.FieldType)) ∈ lw_all := lw_g (lw_at lw_m4 83 rfl) rfl
theorem q898 : (Jvm.Cond.methodLink "SongThatStays$Office" (140 : Nat) ({ cls := "SongThatStays$Office", name := "weaken", desc := "(II)V" } : Jvm.MethodName)) ∈ lw_all := lw_g (lw_at lw_m4 84 rfl) rfl
theorem q899 : (Jvm.Cond.instanceMethod ({ cls := "SongThatStays$Office", name := "weaken", desc := "(II)V" } : Jvm.MethodName)) ∈ lw_all := lw_g (lw_at lw_m4 85 rfl) rfl
theorem q900 : (Jvm.Cond.selects "SongThatStays$Office" ({ cls := "SongThatStays$Office", name := "weaken", desc := "(II)V" } : Jvm.MethodName) ({ cls := "SongThatStays$Office", name := "weaken", desc := "(II)V" } : Jvm.MethodName)) ∈ lw_all := lw_g (lw_at lw_m4 86 rfl) rfl
theorem q901 : (Jvm.Cond.code ({ cls := "SongThatStays$Office", name := "weaken", desc := "(II)V" } : Jvm.MethodName) prog_15_method_13_code (3 : Nat) (Option.none : Option Jvm.ClassFile.FieldType)) ∈ lw_all := lw_g (lw_at lw_m4 87 rfl) rfl
theorem q902 : (Jvm.Cond.methodLink "SongThatStays$Office" (134 : Nat) ({ cls := "java/lang/Math", name := "max", desc := "(II)I" } : Jvm.MethodName)) ∈ lw_all := lw_g (lw_at lw_m4 88 rfl) rfl
theorem q911 : (Jvm.Cond.instanceMethod ({ cls := "SongThatStays$Office", name := "hourOn", desc := "()I" } : Jvm.MethodName)) ∈ lw_all := lw_g (lw_at lw_m4 97 rfl) rfl
theorem q912 : (Jvm.Cond.selects "SongThatStays$Office" ({ cls := "SongThatStays$Office", name := "hourOn", desc := "()I" } : Jvm.MethodName) ({ cls := "SongThatStays$Office", name := "hourOn", desc := "()I" } : Jvm.MethodName)) ∈ lw_all := lw_g (lw_at lw_m4 98 rfl) rfl
theorem q913 : (Jvm.Cond.code ({ cls := "SongThatStays$Office", name := "hourOn", desc := "()I" } : Jvm.MethodName) prog_15_method_11_code (3 : Nat) (Option.some Jvm.ClassFile.FieldType.int)) ∈ lw_all := lw_g (lw_at lw_m4 99 rfl) rfl
theorem q914 : (Jvm.Cond.methodLink "SongThatStays$Office" (117 : Nat) ({ cls := "SongThatStays$Office", name := "hums", desc := "(I)Z" } : Jvm.MethodName)) ∈ lw_all := lw_g (lw_at lw_m4 100 rfl) rfl
theorem q915 : (Jvm.Cond.methodLink "SongThatStays$Office" (120 : Nat) ({ cls := "SongThatStays$Office", name := "gotBy", desc := "(I)I" } : Jvm.MethodName)) ∈ lw_all := lw_g (lw_at lw_m4 101 rfl) rfl
theorem q916 : (Jvm.Cond.privateMethod ({ cls := "SongThatStays$Office", name := "gotBy", desc := "(I)I" } : Jvm.MethodName)) ∈ lw_tbl := lw_at lw_m4 102 rfl
theorem q917 : (Jvm.Cond.instanceMethod ({ cls := "SongThatStays$Office", name := "gotBy", desc := "(I)I" } : Jvm.MethodName)) ∈ lw_all := lw_g (lw_at lw_m4 103 rfl) rfl
theorem q918 : (Jvm.Cond.code ({ cls := "SongThatStays$Office", name := "gotBy", desc := "(I)I" } : Jvm.MethodName) prog_15_method_9_code (7 : Nat) (Option.some Jvm.ClassFile.FieldType.int)) ∈ lw_all := lw_g (lw_at lw_m4 104 rfl) rfl
theorem q919 : (Jvm.Cond.methodLink "SongThatStays$Office" (110 : Nat) ({ cls := "SongThatStays$Office", name := "areNear", desc := "(II)Z" } : Jvm.MethodName)) ∈ lw_all := lw_g (lw_at lw_m4 105 rfl) rfl
theorem q920 : (Jvm.Cond.methodLink "SongThatStays$Office" (116 : Nat) ({ cls := "SongThatStays$Office", name := "bar", desc := "(I)I" } : Jvm.MethodName)) ∈ lw_all := lw_g (lw_at lw_m4 106 rfl) rfl
theorem q921 : (Jvm.Cond.methodLink "SongThatStays$Office" (123 : Nat) ({ cls := "SongThatStays$Office", name := "giverOf", desc := "(I)I" } : Jvm.MethodName)) ∈ lw_all := lw_g (lw_at lw_m4 107 rfl) rfl
theorem q922 : (Jvm.Cond.privateMethod ({ cls := "SongThatStays$Office", name := "giverOf", desc := "(I)I" } : Jvm.MethodName)) ∈ lw_tbl := lw_at lw_m4 108 rfl
theorem q923 : (Jvm.Cond.instanceMethod ({ cls := "SongThatStays$Office", name := "giverOf", desc := "(I)I" } : Jvm.MethodName)) ∈ lw_all := lw_g (lw_at lw_m4 109 rfl) rfl
theorem q924 : (Jvm.Cond.code ({ cls := "SongThatStays$Office", name := "giverOf", desc := "(I)I" } : Jvm.MethodName) prog_15_method_10_code (3 : Nat) (Option.some Jvm.ClassFile.FieldType.int)) ∈ lw_all := lw_g (lw_at lw_m4 110 rfl) rfl
theorem q925 : (Jvm.Cond.methodLink "SongThatStays$Office" (126 : Nat) ({ cls := "SongThatStays$Office", name := "get", desc := "(II)V" } : Jvm.MethodName)) ∈ lw_all := lw_g (lw_at lw_m4 111 rfl) rfl
theorem q926 : (Jvm.Cond.methodLink "SongThatStays$Office" (130 : Nat) ({ cls := "SongThatStays$Office", name := "fade", desc := "(I)V" } : Jvm.MethodName)) ∈ lw_all := lw_g (lw_at lw_m4 112 rfl) rfl
theorem q927 : (Jvm.Cond.privateMethod ({ cls := "SongThatStays$Office", name := "fade", desc := "(I)V" } : Jvm.MethodName)) ∈ lw_tbl := lw_at lw_m4 113 rfl
theorem q928 : (Jvm.Cond.instanceMethod ({ cls := "SongThatStays$Office", name := "fade", desc := "(I)V" } : Jvm.MethodName)) ∈ lw_all := lw_g (lw_at lw_m4 114 rfl) rfl
theorem q929 : (Jvm.Cond.code ({ cls := "SongThatStays$Office", name := "fade", desc := "(I)V" } : Jvm.MethodName) prog_15_method_12_code (3 : Nat) (Option.none : Option Jvm.ClassFile.FieldType)) ∈ lw_all := lw_g (lw_at lw_m4 115 rfl) rfl
theorem q930 : (Jvm.Cond.methodLink "SongThatStays$Office" (137 : Nat) ({ cls := "SongThatStays$Song", name := "fades", desc := "(I)I" } : Jvm.MethodName)) ∈ lw_all := lw_g (lw_at lw_m4 116 rfl) rfl
theorem q976 : (Jvm.Cond.instanceMethod ({ cls := "SongThatStays$Office", name := "hoursOn", desc := "(I)LSongThatStays$Office;" } : Jvm.MethodName)) ∈ lw_all := lw_g (lw_at lw_m4 162 rfl) rfl
theorem q977 : (Jvm.Cond.selects "SongThatStays$Office" ({ cls := "SongThatStays$Office", name := "hoursOn", desc := "(I)LSongThatStays$Office;" } : Jvm.MethodName) ({ cls := "SongThatStays$Office", name := "hoursOn", desc := "(I)LSongThatStays$Office;" } : Jvm.MethodName)) ∈ lw_all := lw_g (lw_at lw_m4 163 rfl) rfl
theorem q978 : (Jvm.Cond.code ({ cls := "SongThatStays$Office", name := "hoursOn", desc := "(I)LSongThatStays$Office;" } : Jvm.MethodName) prog_15_method_14_code (3 : Nat) (Option.some (Jvm.ClassFile.FieldType.object "SongThatStays$Office"))) ∈ lw_all := lw_g (lw_at lw_m4 164 rfl) rfl
theorem q979 : (Jvm.Cond.methodLink "SongThatStays$Office" (143 : Nat) ({ cls := "SongThatStays$Office", name := "hourOn", desc := "()I" } : Jvm.MethodName)) ∈ lw_all := lw_g (lw_at lw_m4 165 rfl) rfl
theorem q1018 : (Jvm.Cond.instanceMethod ({ cls := "SongThatStays$Office", name := "beginTrace", desc := "()LSongThatStays$Office;" } : Jvm.MethodName)) ∈ lw_all := lw_g (lw_at lw_m4 204 rfl) rfl
theorem q1019 : (Jvm.Cond.selects "SongThatStays$Office" ({ cls := "SongThatStays$Office", name := "beginTrace", desc := "()LSongThatStays$Office;" } : Jvm.MethodName) ({ cls := "SongThatStays$Office", name := "beginTrace", desc := "()LSongThatStays$Office;" } : Jvm.MethodName)) ∈ lw_all := lw_g (lw_at lw_m4 205 rfl) rfl
theorem q1020 : (Jvm.Cond.code ({ cls := "SongThatStays$Office", name := "beginTrace", desc := "()LSongThatStays$Office;" } : Jvm.MethodName) prog_15_method_3_code (2 : Nat) (Option.some (Jvm.ClassFile.FieldType.object "SongThatStays$Office"))) ∈ lw_all := lw_g (lw_at lw_m4 206 rfl) rfl
theorem in_X8 : ∀ w ∈ wsX80, w ∈ lw_all := lw_in wsX80 [240, 242, 244, 246, 248, 250, 252, 254, 256, 258, 260, 262, 264, 266, 268, 270, 272, 274, 276, 278] (by decide +kernel) (by decide +kernel)
