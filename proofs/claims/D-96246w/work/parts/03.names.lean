theorem q136 : (Jvm.Cond.arrayOver (Jvm.ClassFile.FieldType.object "SongThatStays$Kind")) ∈ lw_tbl := lw_at lw_m1 42 rfl
set_option maxRecDepth 100000
theorem q189 : (Jvm.Cond.arrayOver (Jvm.ClassFile.FieldType.object "SongThatStays$Song")) ∈ lw_tbl := lw_at lw_m1 95 rfl
theorem q281 : (Jvm.Cond.arrayClass Jvm.ClassFile.FieldType.int) ∈ lw_all := lw_g (lw_at lw_m1 187 rfl) rfl
theorem q316 : (Jvm.Cond.arrayClass Jvm.ClassFile.FieldType.byte) ∈ lw_all := lw_g (lw_at lw_m1 222 rfl) rfl
theorem q317 : (Jvm.Cond.arrayClass Jvm.ClassFile.FieldType.char) ∈ lw_all := lw_g (lw_at lw_m1 223 rfl) rfl
theorem q434 : (Jvm.Cond.arrayOver (Jvm.ClassFile.FieldType.object "SongThatStays$Told")) ∈ lw_tbl := lw_at lw_m2 100 rfl
theorem q118 : (Jvm.Cond.initialized "java/lang/System") ∈ lw_all := lw_g (lw_at lw_m1 24 rfl) rfl
set_option maxRecDepth 100000
theorem q591 : (Jvm.Cond.static ({ cls := "java/lang/System", name := "arraycopy", desc := "(Ljava/lang/Object;ILjava/lang/Object;II)V" } : Jvm.MethodName)) ∈ lw_all := lw_g (lw_at lw_m3 17 rfl) rfl
theorem q592 : (Jvm.Cond.native ({ cls := "java/lang/System", name := "arraycopy", desc := "(Ljava/lang/Object;ILjava/lang/Object;II)V" } : Jvm.MethodName)) ∈ lw_all := lw_g (lw_at lw_m3 18 rfl) rfl
theorem q94 : (Jvm.Cond.initialized "SongThatStaysLaw") ∈ lw_all := lw_g (lw_at lw_m1 0 rfl) rfl
set_option maxRecDepth 100000
theorem q127 : (Jvm.Cond.classLink "SongThatStaysLaw" (7 : Nat) "SongThatStays") ∈ lw_all := lw_g (lw_at lw_m1 33 rfl) rfl
theorem q129 : (Jvm.Cond.methodLink "SongThatStaysLaw" (9 : Nat) ({ cls := "SongThatStays", name := "<init>", desc := "()V" } : Jvm.MethodName)) ∈ lw_all := lw_g (lw_at lw_m1 35 rfl) rfl
theorem q318 : (Jvm.Cond.methodLink "SongThatStaysLaw" (13 : Nat) ({ cls := "SongThatStays", name := "letter", desc := "(I)I" } : Jvm.MethodName)) ∈ lw_all := lw_g (lw_at lw_m1 224 rfl) rfl
theorem q1112 : (Jvm.Cond.methodLink "SongThatStaysLaw" (18 : Nat) ({ cls := "SongThatStays", name := "office", desc := "()I" } : Jvm.MethodName)) ∈ lw_all := lw_g (lw_at lw_m5 58 rfl) rfl
theorem q1116 : (Jvm.Cond.methodLink "SongThatStaysLaw" (23 : Nat) ({ cls := "SongThatStays", name := "song", desc := "(II)I" } : Jvm.MethodName)) ∈ lw_all := lw_g (lw_at lw_m5 62 rfl) rfl
theorem q1120 : (Jvm.Cond.methodLink "SongThatStaysLaw" (28 : Nat) ({ cls := "SongThatStays", name := "head", desc := "(II)I" } : Jvm.MethodName)) ∈ lw_all := lw_g (lw_at lw_m5 66 rfl) rfl
theorem q1124 : (Jvm.Cond.methodLink "SongThatStaysLaw" (32 : Nat) ({ cls := "SongThatStays", name := "near", desc := "(I)I" } : Jvm.MethodName)) ∈ lw_all := lw_g (lw_at lw_m5 70 rfl) rfl
theorem q1128 : (Jvm.Cond.methodLink "SongThatStaysLaw" (36 : Nat) ({ cls := "SongThatStays", name := "door", desc := "(I)I" } : Jvm.MethodName)) ∈ lw_all := lw_g (lw_at lw_m5 74 rfl) rfl
theorem q1132 : (Jvm.Cond.methodLink "SongThatStaysLaw" (40 : Nat) ({ cls := "SongThatStays", name := "go", desc := "(II)I" } : Jvm.MethodName)) ∈ lw_all := lw_g (lw_at lw_m5 78 rfl) rfl
theorem q1136 : (Jvm.Cond.methodLink "SongThatStaysLaw" (44 : Nat) ({ cls := "SongThatStays", name := "get", desc := "(II)I" } : Jvm.MethodName)) ∈ lw_all := lw_g (lw_at lw_m5 82 rfl) rfl
theorem q1140 : (Jvm.Cond.methodLink "SongThatStaysLaw" (48 : Nat) ({ cls := "SongThatStays", name := "remedy", desc := "(II)I" } : Jvm.MethodName)) ∈ lw_all := lw_g (lw_at lw_m5 86 rfl) rfl
theorem q1144 : (Jvm.Cond.methodLink "SongThatStaysLaw" (52 : Nat) ({ cls := "SongThatStays", name := "loud", desc := "(I)I" } : Jvm.MethodName)) ∈ lw_all := lw_g (lw_at lw_m5 90 rfl) rfl
theorem q1148 : (Jvm.Cond.methodLink "SongThatStaysLaw" (56 : Nat) ({ cls := "SongThatStays", name := "hour", desc := "()I" } : Jvm.MethodName)) ∈ lw_all := lw_g (lw_at lw_m5 94 rfl) rfl
theorem q1152 : (Jvm.Cond.methodLink "SongThatStaysLaw" (60 : Nat) ({ cls := "SongThatStays", name := "hold", desc := "(III)I" } : Jvm.MethodName)) ∈ lw_all := lw_g (lw_at lw_m5 98 rfl) rfl
theorem q1156 : (Jvm.Cond.methodLink "SongThatStaysLaw" (65 : Nat) ({ cls := "SongThatStays", name := "have", desc := "(II)I" } : Jvm.MethodName)) ∈ lw_all := lw_g (lw_at lw_m5 102 rfl) rfl
theorem q1160 : (Jvm.Cond.methodLink "SongThatStaysLaw" (69 : Nat) ({ cls := "SongThatStays", name := "takes", desc := "(II)I" } : Jvm.MethodName)) ∈ lw_all := lw_g (lw_at lw_m5 106 rfl) rfl
theorem q1164 : (Jvm.Cond.methodLink "SongThatStaysLaw" (73 : Nat) ({ cls := "SongThatStays", name := "still", desc := "()I" } : Jvm.MethodName)) ∈ lw_all := lw_g (lw_at lw_m5 110 rfl) rfl
theorem q1168 : (Jvm.Cond.methodLink "SongThatStaysLaw" (77 : Nat) ({ cls := "SongThatStays", name := "most", desc := "(III)I" } : Jvm.MethodName)) ∈ lw_all := lw_g (lw_at lw_m5 114 rfl) rfl
theorem q1172 : (Jvm.Cond.methodLink "SongThatStaysLaw" (81 : Nat) ({ cls := "SongThatStays", name := "lasts", desc := "(I)I" } : Jvm.MethodName)) ∈ lw_all := lw_g (lw_at lw_m5 118 rfl) rfl
theorem q1176 : (Jvm.Cond.methodLink "SongThatStaysLaw" (85 : Nat) ({ cls := "SongThatStays", name := "from", desc := "(II)I" } : Jvm.MethodName)) ∈ lw_all := lw_g (lw_at lw_m5 122 rfl) rfl
theorem q1180 : (Jvm.Cond.methodLink "SongThatStaysLaw" (89 : Nat) ({ cls := "SongThatStays", name := "first", desc := "(II)I" } : Jvm.MethodName)) ∈ lw_all := lw_g (lw_at lw_m5 126 rfl) rfl
theorem q1184 : (Jvm.Cond.methodLink "SongThatStaysLaw" (93 : Nat) ({ cls := "SongThatStays", name := "rid", desc := "(II)I" } : Jvm.MethodName)) ∈ lw_all := lw_g (lw_at lw_m5 130 rfl) rfl
theorem q1188 : (Jvm.Cond.methodLink "SongThatStaysLaw" (97 : Nat) ({ cls := "SongThatStays", name := "instead", desc := "(I)I" } : Jvm.MethodName)) ∈ lw_all := lw_g (lw_at lw_m5 134 rfl) rfl
theorem q1192 : (Jvm.Cond.methodLink "SongThatStaysLaw" (101 : Nat) ({ cls := "SongThatStays", name := "shut", desc := "(I)I" } : Jvm.MethodName)) ∈ lw_all := lw_g (lw_at lw_m5 138 rfl) rfl
theorem q1196 : (Jvm.Cond.methodLink "SongThatStaysLaw" (105 : Nat) ({ cls := "SongThatStays", name := "seats", desc := "(I)I" } : Jvm.MethodName)) ∈ lw_all := lw_g (lw_at lw_m5 142 rfl) rfl
theorem q1200 : (Jvm.Cond.methodLink "SongThatStaysLaw" (109 : Nat) ({ cls := "SongThatStays", name := "write", desc := "(III)I" } : Jvm.MethodName)) ∈ lw_all := lw_g (lw_at lw_m5 146 rfl) rfl
theorem q1204 : (Jvm.Cond.methodLink "SongThatStaysLaw" (113 : Nat) ({ cls := "SongThatStays", name := "row", desc := "(I)I" } : Jvm.MethodName)) ∈ lw_all := lw_g (lw_at lw_m5 150 rfl) rfl
theorem q1208 : (Jvm.Cond.methodLink "SongThatStaysLaw" (117 : Nat) ({ cls := "SongThatStays", name := "otherwise", desc := "(II)I" } : Jvm.MethodName)) ∈ lw_all := lw_g (lw_at lw_m5 154 rfl) rfl
theorem q1212 : (Jvm.Cond.methodLink "SongThatStaysLaw" (121 : Nat) ({ cls := "SongThatStays", name := "judge", desc := "()I" } : Jvm.MethodName)) ∈ lw_all := lw_g (lw_at lw_m5 158 rfl) rfl
theorem q1216 : (Jvm.Cond.methodLink "SongThatStaysLaw" (125 : Nat) ({ cls := "SongThatStays", name := "seeds", desc := "(II)I" } : Jvm.MethodName)) ∈ lw_all := lw_g (lw_at lw_m5 162 rfl) rfl
theorem q1220 : (Jvm.Cond.methodLink "SongThatStaysLaw" (129 : Nat) ({ cls := "SongThatStays", name := "image", desc := "()I" } : Jvm.MethodName)) ∈ lw_all := lw_g (lw_at lw_m5 166 rfl) rfl
theorem q1224 : (Jvm.Cond.methodLink "SongThatStaysLaw" (133 : Nat) ({ cls := "SongThatStays", name := "on", desc := "()I" } : Jvm.MethodName)) ∈ lw_all := lw_g (lw_at lw_m5 170 rfl) rfl
theorem q1228 : (Jvm.Cond.methodLink "SongThatStaysLaw" (137 : Nat) ({ cls := "SongThatStays", name := "count", desc := "(I)I" } : Jvm.MethodName)) ∈ lw_all := lw_g (lw_at lw_m5 174 rfl) rfl
theorem q1241 : (Jvm.Cond.classLink "SongThatStaysLaw" (10 : Nat) "SongThatStaysModel") ∈ lw_all := lw_g (lw_at lw_m5 187 rfl) rfl
theorem q1243 : (Jvm.Cond.methodLink "SongThatStaysLaw" (12 : Nat) ({ cls := "SongThatStaysModel", name := "<init>", desc := "()V" } : Jvm.MethodName)) ∈ lw_all := lw_g (lw_at lw_m5 189 rfl) rfl
theorem q1299 : (Jvm.Cond.methodLink "SongThatStaysLaw" (17 : Nat) ({ cls := "SongThatStaysModel", name := "letter", desc := "(I)I" } : Jvm.MethodName)) ∈ lw_all := lw_g (lw_at lw_m6 5 rfl) rfl
theorem q1310 : (Jvm.Cond.methodLink "SongThatStaysLaw" (22 : Nat) ({ cls := "SongThatStaysModel", name := "office", desc := "()I" } : Jvm.MethodName)) ∈ lw_all := lw_g (lw_at lw_m6 16 rfl) rfl
theorem q1378 : (Jvm.Cond.methodLink "SongThatStaysLaw" (27 : Nat) ({ cls := "SongThatStaysModel", name := "song", desc := "(II)I" } : Jvm.MethodName)) ∈ lw_all := lw_g (lw_at lw_m6 84 rfl) rfl
theorem q1390 : (Jvm.Cond.methodLink "SongThatStaysLaw" (31 : Nat) ({ cls := "SongThatStaysModel", name := "head", desc := "(II)I" } : Jvm.MethodName)) ∈ lw_all := lw_g (lw_at lw_m6 96 rfl) rfl
theorem q1402 : (Jvm.Cond.methodLink "SongThatStaysLaw" (35 : Nat) ({ cls := "SongThatStaysModel", name := "near", desc := "(I)I" } : Jvm.MethodName)) ∈ lw_all := lw_g (lw_at lw_m6 108 rfl) rfl
theorem q1410 : (Jvm.Cond.methodLink "SongThatStaysLaw" (39 : Nat) ({ cls := "SongThatStaysModel", name := "door", desc := "(I)I" } : Jvm.MethodName)) ∈ lw_all := lw_g (lw_at lw_m6 116 rfl) rfl
theorem q1414 : (Jvm.Cond.methodLink "SongThatStaysLaw" (43 : Nat) ({ cls := "SongThatStaysModel", name := "go", desc := "(II)I" } : Jvm.MethodName)) ∈ lw_all := lw_g (lw_at lw_m6 120 rfl) rfl
theorem q1418 : (Jvm.Cond.methodLink "SongThatStaysLaw" (47 : Nat) ({ cls := "SongThatStaysModel", name := "get", desc := "(II)I" } : Jvm.MethodName)) ∈ lw_all := lw_g (lw_at lw_m6 124 rfl) rfl
theorem q1422 : (Jvm.Cond.methodLink "SongThatStaysLaw" (51 : Nat) ({ cls := "SongThatStaysModel", name := "remedy", desc := "(II)I" } : Jvm.MethodName)) ∈ lw_all := lw_g (lw_at lw_m6 128 rfl) rfl
theorem q1430 : (Jvm.Cond.methodLink "SongThatStaysLaw" (55 : Nat) ({ cls := "SongThatStaysModel", name := "loud", desc := "(I)I" } : Jvm.MethodName)) ∈ lw_all := lw_g (lw_at lw_m6 136 rfl) rfl
theorem q1434 : (Jvm.Cond.methodLink "SongThatStaysLaw" (59 : Nat) ({ cls := "SongThatStaysModel", name := "hour", desc := "()I" } : Jvm.MethodName)) ∈ lw_all := lw_g (lw_at lw_m6 140 rfl) rfl
theorem q1454 : (Jvm.Cond.methodLink "SongThatStaysLaw" (64 : Nat) ({ cls := "SongThatStaysModel", name := "hold", desc := "(III)I" } : Jvm.MethodName)) ∈ lw_all := lw_g (lw_at lw_m6 160 rfl) rfl
theorem q1474 : (Jvm.Cond.methodLink "SongThatStaysLaw" (68 : Nat) ({ cls := "SongThatStaysModel", name := "have", desc := "(II)I" } : Jvm.MethodName)) ∈ lw_all := lw_g (lw_at lw_m6 180 rfl) rfl
theorem q1482 : (Jvm.Cond.methodLink "SongThatStaysLaw" (72 : Nat) ({ cls := "SongThatStaysModel", name := "takes", desc := "(II)I" } : Jvm.MethodName)) ∈ lw_all := lw_g (lw_at lw_m6 188 rfl) rfl
theorem q1486 : (Jvm.Cond.methodLink "SongThatStaysLaw" (76 : Nat) ({ cls := "SongThatStaysModel", name := "still", desc := "()I" } : Jvm.MethodName)) ∈ lw_all := lw_g (lw_at lw_m6 192 rfl) rfl
theorem q1490 : (Jvm.Cond.methodLink "SongThatStaysLaw" (80 : Nat) ({ cls := "SongThatStaysModel", name := "most", desc := "(III)I" } : Jvm.MethodName)) ∈ lw_all := lw_g (lw_at lw_m6 196 rfl) rfl
theorem q1494 : (Jvm.Cond.methodLink "SongThatStaysLaw" (84 : Nat) ({ cls := "SongThatStaysModel", name := "lasts", desc := "(I)I" } : Jvm.MethodName)) ∈ lw_all := lw_g (lw_at lw_m6 200 rfl) rfl
theorem q1498 : (Jvm.Cond.methodLink "SongThatStaysLaw" (88 : Nat) ({ cls := "SongThatStaysModel", name := "from", desc := "(II)I" } : Jvm.MethodName)) ∈ lw_all := lw_g (lw_at lw_m6 204 rfl) rfl
theorem q1510 : (Jvm.Cond.methodLink "SongThatStaysLaw" (92 : Nat) ({ cls := "SongThatStaysModel", name := "first", desc := "(II)I" } : Jvm.MethodName)) ∈ lw_all := lw_g (lw_at lw_m6 216 rfl) rfl
theorem q1514 : (Jvm.Cond.methodLink "SongThatStaysLaw" (96 : Nat) ({ cls := "SongThatStaysModel", name := "rid", desc := "(II)I" } : Jvm.MethodName)) ∈ lw_all := lw_g (lw_at lw_m6 220 rfl) rfl
theorem q1522 : (Jvm.Cond.methodLink "SongThatStaysLaw" (100 : Nat) ({ cls := "SongThatStaysModel", name := "instead", desc := "(I)I" } : Jvm.MethodName)) ∈ lw_all := lw_g (lw_at lw_m6 228 rfl) rfl
theorem q1526 : (Jvm.Cond.methodLink "SongThatStaysLaw" (104 : Nat) ({ cls := "SongThatStaysModel", name := "shut", desc := "(I)I" } : Jvm.MethodName)) ∈ lw_all := lw_g (lw_at lw_m6 232 rfl) rfl
theorem q1530 : (Jvm.Cond.methodLink "SongThatStaysLaw" (108 : Nat) ({ cls := "SongThatStaysModel", name := "seats", desc := "(I)I" } : Jvm.MethodName)) ∈ lw_all := lw_g (lw_at lw_m6 236 rfl) rfl
theorem q1534 : (Jvm.Cond.methodLink "SongThatStaysLaw" (112 : Nat) ({ cls := "SongThatStaysModel", name := "write", desc := "(III)I" } : Jvm.MethodName)) ∈ lw_all := lw_g (lw_at lw_m7 0 rfl) rfl
theorem q1538 : (Jvm.Cond.methodLink "SongThatStaysLaw" (116 : Nat) ({ cls := "SongThatStaysModel", name := "row", desc := "(I)I" } : Jvm.MethodName)) ∈ lw_all := lw_g (lw_at lw_m7 4 rfl) rfl
theorem q1542 : (Jvm.Cond.methodLink "SongThatStaysLaw" (120 : Nat) ({ cls := "SongThatStaysModel", name := "otherwise", desc := "(II)I" } : Jvm.MethodName)) ∈ lw_all := lw_g (lw_at lw_m7 8 rfl) rfl
theorem q1554 : (Jvm.Cond.methodLink "SongThatStaysLaw" (124 : Nat) ({ cls := "SongThatStaysModel", name := "judge", desc := "()I" } : Jvm.MethodName)) ∈ lw_all := lw_g (lw_at lw_m7 20 rfl) rfl
theorem q1558 : (Jvm.Cond.methodLink "SongThatStaysLaw" (128 : Nat) ({ cls := "SongThatStaysModel", name := "seeds", desc := "(II)I" } : Jvm.MethodName)) ∈ lw_all := lw_g (lw_at lw_m7 24 rfl) rfl
theorem q1565 : (Jvm.Cond.methodLink "SongThatStaysLaw" (132 : Nat) ({ cls := "SongThatStaysModel", name := "image", desc := "()I" } : Jvm.MethodName)) ∈ lw_all := lw_g (lw_at lw_m7 31 rfl) rfl
theorem q1569 : (Jvm.Cond.methodLink "SongThatStaysLaw" (136 : Nat) ({ cls := "SongThatStaysModel", name := "on", desc := "()I" } : Jvm.MethodName)) ∈ lw_all := lw_g (lw_at lw_m7 35 rfl) rfl
theorem q1573 : (Jvm.Cond.methodLink "SongThatStaysLaw" (140 : Nat) ({ cls := "SongThatStaysModel", name := "count", desc := "(I)I" } : Jvm.MethodName)) ∈ lw_all := lw_g (lw_at lw_m7 39 rfl) rfl
/-! java/lang/Object -/
set_option maxRecDepth 100000
def RJ4 : String := "java/lang/Object"
abbrev cJ4_init : ByteArray := object_method_1_code
def yJ4_init : MethodName := ⟨RJ4, "<init>", "()V"⟩
theorem dJ4_init_0 : decode cJ4_init 0 = .ok (.return_, 1) := by decide +kernel
theorem q133 : (Jvm.Cond.instanceMethod ({ cls := "java/lang/Object", name := "<init>", desc := "()V" } : Jvm.MethodName)) ∈ lw_all := lw_g (lw_at lw_m1 39 rfl) rfl
theorem q134 : (Jvm.Cond.code ({ cls := "java/lang/Object", name := "<init>", desc := "()V" } : Jvm.MethodName) object_method_1_code (1 : Nat) (Option.none : Option Jvm.ClassFile.FieldType)) ∈ lw_all := lw_g (lw_at lw_m1 40 rfl) rfl
/-! java/lang/Throwable -/
set_option maxRecDepth 100000
def RJ0 : String := "java/lang/Throwable"
def TJ0 : u_T := fun k => match k with
  | 0 => ("java/lang/Throwable", "cause", "Ljava/lang/Throwable;", false)
  | 1 => ("java/lang/Throwable", "stackTrace", "[Ljava/lang/StackTraceElement;", false)
  | 2 => ("java/lang/Throwable", "suppressedExceptions", "Ljava/util/List;", false)
  | 3 => ("java/lang/Throwable", "detailMessage", "Ljava/lang/String;", false)
  | _ => ("java/lang/Throwable", "backtrace", "Ljava/lang/Object;", false)
def tyJ0 : Nat → FieldType := fun k => match k with
  | 0 => .object "java/lang/Throwable"
  | 1 => .array (.object "java/lang/StackTraceElement")
  | 2 => .object "java/util/List"
  | 3 => .object "java/lang/String"
  | _ => .object "java/lang/Object"
abbrev wsJ00 : List Cond := u_ws RJ0 TJ0 5
theorem nmJ0 : ∀ a, a < 5 → ∀ b, b < 5 → a ≠ b → (TJ0 a).2.1 ≠ (TJ0 b).2.1 := by decide +kernel
theorem tyJ0_ok : ∀ k, k < 5 → parseFieldDescriptor (TJ0 k).2.2.1 = some (tyJ0 k) := by decide +kernel
abbrev cJ0_init : ByteArray := prog_33_method_1_code
def yJ0_init : MethodName := ⟨RJ0, "<init>", "()V"⟩
def dkwJ0_init_1 : List UInt8 := [182, 0, 27, 87, 177]
abbrev dktJ0_init_1 : List UInt8 := dkwJ0_init_1 ++ []
def dkwJ0_init_0 : List UInt8 := [42, 183, 0, 1, 42, 42, 181, 0, 7, 42, 178, 0, 13, 181, 0, 17, 42, 178, 0, 20, 181, 0, 24, 42]
abbrev dktJ0_init_0 : List UInt8 := dkwJ0_init_0 ++ dktJ0_init_1
theorem dksJ0_init_0 : cJ0_init.data.toList.drop 0 = dktJ0_init_0 := by decide +kernel
theorem dksJ0_init_1 : cJ0_init.data.toList.drop 24 = dktJ0_init_1 := dk_seg dksJ0_init_0 24 rfl rfl
theorem dJ0_init_0 : decode cJ0_init 0 = .ok (.aload_n 0, 1) := dk_42 (dk_at dksJ0_init_0 0 rfl rfl)
theorem dJ0_init_1 : decode cJ0_init 1 = .ok (.invokespecial 1, 3) := dk_183 0 1 (dk_at dksJ0_init_0 1 rfl rfl)
theorem dJ0_init_4 : decode cJ0_init 4 = .ok (.aload_n 0, 1) := dk_42 (dk_at dksJ0_init_0 4 rfl rfl)
theorem dJ0_init_5 : decode cJ0_init 5 = .ok (.aload_n 0, 1) := dk_42 (dk_at dksJ0_init_0 5 rfl rfl)
theorem dJ0_init_6 : decode cJ0_init 6 = .ok (.putfield 7, 3) := dk_181 0 7 (dk_at dksJ0_init_0 6 rfl rfl)
theorem dJ0_init_9 : decode cJ0_init 9 = .ok (.aload_n 0, 1) := dk_42 (dk_at dksJ0_init_0 9 rfl rfl)
theorem dJ0_init_10 : decode cJ0_init 10 = .ok (.getstatic 13, 3) := dk_178 0 13 (dk_at dksJ0_init_0 10 rfl rfl)
theorem dJ0_init_13 : decode cJ0_init 13 = .ok (.putfield 17, 3) := dk_181 0 17 (dk_at dksJ0_init_0 13 rfl rfl)
theorem dJ0_init_16 : decode cJ0_init 16 = .ok (.aload_n 0, 1) := dk_42 (dk_at dksJ0_init_0 16 rfl rfl)
theorem dJ0_init_17 : decode cJ0_init 17 = .ok (.getstatic 20, 3) := dk_178 0 20 (dk_at dksJ0_init_0 17 rfl rfl)
theorem dJ0_init_20 : decode cJ0_init 20 = .ok (.putfield 24, 3) := dk_181 0 24 (dk_at dksJ0_init_0 20 rfl rfl)
theorem dJ0_init_23 : decode cJ0_init 23 = .ok (.aload_n 0, 1) := dk_42 (dk_at dksJ0_init_0 23 rfl rfl)
theorem dJ0_init_24 : decode cJ0_init 24 = .ok (.invokevirtual 27, 3) := dk_182 0 27 (dk_at dksJ0_init_1 0 rfl rfl)
theorem dJ0_init_27 : decode cJ0_init 27 = .ok (.pop, 1) := dk_87 (dk_at dksJ0_init_1 3 rfl rfl)
theorem dJ0_init_28 : decode cJ0_init 28 = .ok (.return_, 1) := dk_177 (dk_at dksJ0_init_1 4 rfl rfl)
theorem q105 : (Jvm.Cond.initialized "java/lang/Throwable") ∈ lw_all := lw_g (lw_at lw_m1 11 rfl) rfl
theorem q350 : (Jvm.Cond.declares ({ cls := "java/lang/Throwable", name := "<init>", desc := "()V" } : Jvm.MethodName)) ∈ lw_tbl := lw_at lw_m2 16 rfl
theorem q351 : (Jvm.Cond.declares ({ cls := "java/lang/Throwable", name := "<init>", desc := "(Ljava/lang/String;)V" } : Jvm.MethodName)) ∈ lw_tbl := lw_at lw_m2 17 rfl
theorem q355 : (Jvm.Cond.lays "java/lang/Throwable" "java/lang/Throwable" "cause" "Ljava/lang/Throwable;") ∈ lw_all := lw_g (lw_at lw_m2 21 rfl) rfl
theorem q357 : (Jvm.Cond.lays "java/lang/Throwable" "java/lang/Throwable" "stackTrace" "[Ljava/lang/StackTraceElement;") ∈ lw_all := lw_g (lw_at lw_m2 23 rfl) rfl
theorem q359 : (Jvm.Cond.lays "java/lang/Throwable" "java/lang/Throwable" "suppressedExceptions" "Ljava/util/List;") ∈ lw_all := lw_g (lw_at lw_m2 25 rfl) rfl
theorem q361 : (Jvm.Cond.lays "java/lang/Throwable" "java/lang/Throwable" "detailMessage" "Ljava/lang/String;") ∈ lw_all := lw_g (lw_at lw_m2 27 rfl) rfl
theorem q363 : (Jvm.Cond.lays "java/lang/Throwable" "java/lang/Throwable" "backtrace" "Ljava/lang/Object;") ∈ lw_all := lw_g (lw_at lw_m2 29 rfl) rfl
theorem q364 : (Jvm.Cond.fieldLink "java/lang/Throwable" (198 : Nat) "java/lang/Throwable" "backtrace" "Ljava/lang/Object;") ∈ lw_all := lw_g (lw_at lw_m2 30 rfl) rfl
theorem q365 : (Jvm.Cond.superclass "java/lang/Throwable" "java/lang/Object") ∈ lw_all := lw_g (lw_at lw_m2 31 rfl) rfl
theorem q366 : (Jvm.Cond.instanceMethod ({ cls := "java/lang/Throwable", name := "<init>", desc := "()V" } : Jvm.MethodName)) ∈ lw_all := lw_g (lw_at lw_m2 32 rfl) rfl
theorem q367 : (Jvm.Cond.code ({ cls := "java/lang/Throwable", name := "<init>", desc := "()V" } : Jvm.MethodName) prog_33_method_1_code (1 : Nat) (Option.none : Option Jvm.ClassFile.FieldType)) ∈ lw_all := lw_g (lw_at lw_m2 33 rfl) rfl
theorem q368 : (Jvm.Cond.methodLink "java/lang/Throwable" (1 : Nat) ({ cls := "java/lang/Object", name := "<init>", desc := "()V" } : Jvm.MethodName)) ∈ lw_all := lw_g (lw_at lw_m2 34 rfl) rfl
theorem q369 : (Jvm.Cond.fieldLink "java/lang/Throwable" (13 : Nat) "java/lang/Throwable" "UNASSIGNED_STACK" "[Ljava/lang/StackTraceElement;") ∈ lw_all := lw_g (lw_at lw_m2 35 rfl) rfl
theorem q370 : (Jvm.Cond.laysStatic "java/lang/Throwable" "UNASSIGNED_STACK" "[Ljava/lang/StackTraceElement;") ∈ lw_tbl := lw_at lw_m2 36 rfl
theorem q371 : (Jvm.Cond.fieldLink "java/lang/Throwable" (20 : Nat) "java/lang/Throwable" "SUPPRESSED_SENTINEL" "Ljava/util/List;") ∈ lw_all := lw_g (lw_at lw_m2 37 rfl) rfl
theorem q372 : (Jvm.Cond.laysStatic "java/lang/Throwable" "SUPPRESSED_SENTINEL" "Ljava/util/List;") ∈ lw_tbl := lw_at lw_m2 38 rfl
theorem q373 : (Jvm.Cond.methodLink "java/lang/Throwable" (27 : Nat) ({ cls := "java/lang/Throwable", name := "fillInStackTrace", desc := "()Ljava/lang/Throwable;" } : Jvm.MethodName)) ∈ lw_all := lw_g (lw_at lw_m2 39 rfl) rfl
theorem q374 : (Jvm.Cond.instanceMethod ({ cls := "java/lang/Throwable", name := "fillInStackTrace", desc := "()Ljava/lang/Throwable;" } : Jvm.MethodName)) ∈ lw_all := lw_g (lw_at lw_m2 40 rfl) rfl
theorem q375 : (Jvm.Cond.sameMethod "java/lang/Throwable" "java/lang/Throwable" "fillInStackTrace" "()Ljava/lang/Throwable;") ∈ lw_all := lw_g (lw_at lw_m2 41 rfl) rfl
theorem q377 : (Jvm.Cond.codeSync ({ cls := "java/lang/Throwable", name := "fillInStackTrace", desc := "()Ljava/lang/Throwable;" } : Jvm.MethodName) prog_33_method_18_code (1 : Nat) (Option.some (Jvm.ClassFile.FieldType.object "java/lang/Throwable"))) ∈ lw_all := lw_g (lw_at lw_m2 43 rfl) rfl
theorem q378 : (Jvm.Cond.methodLink "java/lang/Throwable" (202 : Nat) ({ cls := "java/lang/Throwable", name := "fillInStackTrace", desc := "(I)Ljava/lang/Throwable;" } : Jvm.MethodName)) ∈ lw_all := lw_g (lw_at lw_m2 44 rfl) rfl
theorem q379 : (Jvm.Cond.privateMethod ({ cls := "java/lang/Throwable", name := "fillInStackTrace", desc := "(I)Ljava/lang/Throwable;" } : Jvm.MethodName)) ∈ lw_tbl := lw_at lw_m2 45 rfl
theorem q380 : (Jvm.Cond.instanceMethod ({ cls := "java/lang/Throwable", name := "fillInStackTrace", desc := "(I)Ljava/lang/Throwable;" } : Jvm.MethodName)) ∈ lw_all := lw_g (lw_at lw_m2 46 rfl) rfl
theorem q381 : (Jvm.Cond.instantiable "java/lang/Throwable" (6 : Nat)) ∈ lw_all := lw_g (lw_at lw_m2 47 rfl) rfl
theorem q382 : (Jvm.Cond.native ({ cls := "java/lang/Throwable", name := "fillInStackTrace", desc := "(I)Ljava/lang/Throwable;" } : Jvm.MethodName)) ∈ lw_all := lw_g (lw_at lw_m2 48 rfl) rfl
theorem q397 : (Jvm.Cond.fieldLink "java/lang/Throwable" (198 : Nat) "java/lang/Throwable" "backtrace" "Ljava/lang/Object;") ∈ lw_all := lw_g (lw_at lw_m2 63 rfl) rfl
theorem q398 : (Jvm.Cond.fieldLink "java/lang/Throwable" (7 : Nat) "java/lang/Throwable" "cause" "Ljava/lang/Throwable;") ∈ lw_all := lw_g (lw_at lw_m2 64 rfl) rfl
theorem q399 : (Jvm.Cond.fieldLink "java/lang/Throwable" (17 : Nat) "java/lang/Throwable" "stackTrace" "[Ljava/lang/StackTraceElement;") ∈ lw_all := lw_g (lw_at lw_m2 65 rfl) rfl
theorem q400 : (Jvm.Cond.fieldLink "java/lang/Throwable" (24 : Nat) "java/lang/Throwable" "suppressedExceptions" "Ljava/util/List;") ∈ lw_all := lw_g (lw_at lw_m2 66 rfl) rfl
theorem q403 : (Jvm.Cond.soleField "java/lang/Throwable" "backtrace") ∈ lw_all := lw_g (lw_at lw_m2 69 rfl) rfl
theorem q404 : (Jvm.Cond.soleField "java/lang/Throwable" "detailMessage") ∈ lw_all := lw_g (lw_at lw_m2 70 rfl) rfl
theorem q405 : (Jvm.Cond.soleField "java/lang/Throwable" "cause") ∈ lw_all := lw_g (lw_at lw_m2 71 rfl) rfl
theorem q406 : (Jvm.Cond.soleField "java/lang/Throwable" "stackTrace") ∈ lw_all := lw_g (lw_at lw_m2 72 rfl) rfl
theorem q408 : (Jvm.Cond.soleField "java/lang/Throwable" "depth") ∈ lw_all := lw_g (lw_at lw_m2 74 rfl) rfl
theorem q409 : (Jvm.Cond.soleField "java/lang/Throwable" "suppressedExceptions") ∈ lw_all := lw_g (lw_at lw_m2 75 rfl) rfl
theorem q1580 : (Jvm.Cond.sameMethod "java/lang/Throwable" "java/lang/Throwable" "fillInStackTrace" "(I)Ljava/lang/Throwable;") ∈ lw_all := lw_g (lw_at lw_m7 46 rfl) rfl
theorem in_J0 : ∀ w ∈ wsJ00, w ∈ lw_all := lw_in wsJ00 [355, 357, 359, 361, 363] (by decide +kernel) (by decide +kernel)
/-! java/lang/Exception -/
set_option maxRecDepth 100000
def RJ1 : String := "java/lang/Exception"
abbrev cJ1_init : ByteArray := prog_29_method_1_code
def yJ1_init : MethodName := ⟨RJ1, "<init>", "()V"⟩
theorem dJ1_init_0 : decode cJ1_init 0 = .ok (.aload_n 0, 1) := by decide +kernel
theorem dJ1_init_1 : decode cJ1_init 1 = .ok (.invokespecial 1, 3) := by decide +kernel
theorem dJ1_init_4 : decode cJ1_init 4 = .ok (.return_, 1) := by decide +kernel
theorem q106 : (Jvm.Cond.initialized "java/lang/Exception") ∈ lw_all := lw_g (lw_at lw_m1 12 rfl) rfl
theorem q348 : (Jvm.Cond.declares ({ cls := "java/lang/Exception", name := "<init>", desc := "()V" } : Jvm.MethodName)) ∈ lw_tbl := lw_at lw_m2 14 rfl
theorem q349 : (Jvm.Cond.declares ({ cls := "java/lang/Exception", name := "<init>", desc := "(Ljava/lang/String;)V" } : Jvm.MethodName)) ∈ lw_tbl := lw_at lw_m2 15 rfl
theorem q393 : (Jvm.Cond.instanceMethod ({ cls := "java/lang/Exception", name := "<init>", desc := "()V" } : Jvm.MethodName)) ∈ lw_all := lw_g (lw_at lw_m2 59 rfl) rfl
theorem q394 : (Jvm.Cond.code ({ cls := "java/lang/Exception", name := "<init>", desc := "()V" } : Jvm.MethodName) prog_29_method_1_code (1 : Nat) (Option.none : Option Jvm.ClassFile.FieldType)) ∈ lw_all := lw_g (lw_at lw_m2 60 rfl) rfl
theorem q395 : (Jvm.Cond.methodLink "java/lang/Exception" (1 : Nat) ({ cls := "java/lang/Throwable", name := "<init>", desc := "()V" } : Jvm.MethodName)) ∈ lw_all := lw_g (lw_at lw_m2 61 rfl) rfl
/-! java/lang/RuntimeException -/
set_option maxRecDepth 100000
def RJ2 : String := "java/lang/RuntimeException"
abbrev cJ2_init : ByteArray := prog_31_method_1_code
def yJ2_init : MethodName := ⟨RJ2, "<init>", "()V"⟩
theorem dJ2_init_0 : decode cJ2_init 0 = .ok (.aload_n 0, 1) := by decide +kernel
theorem dJ2_init_1 : decode cJ2_init 1 = .ok (.invokespecial 1, 3) := by decide +kernel
theorem dJ2_init_4 : decode cJ2_init 4 = .ok (.return_, 1) := by decide +kernel
theorem q107 : (Jvm.Cond.initialized "java/lang/RuntimeException") ∈ lw_all := lw_g (lw_at lw_m1 13 rfl) rfl
theorem q346 : (Jvm.Cond.declares ({ cls := "java/lang/RuntimeException", name := "<init>", desc := "()V" } : Jvm.MethodName)) ∈ lw_tbl := lw_at lw_m2 12 rfl
theorem q347 : (Jvm.Cond.declares ({ cls := "java/lang/RuntimeException", name := "<init>", desc := "(Ljava/lang/String;)V" } : Jvm.MethodName)) ∈ lw_tbl := lw_at lw_m2 13 rfl
theorem q390 : (Jvm.Cond.instanceMethod ({ cls := "java/lang/RuntimeException", name := "<init>", desc := "()V" } : Jvm.MethodName)) ∈ lw_all := lw_g (lw_at lw_m2 56 rfl) rfl
theorem q391 : (Jvm.Cond.code ({ cls := "java/lang/RuntimeException", name := "<init>", desc := "()V" } : Jvm.MethodName) prog_31_method_1_code (1 : Nat) (Option.none : Option Jvm.ClassFile.FieldType)) ∈ lw_all := lw_g (lw_at lw_m2 57 rfl) rfl
theorem q392 : (Jvm.Cond.methodLink "java/lang/RuntimeException" (1 : Nat) ({ cls := "java/lang/Exception", name := "<init>", desc := "()V" } : Jvm.MethodName)) ∈ lw_all := lw_g (lw_at lw_m2 58 rfl) rfl
/-! java/lang/Math -/
set_option maxRecDepth 100000
def RJ3 : String := "java/lang/Math"
abbrev cJ3_min : ByteArray := prog_30_method_69_code
def yJ3_min : MethodName := ⟨RJ3, "min", "(II)I"⟩
def dkwJ3_min_0 : List UInt8 := [26, 27, 163, 0, 7, 26, 167, 0, 4, 27, 172]
abbrev dktJ3_min_0 : List UInt8 := dkwJ3_min_0 ++ []
theorem dksJ3_min_0 : cJ3_min.data.toList.drop 0 = dktJ3_min_0 := by decide +kernel
theorem dJ3_min_0 : decode cJ3_min 0 = .ok (.iload_n 0, 1) := dk_26 (dk_at dksJ3_min_0 0 rfl rfl)
theorem dJ3_min_1 : decode cJ3_min 1 = .ok (.iload_n 1, 1) := dk_27 (dk_at dksJ3_min_0 1 rfl rfl)
theorem dJ3_min_2 : decode cJ3_min 2 = .ok (.if_icmp .gt 7, 3) := dk_163 0 7 (dk_at dksJ3_min_0 2 rfl rfl)
theorem dJ3_min_5 : decode cJ3_min 5 = .ok (.iload_n 0, 1) := dk_26 (dk_at dksJ3_min_0 5 rfl rfl)
theorem dJ3_min_6 : decode cJ3_min 6 = .ok (.goto 4, 3) := dk_167 0 4 (dk_at dksJ3_min_0 6 rfl rfl)
theorem dJ3_min_9 : decode cJ3_min 9 = .ok (.iload_n 1, 1) := dk_27 (dk_at dksJ3_min_0 9 rfl rfl)
theorem dJ3_min_10 : decode cJ3_min 10 = .ok (.ireturn, 1) := dk_172 (dk_at dksJ3_min_0 10 rfl rfl)
abbrev cJ3_max : ByteArray := prog_30_method_65_code
def yJ3_max : MethodName := ⟨RJ3, "max", "(II)I"⟩
def dkwJ3_max_0 : List UInt8 := [26, 27, 161, 0, 7, 26, 167, 0, 4, 27, 172]
abbrev dktJ3_max_0 : List UInt8 := dkwJ3_max_0 ++ []
theorem dksJ3_max_0 : cJ3_max.data.toList.drop 0 = dktJ3_max_0 := by decide +kernel
theorem dJ3_max_0 : decode cJ3_max 0 = .ok (.iload_n 0, 1) := dk_26 (dk_at dksJ3_max_0 0 rfl rfl)
theorem dJ3_max_1 : decode cJ3_max 1 = .ok (.iload_n 1, 1) := dk_27 (dk_at dksJ3_max_0 1 rfl rfl)
theorem dJ3_max_2 : decode cJ3_max 2 = .ok (.if_icmp .lt 7, 3) := dk_161 0 7 (dk_at dksJ3_max_0 2 rfl rfl)
theorem dJ3_max_5 : decode cJ3_max 5 = .ok (.iload_n 0, 1) := dk_26 (dk_at dksJ3_max_0 5 rfl rfl)
theorem dJ3_max_6 : decode cJ3_max 6 = .ok (.goto 4, 3) := dk_167 0 4 (dk_at dksJ3_max_0 6 rfl rfl)
theorem dJ3_max_9 : decode cJ3_max 9 = .ok (.iload_n 1, 1) := dk_27 (dk_at dksJ3_max_0 9 rfl rfl)
theorem dJ3_max_10 : decode cJ3_max 10 = .ok (.ireturn, 1) := dk_172 (dk_at dksJ3_max_0 10 rfl rfl)
theorem q119 : (Jvm.Cond.initialized "java/lang/Math") ∈ lw_all := lw_g (lw_at lw_m1 25 rfl) rfl
theorem q655 : (Jvm.Cond.static ({ cls := "java/lang/Math", name := "min", desc := "(II)I" } : Jvm.MethodName)) ∈ lw_all := lw_g (lw_at lw_m3 81 rfl) rfl
theorem q656 : (Jvm.Cond.code ({ cls := "java/lang/Math", name := "min", desc := "(II)I" } : Jvm.MethodName) prog_30_method_69_code (2 : Nat) (Option.some Jvm.ClassFile.FieldType.int)) ∈ lw_all := lw_g (lw_at lw_m3 82 rfl) rfl
theorem q903 : (Jvm.Cond.static ({ cls := "java/lang/Math", name := "max", desc := "(II)I" } : Jvm.MethodName)) ∈ lw_all := lw_g (lw_at lw_m4 89 rfl) rfl
theorem q904 : (Jvm.Cond.code ({ cls := "java/lang/Math", name := "max", desc := "(II)I" } : Jvm.MethodName) prog_30_method_65_code (2 : Nat) (Option.some Jvm.ClassFile.FieldType.int)) ∈ lw_all := lw_g (lw_at lw_m4 90 rfl) rfl
/-! SongThatStays$Kind -/
set_option maxRecDepth 100000
def RX1 : String := "SongThatStays$Kind"
abbrev cX1_init : ByteArray := prog_12_method_1_code
def yX1_init : MethodName := ⟨RX1, "<init>", "()V"⟩
theorem dX1_init_0 : decode cX1_init 0 = .ok (.aload_n 0, 1) := by decide +kernel
theorem dX1_init_1 : decode cX1_init 1 = .ok (.invokespecial 1, 3) := by decide +kernel
theorem dX1_init_4 : decode cX1_init 4 = .ok (.return_, 1) := by decide +kernel
theorem q96 : (Jvm.Cond.initialized "SongThatStays$Kind") ∈ lw_all := lw_g (lw_at lw_m1 2 rfl) rfl
theorem q143 : (Jvm.Cond.instanceMethod ({ cls := "SongThatStays$Kind", name := "<init>", desc := "()V" } : Jvm.MethodName)) ∈ lw_all := lw_g (lw_at lw_m1 49 rfl) rfl
theorem q144 : (Jvm.Cond.code ({ cls := "SongThatStays$Kind", name := "<init>", desc := "()V" } : Jvm.MethodName) prog_12_method_1_code (1 : Nat) (Option.none : Option Jvm.ClassFile.FieldType)) ∈ lw_all := lw_g (lw_at lw_m1 50 rfl) rfl
theorem q145 : (Jvm.Cond.methodLink "SongThatStays$Kind" (1 : Nat) ({ cls := "java/lang/Object", name := "<init>", desc := "()V" } : Jvm.MethodName)) ∈ lw_all := lw_g (lw_at lw_m1 51 rfl) rfl
theorem q787 : (Jvm.Cond.declares ({ cls := "SongThatStays$Kind", name := "kind", desc := "()I" } : Jvm.MethodName)) ∈ lw_tbl := lw_at lw_m3 213 rfl
theorem q788 : (Jvm.Cond.sameMethod "SongThatStays$Kind" "SongThatStays$Kind" "kind" "()I") ∈ lw_all := lw_g (lw_at lw_m3 214 rfl) rfl
theorem q812 : (Jvm.Cond.declares ({ cls := "SongThatStays$Kind", name := "bar", desc := "(I)I" } : Jvm.MethodName)) ∈ lw_tbl := lw_at lw_m3 238 rfl
theorem q813 : (Jvm.Cond.sameMethod "SongThatStays$Kind" "SongThatStays$Kind" "bar" "(I)I") ∈ lw_all := lw_g (lw_at lw_m3 239 rfl) rfl
theorem q837 : (Jvm.Cond.declares ({ cls := "SongThatStays$Kind", name := "hums", desc := "(III)Z" } : Jvm.MethodName)) ∈ lw_tbl := lw_at lw_m4 23 rfl
theorem q838 : (Jvm.Cond.sameMethod "SongThatStays$Kind" "SongThatStays$Kind" "hums" "(III)Z") ∈ lw_all := lw_g (lw_at lw_m4 24 rfl) rfl
/-! SongThatStays$Head -/
set_option maxRecDepth 100000
def RX2 : String := "SongThatStays$Head"
abbrev cX2_init : ByteArray := prog_8_method_1_code
def yX2_init : MethodName := ⟨RX2, "<init>", "()V"⟩
theorem dX2_init_0 : decode cX2_init 0 = .ok (.aload_n 0, 1) := by decide +kernel
theorem dX2_init_1 : decode cX2_init 1 = .ok (.invokespecial 1, 3) := by decide +kernel
theorem dX2_init_4 : decode cX2_init 4 = .ok (.return_, 1) := by decide +kernel
abbrev cX2_kind : ByteArray := prog_8_method_2_code
def yX2_kind : MethodName := ⟨RX2, "kind", "()I"⟩
theorem dX2_kind_0 : decode cX2_kind 0 = .ok (.iconst 0, 1) := by decide +kernel
theorem dX2_kind_1 : decode cX2_kind 1 = .ok (.ireturn, 1) := by decide +kernel
abbrev cX2_bar : ByteArray := prog_8_method_4_code
def yX2_bar : MethodName := ⟨RX2, "bar", "(I)I"⟩
theorem dX2_bar_0 : decode cX2_bar 0 = .ok (.iload_n 1, 1) := by decide +kernel
theorem dX2_bar_1 : decode cX2_bar 1 = .ok (.ireturn, 1) := by decide +kernel
abbrev cX2_hums : ByteArray := prog_8_method_3_code
def yX2_hums : MethodName := ⟨RX2, "hums", "(III)Z"⟩
def dkwX2_hums_0 : List UInt8 := [27, 28, 161, 0, 7, 4, 167, 0, 4, 3, 172]
abbrev dktX2_hums_0 : List UInt8 := dkwX2_hums_0 ++ []
theorem dksX2_hums_0 : cX2_hums.data.toList.drop 0 = dktX2_hums_0 := by decide +kernel
theorem dX2_hums_0 : decode cX2_hums 0 = .ok (.iload_n 1, 1) := dk_27 (dk_at dksX2_hums_0 0 rfl rfl)
theorem dX2_hums_1 : decode cX2_hums 1 = .ok (.iload_n 2, 1) := dk_28 (dk_at dksX2_hums_0 1 rfl rfl)
theorem dX2_hums_2 : decode cX2_hums 2 = .ok (.if_icmp .lt 7, 3) := dk_161 0 7 (dk_at dksX2_hums_0 2 rfl rfl)
theorem dX2_hums_5 : decode cX2_hums 5 = .ok (.iconst 1, 1) := dk_4 (dk_at dksX2_hums_0 5 rfl rfl)
theorem dX2_hums_6 : decode cX2_hums 6 = .ok (.goto 4, 3) := dk_167 0 4 (dk_at dksX2_hums_0 6 rfl rfl)
theorem dX2_hums_9 : decode cX2_hums 9 = .ok (.iconst 0, 1) := dk_3 (dk_at dksX2_hums_0 9 rfl rfl)
theorem dX2_hums_10 : decode cX2_hums 10 = .ok (.ireturn, 1) := dk_172 (dk_at dksX2_hums_0 10 rfl rfl)
theorem q97 : (Jvm.Cond.initialized "SongThatStays$Head") ∈ lw_all := lw_g (lw_at lw_m1 3 rfl) rfl
theorem q138 : (Jvm.Cond.instantiable "SongThatStays$Head" (0 : Nat)) ∈ lw_all := lw_g (lw_at lw_m1 44 rfl) rfl
theorem q140 : (Jvm.Cond.instanceMethod ({ cls := "SongThatStays$Head", name := "<init>", desc := "()V" } : Jvm.MethodName)) ∈ lw_all := lw_g (lw_at lw_m1 46 rfl) rfl
theorem q141 : (Jvm.Cond.code ({ cls := "SongThatStays$Head", name := "<init>", desc := "()V" } : Jvm.MethodName) prog_8_method_1_code (1 : Nat) (Option.none : Option Jvm.ClassFile.FieldType)) ∈ lw_all := lw_g (lw_at lw_m1 47 rfl) rfl
theorem q142 : (Jvm.Cond.methodLinkNest "SongThatStays$Head" (1 : Nat) ({ cls := "SongThatStays$Kind", name := "<init>", desc := "()V" } : Jvm.MethodName) "SongThatStays") ∈ lw_tbl := lw_at lw_m1 48 rfl
theorem q146 : (Jvm.Cond.superclass "SongThatStays$Head" "SongThatStays$Kind") ∈ lw_all := lw_g (lw_at lw_m1 52 rfl) rfl
theorem q795 : (Jvm.Cond.selects "SongThatStays$Head" ({ cls := "SongThatStays$Kind", name := "kind", desc := "()I" } : Jvm.MethodName) ({ cls := "SongThatStays$Head", name := "kind", desc := "()I" } : Jvm.MethodName)) ∈ lw_all := lw_g (lw_at lw_m3 221 rfl) rfl
theorem q796 : (Jvm.Cond.instanceMethod ({ cls := "SongThatStays$Head", name := "kind", desc := "()I" } : Jvm.MethodName)) ∈ lw_all := lw_g (lw_at lw_m3 222 rfl) rfl
theorem q797 : (Jvm.Cond.code ({ cls := "SongThatStays$Head", name := "kind", desc := "()I" } : Jvm.MethodName) prog_8_method_2_code (1 : Nat) (Option.some Jvm.ClassFile.FieldType.int)) ∈ lw_all := lw_g (lw_at lw_m3 223 rfl) rfl
theorem q821 : (Jvm.Cond.instanceMethod ({ cls := "SongThatStays$Head", name := "bar", desc := "(I)I" } : Jvm.MethodName)) ∈ lw_all := lw_g (lw_at lw_m4 7 rfl) rfl
theorem q822 : (Jvm.Cond.code ({ cls := "SongThatStays$Head", name := "bar", desc := "(I)I" } : Jvm.MethodName) prog_8_method_4_code (2 : Nat) (Option.some Jvm.ClassFile.FieldType.int)) ∈ lw_all := lw_g (lw_at lw_m4 8 rfl) rfl
theorem q826 : (Jvm.Cond.selects "SongThatStays$Head" ({ cls := "SongThatStays$Kind", name := "bar", desc := "(I)I" } : Jvm.MethodName) ({ cls := "SongThatStays$Head", name := "bar", desc := "(I)I" } : Jvm.MethodName)) ∈ lw_all := lw_g (lw_at lw_m4 12 rfl) rfl
theorem q843 : (Jvm.Cond.instanceMethod ({ cls := "SongThatStays$Head", name := "hums", desc := "(III)Z" } : Jvm.MethodName)) ∈ lw_all := lw_g (lw_at lw_m4 29 rfl) rfl
theorem q844 : (Jvm.Cond.code ({ cls := "SongThatStays$Head", name := "hums", desc := "(III)Z" } : Jvm.MethodName) prog_8_method_3_code (4 : Nat) (Option.some Jvm.ClassFile.FieldType.boolean)) ∈ lw_all := lw_g (lw_at lw_m4 30 rfl) rfl
theorem q845 : (Jvm.Cond.selects "SongThatStays$Head" ({ cls := "SongThatStays$Kind", name := "hums", desc := "(III)Z" } : Jvm.MethodName) ({ cls := "SongThatStays$Head", name := "hums", desc := "(III)Z" } : Jvm.MethodName)) ∈ lw_all := lw_g (lw_at lw_m4 31 rfl) rfl
theorem q1584 : (Jvm.Cond.sameMethod "SongThatStays$Head" "SongThatStays$Head" "bar" "(I)I") ∈ lw_all := lw_g (lw_at lw_m7 50 rfl) rfl
theorem q1585 : (Jvm.Cond.sameMethod "SongThatStays$Head" "SongThatStays$Head" "hums" "(III)Z") ∈ lw_all := lw_g (lw_at lw_m7 51 rfl) rfl
theorem q1592 : (Jvm.Cond.castable "SongThatStays$Head" "SongThatStays$Kind") ∈ lw_tbl := lw_at lw_m7 58 rfl
/-! SongThatStays$Whistler -/
set_option maxRecDepth 100000
def RX3 : String := "SongThatStays$Whistler"
abbrev cX3_init : ByteArray := prog_25_method_1_code
def yX3_init : MethodName := ⟨RX3, "<init>", "()V"⟩
theorem dX3_init_0 : decode cX3_init 0 = .ok (.aload_n 0, 1) := by decide +kernel
theorem dX3_init_1 : decode cX3_init 1 = .ok (.invokespecial 1, 3) := by decide +kernel
theorem dX3_init_4 : decode cX3_init 4 = .ok (.return_, 1) := by decide +kernel
abbrev cX3_kind : ByteArray := prog_25_method_2_code
def yX3_kind : MethodName := ⟨RX3, "kind", "()I"⟩
theorem dX3_kind_0 : decode cX3_kind 0 = .ok (.iconst 1, 1) := by decide +kernel
theorem dX3_kind_1 : decode cX3_kind 1 = .ok (.ireturn, 1) := by decide +kernel
abbrev cX3_hums : ByteArray := prog_25_method_3_code
def yX3_hums : MethodName := ⟨RX3, "hums", "(III)Z"⟩
def dkwX3_hums_0 : List UInt8 := [42, 27, 3, 29, 183, 0, 7, 172]
abbrev dktX3_hums_0 : List UInt8 := dkwX3_hums_0 ++ []
theorem dksX3_hums_0 : cX3_hums.data.toList.drop 0 = dktX3_hums_0 := by decide +kernel
theorem dX3_hums_0 : decode cX3_hums 0 = .ok (.aload_n 0, 1) := dk_42 (dk_at dksX3_hums_0 0 rfl rfl)
theorem dX3_hums_1 : decode cX3_hums 1 = .ok (.iload_n 1, 1) := dk_27 (dk_at dksX3_hums_0 1 rfl rfl)
theorem dX3_hums_2 : decode cX3_hums 2 = .ok (.iconst 0, 1) := dk_3 (dk_at dksX3_hums_0 2 rfl rfl)
theorem dX3_hums_3 : decode cX3_hums 3 = .ok (.iload_n 3, 1) := dk_29 (dk_at dksX3_hums_0 3 rfl rfl)
theorem dX3_hums_4 : decode cX3_hums 4 = .ok (.invokespecial 7, 3) := dk_183 0 7 (dk_at dksX3_hums_0 4 rfl rfl)
theorem dX3_hums_7 : decode cX3_hums 7 = .ok (.ireturn, 1) := dk_172 (dk_at dksX3_hums_0 7 rfl rfl)
theorem q98 : (Jvm.Cond.initialized "SongThatStays$Whistler") ∈ lw_all := lw_g (lw_at lw_m1 4 rfl) rfl
theorem q148 : (Jvm.Cond.instantiable "SongThatStays$Whistler" (0 : Nat)) ∈ lw_all := lw_g (lw_at lw_m1 54 rfl) rfl
theorem q150 : (Jvm.Cond.instanceMethod ({ cls := "SongThatStays$Whistler", name := "<init>", desc := "()V" } : Jvm.MethodName)) ∈ lw_all := lw_g (lw_at lw_m1 56 rfl) rfl
theorem q151 : (Jvm.Cond.code ({ cls := "SongThatStays$Whistler", name := "<init>", desc := "()V" } : Jvm.MethodName) prog_25_method_1_code (1 : Nat) (Option.none : Option Jvm.ClassFile.FieldType)) ∈ lw_all := lw_g (lw_at lw_m1 57 rfl) rfl
theorem q152 : (Jvm.Cond.methodLinkNest "SongThatStays$Whistler" (1 : Nat) ({ cls := "SongThatStays$Head", name := "<init>", desc := "()V" } : Jvm.MethodName) "SongThatStays") ∈ lw_tbl := lw_at lw_m1 58 rfl
theorem q153 : (Jvm.Cond.superclass "SongThatStays$Whistler" "SongThatStays$Head") ∈ lw_all := lw_g (lw_at lw_m1 59 rfl) rfl
theorem q801 : (Jvm.Cond.selects "SongThatStays$Whistler" ({ cls := "SongThatStays$Kind", name := "kind", desc := "()I" } : Jvm.MethodName) ({ cls := "SongThatStays$Whistler", name := "kind", desc := "()I" } : Jvm.MethodName)) ∈ lw_all := lw_g (lw_at lw_m3 227 rfl) rfl
theorem q802 : (Jvm.Cond.instanceMethod ({ cls := "SongThatStays$Whistler", name := "kind", desc := "()I" } : Jvm.MethodName)) ∈ lw_all := lw_g (lw_at lw_m3 228 rfl) rfl
theorem q803 : (Jvm.Cond.code ({ cls := "SongThatStays$Whistler", name := "kind", desc := "()I" } : Jvm.MethodName) prog_25_method_2_code (1 : Nat) (Option.some Jvm.ClassFile.FieldType.int)) ∈ lw_all := lw_g (lw_at lw_m3 229 rfl) rfl
theorem q828 : (Jvm.Cond.selects "SongThatStays$Whistler" ({ cls := "SongThatStays$Kind", name := "bar", desc := "(I)I" } : Jvm.MethodName) ({ cls := "SongThatStays$Head", name := "bar", desc := "(I)I" } : Jvm.MethodName)) ∈ lw_all := lw_g (lw_at lw_m4 14 rfl) rfl
theorem q847 : (Jvm.Cond.selects "SongThatStays$Whistler" ({ cls := "SongThatStays$Kind", name := "hums", desc := "(III)Z" } : Jvm.MethodName) ({ cls := "SongThatStays$Whistler", name := "hums", desc := "(III)Z" } : Jvm.MethodName)) ∈ lw_all := lw_g (lw_at lw_m4 33 rfl) rfl
theorem q848 : (Jvm.Cond.instanceMethod ({ cls := "SongThatStays$Whistler", name := "hums", desc := "(III)Z" } : Jvm.MethodName)) ∈ lw_all := lw_g (lw_at lw_m4 34 rfl) rfl
theorem q849 : (Jvm.Cond.code ({ cls := "SongThatStays$Whistler", name := "hums", desc := "(III)Z" } : Jvm.MethodName) prog_25_method_3_code (4 : Nat) (Option.some Jvm.ClassFile.FieldType.boolean)) ∈ lw_all := lw_g (lw_at lw_m4 35 rfl) rfl
theorem q850 : (Jvm.Cond.methodLink "SongThatStays$Whistler" (7 : Nat) ({ cls := "SongThatStays$Head", name := "hums", desc := "(III)Z" } : Jvm.MethodName)) ∈ lw_all := lw_g (lw_at lw_m4 36 rfl) rfl
theorem q1586 : (Jvm.Cond.sameMethod "SongThatStays$Whistler" "SongThatStays$Whistler" "hums" "(III)Z") ∈ lw_all := lw_g (lw_at lw_m7 52 rfl) rfl
theorem q1593 : (Jvm.Cond.castable "SongThatStays$Whistler" "SongThatStays$Kind") ∈ lw_tbl := lw_at lw_m7 59 rfl
/-! SongThatStays$Deaf -/
set_option maxRecDepth 100000
def RX4 : String := "SongThatStays$Deaf"
abbrev cX4_init : ByteArray := prog_4_method_1_code
def yX4_init : MethodName := ⟨RX4, "<init>", "()V"⟩
theorem dX4_init_0 : decode cX4_init 0 = .ok (.aload_n 0, 1) := by decide +kernel
theorem dX4_init_1 : decode cX4_init 1 = .ok (.invokespecial 1, 3) := by decide +kernel
theorem dX4_init_4 : decode cX4_init 4 = .ok (.return_, 1) := by decide +kernel
abbrev cX4_kind : ByteArray := prog_4_method_2_code
def yX4_kind : MethodName := ⟨RX4, "kind", "()I"⟩
theorem dX4_kind_0 : decode cX4_kind 0 = .ok (.iconst 2, 1) := by decide +kernel
theorem dX4_kind_1 : decode cX4_kind 1 = .ok (.ireturn, 1) := by decide +kernel
abbrev cX4_bar : ByteArray := prog_4_method_3_code
def yX4_bar : MethodName := ⟨RX4, "bar", "(I)I"⟩
theorem dX4_bar_0 : decode cX4_bar 0 = .ok (.bipush 99, 2) := by decide +kernel
theorem dX4_bar_2 : decode cX4_bar 2 = .ok (.ireturn, 1) := by decide +kernel
theorem q99 : (Jvm.Cond.initialized "SongThatStays$Deaf") ∈ lw_all := lw_g (lw_at lw_m1 5 rfl) rfl
theorem q155 : (Jvm.Cond.instantiable "SongThatStays$Deaf" (0 : Nat)) ∈ lw_all := lw_g (lw_at lw_m1 61 rfl) rfl
theorem q157 : (Jvm.Cond.instanceMethod ({ cls := "SongThatStays$Deaf", name := "<init>", desc := "()V" } : Jvm.MethodName)) ∈ lw_all := lw_g (lw_at lw_m1 63 rfl) rfl
theorem q158 : (Jvm.Cond.code ({ cls := "SongThatStays$Deaf", name := "<init>", desc := "()V" } : Jvm.MethodName) prog_4_method_1_code (1 : Nat) (Option.none : Option Jvm.ClassFile.FieldType)) ∈ lw_all := lw_g (lw_at lw_m1 64 rfl) rfl
theorem q159 : (Jvm.Cond.methodLinkNest "SongThatStays$Deaf" (1 : Nat) ({ cls := "SongThatStays$Head", name := "<init>", desc := "()V" } : Jvm.MethodName) "SongThatStays") ∈ lw_tbl := lw_at lw_m1 65 rfl
theorem q160 : (Jvm.Cond.superclass "SongThatStays$Deaf" "SongThatStays$Head") ∈ lw_all := lw_g (lw_at lw_m1 66 rfl) rfl
theorem q792 : (Jvm.Cond.selects "SongThatStays$Deaf" ({ cls := "SongThatStays$Kind", name := "kind", desc := "()I" } : Jvm.MethodName) ({ cls := "SongThatStays$Deaf", name := "kind", desc := "()I" } : Jvm.MethodName)) ∈ lw_all := lw_g (lw_at lw_m3 218 rfl) rfl
theorem q793 : (Jvm.Cond.instanceMethod ({ cls := "SongThatStays$Deaf", name := "kind", desc := "()I" } : Jvm.MethodName)) ∈ lw_all := lw_g (lw_at lw_m3 219 rfl) rfl
theorem q794 : (Jvm.Cond.code ({ cls := "SongThatStays$Deaf", name := "kind", desc := "()I" } : Jvm.MethodName) prog_4_method_2_code (1 : Nat) (Option.some Jvm.ClassFile.FieldType.int)) ∈ lw_all := lw_g (lw_at lw_m3 220 rfl) rfl
theorem q823 : (Jvm.Cond.selects "SongThatStays$Deaf" ({ cls := "SongThatStays$Kind", name := "bar", desc := "(I)I" } : Jvm.MethodName) ({ cls := "SongThatStays$Deaf", name := "bar", desc := "(I)I" } : Jvm.MethodName)) ∈ lw_all := lw_g (lw_at lw_m4 9 rfl) rfl
theorem q824 : (Jvm.Cond.instanceMethod ({ cls := "SongThatStays$Deaf", name := "bar", desc := "(I)I" } : Jvm.MethodName)) ∈ lw_all := lw_g (lw_at lw_m4 10 rfl) rfl
theorem q825 : (Jvm.Cond.code ({ cls := "SongThatStays$Deaf", name := "bar", desc := "(I)I" } : Jvm.MethodName) prog_4_method_3_code (2 : Nat) (Option.some Jvm.ClassFile.FieldType.int)) ∈ lw_all := lw_g (lw_at lw_m4 11 rfl) rfl
theorem q842 : (Jvm.Cond.selects "SongThatStays$Deaf" ({ cls := "SongThatStays$Kind", name := "hums", desc := "(III)Z" } : Jvm.MethodName) ({ cls := "SongThatStays$Head", name := "hums", desc := "(III)Z" } : Jvm.MethodName)) ∈ lw_all := lw_g (lw_at lw_m4 28 rfl) rfl
theorem q1594 : (Jvm.Cond.castable "SongThatStays$Deaf" "SongThatStays$Kind") ∈ lw_tbl := lw_at lw_m7 60 rfl
/-! SongThatStays$Tired -/
set_option maxRecDepth 100000
def RX5 : String := "SongThatStays$Tired"
abbrev cX5_init : ByteArray := prog_23_method_1_code
def yX5_init : MethodName := ⟨RX5, "<init>", "()V"⟩
theorem dX5_init_0 : decode cX5_init 0 = .ok (.aload_n 0, 1) := by decide +kernel
theorem dX5_init_1 : decode cX5_init 1 = .ok (.invokespecial 1, 3) := by decide +kernel
theorem dX5_init_4 : decode cX5_init 4 = .ok (.return_, 1) := by decide +kernel
abbrev cX5_kind : ByteArray := prog_23_method_2_code
def yX5_kind : MethodName := ⟨RX5, "kind", "()I"⟩
theorem dX5_kind_0 : decode cX5_kind 0 = .ok (.iconst 3, 1) := by decide +kernel
theorem dX5_kind_1 : decode cX5_kind 1 = .ok (.ireturn, 1) := by decide +kernel
abbrev cX5_bar : ByteArray := prog_23_method_3_code
def yX5_bar : MethodName := ⟨RX5, "bar", "(I)I"⟩
def dkwX5_bar_0 : List UInt8 := [42, 27, 183, 0, 7, 5, 108, 172]
abbrev dktX5_bar_0 : List UInt8 := dkwX5_bar_0 ++ []
theorem dksX5_bar_0 : cX5_bar.data.toList.drop 0 = dktX5_bar_0 := by decide +kernel
theorem dX5_bar_0 : decode cX5_bar 0 = .ok (.aload_n 0, 1) := dk_42 (dk_at dksX5_bar_0 0 rfl rfl)
theorem dX5_bar_1 : decode cX5_bar 1 = .ok (.iload_n 1, 1) := dk_27 (dk_at dksX5_bar_0 1 rfl rfl)
theorem dX5_bar_2 : decode cX5_bar 2 = .ok (.invokespecial 7, 3) := dk_183 0 7 (dk_at dksX5_bar_0 2 rfl rfl)
theorem dX5_bar_5 : decode cX5_bar 5 = .ok (.iconst 2, 1) := dk_5 (dk_at dksX5_bar_0 5 rfl rfl)
theorem dX5_bar_6 : decode cX5_bar 6 = .ok (.idiv, 1) := dk_108 (dk_at dksX5_bar_0 6 rfl rfl)
theorem dX5_bar_7 : decode cX5_bar 7 = .ok (.ireturn, 1) := dk_172 (dk_at dksX5_bar_0 7 rfl rfl)
theorem q100 : (Jvm.Cond.initialized "SongThatStays$Tired") ∈ lw_all := lw_g (lw_at lw_m1 6 rfl) rfl
theorem q162 : (Jvm.Cond.instantiable "SongThatStays$Tired" (0 : Nat)) ∈ lw_all := lw_g (lw_at lw_m1 68 rfl) rfl
theorem q164 : (Jvm.Cond.instanceMethod ({ cls := "SongThatStays$Tired", name := "<init>", desc := "()V" } : Jvm.MethodName)) ∈ lw_all := lw_g (lw_at lw_m1 70 rfl) rfl
theorem q165 : (Jvm.Cond.code ({ cls := "SongThatStays$Tired", name := "<init>", desc := "()V" } : Jvm.MethodName) prog_23_method_1_code (1 : Nat) (Option.none : Option Jvm.ClassFile.FieldType)) ∈ lw_all := lw_g (lw_at lw_m1 71 rfl) rfl
theorem q166 : (Jvm.Cond.methodLinkNest "SongThatStays$Tired" (1 : Nat) ({ cls := "SongThatStays$Head", name := "<init>", desc := "()V" } : Jvm.MethodName) "SongThatStays") ∈ lw_tbl := lw_at lw_m1 72 rfl
theorem q167 : (Jvm.Cond.superclass "SongThatStays$Tired" "SongThatStays$Head") ∈ lw_all := lw_g (lw_at lw_m1 73 rfl) rfl
theorem q798 : (Jvm.Cond.selects "SongThatStays$Tired" ({ cls := "SongThatStays$Kind", name := "kind", desc := "()I" } : Jvm.MethodName) ({ cls := "SongThatStays$Tired", name := "kind", desc := "()I" } : Jvm.MethodName)) ∈ lw_all := lw_g (lw_at lw_m3 224 rfl) rfl
theorem q799 : (Jvm.Cond.instanceMethod ({ cls := "SongThatStays$Tired", name := "kind", desc := "()I" } : Jvm.MethodName)) ∈ lw_all := lw_g (lw_at lw_m3 225 rfl) rfl
theorem q800 : (Jvm.Cond.code ({ cls := "SongThatStays$Tired", name := "kind", desc := "()I" } : Jvm.MethodName) prog_23_method_2_code (1 : Nat) (Option.some Jvm.ClassFile.FieldType.int)) ∈ lw_all := lw_g (lw_at lw_m3 226 rfl) rfl
theorem q818 : (Jvm.Cond.instanceMethod ({ cls := "SongThatStays$Tired", name := "bar", desc := "(I)I" } : Jvm.MethodName)) ∈ lw_all := lw_g (lw_at lw_m4 4 rfl) rfl
theorem q819 : (Jvm.Cond.code ({ cls := "SongThatStays$Tired", name := "bar", desc := "(I)I" } : Jvm.MethodName) prog_23_method_3_code (2 : Nat) (Option.some Jvm.ClassFile.FieldType.int)) ∈ lw_all := lw_g (lw_at lw_m4 5 rfl) rfl
theorem q820 : (Jvm.Cond.methodLink "SongThatStays$Tired" (7 : Nat) ({ cls := "SongThatStays$Head", name := "bar", desc := "(I)I" } : Jvm.MethodName)) ∈ lw_all := lw_g (lw_at lw_m4 6 rfl) rfl
theorem q827 : (Jvm.Cond.selects "SongThatStays$Tired" ({ cls := "SongThatStays$Kind", name := "bar", desc := "(I)I" } : Jvm.MethodName) ({ cls := "SongThatStays$Tired", name := "bar", desc := "(I)I" } : Jvm.MethodName)) ∈ lw_all := lw_g (lw_at lw_m4 13 rfl) rfl
theorem q846 : (Jvm.Cond.selects "SongThatStays$Tired" ({ cls := "SongThatStays$Kind", name := "hums", desc := "(III)Z" } : Jvm.MethodName) ({ cls := "SongThatStays$Head", name := "hums", desc := "(III)Z" } : Jvm.MethodName)) ∈ lw_all := lw_g (lw_at lw_m4 32 rfl) rfl
theorem q1583 : (Jvm.Cond.sameMethod "SongThatStays$Tired" "SongThatStays$Tired" "bar" "(I)I") ∈ lw_all := lw_g (lw_at lw_m7 49 rfl) rfl
theorem q1595 : (Jvm.Cond.castable "SongThatStays$Tired" "SongThatStays$Kind") ∈ lw_tbl := lw_at lw_m7 61 rfl
/-! SongThatStays$Busy -/
set_option maxRecDepth 100000
def RX6 : String := "SongThatStays$Busy"
abbrev cX6_init : ByteArray := prog_2_method_1_code
def yX6_init : MethodName := ⟨RX6, "<init>", "()V"⟩
theorem dX6_init_0 : decode cX6_init 0 = .ok (.aload_n 0, 1) := by decide +kernel
theorem dX6_init_1 : decode cX6_init 1 = .ok (.invokespecial 1, 3) := by decide +kernel
theorem dX6_init_4 : decode cX6_init 4 = .ok (.return_, 1) := by decide +kernel
abbrev cX6_kind : ByteArray := prog_2_method_2_code
def yX6_kind : MethodName := ⟨RX6, "kind", "()I"⟩
theorem dX6_kind_0 : decode cX6_kind 0 = .ok (.iconst 4, 1) := by decide +kernel
theorem dX6_kind_1 : decode cX6_kind 1 = .ok (.ireturn, 1) := by decide +kernel
abbrev cX6_bar : ByteArray := prog_2_method_4_code
def yX6_bar : MethodName := ⟨RX6, "bar", "(I)I"⟩
def dkwX6_bar_0 : List UInt8 := [42, 5, 27, 104, 183, 0, 7, 6, 96, 172]
abbrev dktX6_bar_0 : List UInt8 := dkwX6_bar_0 ++ []
theorem dksX6_bar_0 : cX6_bar.data.toList.drop 0 = dktX6_bar_0 := by decide +kernel
theorem dX6_bar_0 : decode cX6_bar 0 = .ok (.aload_n 0, 1) := dk_42 (dk_at dksX6_bar_0 0 rfl rfl)
theorem dX6_bar_1 : decode cX6_bar 1 = .ok (.iconst 2, 1) := dk_5 (dk_at dksX6_bar_0 1 rfl rfl)
theorem dX6_bar_2 : decode cX6_bar 2 = .ok (.iload_n 1, 1) := dk_27 (dk_at dksX6_bar_0 2 rfl rfl)
theorem dX6_bar_3 : decode cX6_bar 3 = .ok (.imul, 1) := dk_104 (dk_at dksX6_bar_0 3 rfl rfl)
theorem dX6_bar_4 : decode cX6_bar 4 = .ok (.invokespecial 7, 3) := dk_183 0 7 (dk_at dksX6_bar_0 4 rfl rfl)
theorem dX6_bar_7 : decode cX6_bar 7 = .ok (.iconst 3, 1) := dk_6 (dk_at dksX6_bar_0 7 rfl rfl)
theorem dX6_bar_8 : decode cX6_bar 8 = .ok (.iadd, 1) := dk_96 (dk_at dksX6_bar_0 8 rfl rfl)
theorem dX6_bar_9 : decode cX6_bar 9 = .ok (.ireturn, 1) := dk_172 (dk_at dksX6_bar_0 9 rfl rfl)
abbrev cX6_hums : ByteArray := prog_2_method_3_code
def yX6_hums : MethodName := ⟨RX6, "hums", "(III)Z"⟩
theorem dX6_hums_0 : decode cX6_hums 0 = .ok (.iconst 0, 1) := by decide +kernel
theorem dX6_hums_1 : decode cX6_hums 1 = .ok (.ireturn, 1) := by decide +kernel
theorem q101 : (Jvm.Cond.initialized "SongThatStays$Busy") ∈ lw_all := lw_g (lw_at lw_m1 7 rfl) rfl
theorem q169 : (Jvm.Cond.instantiable "SongThatStays$Busy" (0 : Nat)) ∈ lw_all := lw_g (lw_at lw_m1 75 rfl) rfl
theorem q171 : (Jvm.Cond.instanceMethod ({ cls := "SongThatStays$Busy", name := "<init>", desc := "()V" } : Jvm.MethodName)) ∈ lw_all := lw_g (lw_at lw_m1 77 rfl) rfl
theorem q172 : (Jvm.Cond.code ({ cls := "SongThatStays$Busy", name := "<init>", desc := "()V" } : Jvm.MethodName) prog_2_method_1_code (1 : Nat) (Option.none : Option Jvm.ClassFile.FieldType)) ∈ lw_all := lw_g (lw_at lw_m1 78 rfl) rfl
theorem q173 : (Jvm.Cond.methodLinkNest "SongThatStays$Busy" (1 : Nat) ({ cls := "SongThatStays$Tired", name := "<init>", desc := "()V" } : Jvm.MethodName) "SongThatStays") ∈ lw_tbl := lw_at lw_m1 79 rfl
theorem q174 : (Jvm.Cond.superclass "SongThatStays$Busy" "SongThatStays$Tired") ∈ lw_all := lw_g (lw_at lw_m1 80 rfl) rfl
theorem q789 : (Jvm.Cond.selects "SongThatStays$Busy" ({ cls := "SongThatStays$Kind", name := "kind", desc := "()I" } : Jvm.MethodName) ({ cls := "SongThatStays$Busy", name := "kind", desc := "()I" } : Jvm.MethodName)) ∈ lw_all := lw_g (lw_at lw_m3 215 rfl) rfl
theorem q790 : (Jvm.Cond.instanceMethod ({ cls := "SongThatStays$Busy", name := "kind", desc := "()I" } : Jvm.MethodName)) ∈ lw_all := lw_g (lw_at lw_m3 216 rfl) rfl
theorem q791 : (Jvm.Cond.code ({ cls := "SongThatStays$Busy", name := "kind", desc := "()I" } : Jvm.MethodName) prog_2_method_2_code (1 : Nat) (Option.some Jvm.ClassFile.FieldType.int)) ∈ lw_all := lw_g (lw_at lw_m3 217 rfl) rfl
theorem q814 : (Jvm.Cond.selects "SongThatStays$Busy" ({ cls := "SongThatStays$Kind", name := "bar", desc := "(I)I" } : Jvm.MethodName) ({ cls := "SongThatStays$Busy", name := "bar", desc := "(I)I" } : Jvm.MethodName)) ∈ lw_all := lw_g (lw_at lw_m4 0 rfl) rfl
theorem q815 : (Jvm.Cond.instanceMethod ({ cls := "SongThatStays$Busy", name := "bar", desc := "(I)I" } : Jvm.MethodName)) ∈ lw_all := lw_g (lw_at lw_m4 1 rfl) rfl
theorem q816 : (Jvm.Cond.code ({ cls := "SongThatStays$Busy", name := "bar", desc := "(I)I" } : Jvm.MethodName) prog_2_method_4_code (2 : Nat) (Option.some Jvm.ClassFile.FieldType.int)) ∈ lw_all := lw_g (lw_at lw_m4 2 rfl) rfl
theorem q817 : (Jvm.Cond.methodLink "SongThatStays$Busy" (7 : Nat) ({ cls := "SongThatStays$Tired", name := "bar", desc := "(I)I" } : Jvm.MethodName)) ∈ lw_all := lw_g (lw_at lw_m4 3 rfl) rfl
theorem q839 : (Jvm.Cond.selects "SongThatStays$Busy" ({ cls := "SongThatStays$Kind", name := "hums", desc := "(III)Z" } : Jvm.MethodName) ({ cls := "SongThatStays$Busy", name := "hums", desc := "(III)Z" } : Jvm.MethodName)) ∈ lw_all := lw_g (lw_at lw_m4 25 rfl) rfl
theorem q840 : (Jvm.Cond.instanceMethod ({ cls := "SongThatStays$Busy", name := "hums", desc := "(III)Z" } : Jvm.MethodName)) ∈ lw_all := lw_g (lw_at lw_m4 26 rfl) rfl
theorem q841 : (Jvm.Cond.code ({ cls := "SongThatStays$Busy", name := "hums", desc := "(III)Z" } : Jvm.MethodName) prog_2_method_3_code (4 : Nat) (Option.some Jvm.ClassFile.FieldType.boolean)) ∈ lw_all := lw_g (lw_at lw_m4 27 rfl) rfl
theorem q1596 : (Jvm.Cond.castable "SongThatStays$Busy" "SongThatStays$Kind") ∈ lw_tbl := lw_at lw_m7 62 rfl
/-! SongThatStays$Young -/
set_option maxRecDepth 100000
def RX7 : String := "SongThatStays$Young"
abbrev cX7_init : ByteArray := prog_26_method_1_code
def yX7_init : MethodName := ⟨RX7, "<init>", "()V"⟩
theorem dX7_init_0 : decode cX7_init 0 = .ok (.aload_n 0, 1) := by decide +kernel
theorem dX7_init_1 : decode cX7_init 1 = .ok (.invokespecial 1, 3) := by decide +kernel
theorem dX7_init_4 : decode cX7_init 4 = .ok (.return_, 1) := by decide +kernel
abbrev cX7_kind : ByteArray := prog_26_method_2_code
def yX7_kind : MethodName := ⟨RX7, "kind", "()I"⟩
theorem dX7_kind_0 : decode cX7_kind 0 = .ok (.iconst 5, 1) := by decide +kernel
theorem dX7_kind_1 : decode cX7_kind 1 = .ok (.ireturn, 1) := by decide +kernel
abbrev cX7_bar : ByteArray := prog_26_method_4_code
def yX7_bar : MethodName := ⟨RX7, "bar", "(I)I"⟩
theorem dX7_bar_0 : decode cX7_bar 0 = .ok (.iconst 0, 1) := by decide +kernel
theorem dX7_bar_1 : decode cX7_bar 1 = .ok (.ireturn, 1) := by decide +kernel
abbrev cX7_hums : ByteArray := prog_26_method_3_code
def yX7_hums : MethodName := ⟨RX7, "hums", "(III)Z"⟩
def dkwX7_hums_0 : List UInt8 := [29, 5, 112, 154, 0, 17, 42, 27, 28, 29, 183, 0, 7, 153, 0, 7, 4, 167, 0, 4, 3, 172]
abbrev dktX7_hums_0 : List UInt8 := dkwX7_hums_0 ++ []
theorem dksX7_hums_0 : cX7_hums.data.toList.drop 0 = dktX7_hums_0 := by decide +kernel
theorem dX7_hums_0 : decode cX7_hums 0 = .ok (.iload_n 3, 1) := dk_29 (dk_at dksX7_hums_0 0 rfl rfl)
theorem dX7_hums_1 : decode cX7_hums 1 = .ok (.iconst 2, 1) := dk_5 (dk_at dksX7_hums_0 1 rfl rfl)
theorem dX7_hums_2 : decode cX7_hums 2 = .ok (.irem, 1) := dk_112 (dk_at dksX7_hums_0 2 rfl rfl)
theorem dX7_hums_3 : decode cX7_hums 3 = .ok (.ifCond .ne 17, 3) := dk_154 0 17 (dk_at dksX7_hums_0 3 rfl rfl)
theorem dX7_hums_6 : decode cX7_hums 6 = .ok (.aload_n 0, 1) := dk_42 (dk_at dksX7_hums_0 6 rfl rfl)
theorem dX7_hums_7 : decode cX7_hums 7 = .ok (.iload_n 1, 1) := dk_27 (dk_at dksX7_hums_0 7 rfl rfl)
theorem dX7_hums_8 : decode cX7_hums 8 = .ok (.iload_n 2, 1) := dk_28 (dk_at dksX7_hums_0 8 rfl rfl)
theorem dX7_hums_9 : decode cX7_hums 9 = .ok (.iload_n 3, 1) := dk_29 (dk_at dksX7_hums_0 9 rfl rfl)
theorem dX7_hums_10 : decode cX7_hums 10 = .ok (.invokespecial 7, 3) := dk_183 0 7 (dk_at dksX7_hums_0 10 rfl rfl)
theorem dX7_hums_13 : decode cX7_hums 13 = .ok (.ifCond .eq 7, 3) := dk_153 0 7 (dk_at dksX7_hums_0 13 rfl rfl)
theorem dX7_hums_16 : decode cX7_hums 16 = .ok (.iconst 1, 1) := dk_4 (dk_at dksX7_hums_0 16 rfl rfl)
theorem dX7_hums_17 : decode cX7_hums 17 = .ok (.goto 4, 3) := dk_167 0 4 (dk_at dksX7_hums_0 17 rfl rfl)
theorem dX7_hums_20 : decode cX7_hums 20 = .ok (.iconst 0, 1) := dk_3 (dk_at dksX7_hums_0 20 rfl rfl)
theorem dX7_hums_21 : decode cX7_hums 21 = .ok (.ireturn, 1) := dk_172 (dk_at dksX7_hums_0 21 rfl rfl)
theorem q102 : (Jvm.Cond.initialized "SongThatStays$Young") ∈ lw_all := lw_g (lw_at lw_m1 8 rfl) rfl
theorem q176 : (Jvm.Cond.instantiable "SongThatStays$Young" (0 : Nat)) ∈ lw_all := lw_g (lw_at lw_m1 82 rfl) rfl
theorem q178 : (Jvm.Cond.instanceMethod ({ cls := "SongThatStays$Young", name := "<init>", desc := "()V" } : Jvm.MethodName)) ∈ lw_all := lw_g (lw_at lw_m1 84 rfl) rfl
theorem q179 : (Jvm.Cond.code ({ cls := "SongThatStays$Young", name := "<init>", desc := "()V" } : Jvm.MethodName) prog_26_method_1_code (1 : Nat) (Option.none : Option Jvm.ClassFile.FieldType)) ∈ lw_all := lw_g (lw_at lw_m1 85 rfl) rfl
theorem q180 : (Jvm.Cond.methodLinkNest "SongThatStays$Young" (1 : Nat) ({ cls := "SongThatStays$Whistler", name := "<init>", desc := "()V" } : Jvm.MethodName) "SongThatStays") ∈ lw_tbl := lw_at lw_m1 86 rfl
theorem q181 : (Jvm.Cond.superclass "SongThatStays$Young" "SongThatStays$Whistler") ∈ lw_all := lw_g (lw_at lw_m1 87 rfl) rfl
theorem q804 : (Jvm.Cond.selects "SongThatStays$Young" ({ cls := "SongThatStays$Kind", name := "kind", desc := "()I" } : Jvm.MethodName) ({ cls := "SongThatStays$Young", name := "kind", desc := "()I" } : Jvm.MethodName)) ∈ lw_all := lw_g (lw_at lw_m3 230 rfl) rfl
theorem q805 : (Jvm.Cond.instanceMethod ({ cls := "SongThatStays$Young", name := "kind", desc := "()I" } : Jvm.MethodName)) ∈ lw_all := lw_g (lw_at lw_m3 231 rfl) rfl
theorem q806 : (Jvm.Cond.code ({ cls := "SongThatStays$Young", name := "kind", desc := "()I" } : Jvm.MethodName) prog_26_method_2_code (1 : Nat) (Option.some Jvm.ClassFile.FieldType.int)) ∈ lw_all := lw_g (lw_at lw_m3 232 rfl) rfl
theorem q829 : (Jvm.Cond.selects "SongThatStays$Young" ({ cls := "SongThatStays$Kind", name := "bar", desc := "(I)I" } : Jvm.MethodName) ({ cls := "SongThatStays$Young", name := "bar", desc := "(I)I" } : Jvm.MethodName)) ∈ lw_all := lw_g (lw_at lw_m4 15 rfl) rfl
theorem q830 : (Jvm.Cond.instanceMethod ({ cls := "SongThatStays$Young", name := "bar", desc := "(I)I" } : Jvm.MethodName)) ∈ lw_all := lw_g (lw_at lw_m4 16 rfl) rfl
theorem q831 : (Jvm.Cond.code ({ cls := "SongThatStays$Young", name := "bar", desc := "(I)I" } : Jvm.MethodName) prog_26_method_4_code (2 : Nat) (Option.some Jvm.ClassFile.FieldType.int)) ∈ lw_all := lw_g (lw_at lw_m4 17 rfl) rfl
theorem q851 : (Jvm.Cond.selects "SongThatStays$Young" ({ cls := "SongThatStays$Kind", name := "hums", desc := "(III)Z" } : Jvm.MethodName) ({ cls := "SongThatStays$Young", name := "hums", desc := "(III)Z" } : Jvm.MethodName)) ∈ lw_all := lw_g (lw_at lw_m4 37 rfl) rfl
theorem q852 : (Jvm.Cond.instanceMethod ({ cls := "SongThatStays$Young", name := "hums", desc := "(III)Z" } : Jvm.MethodName)) ∈ lw_all := lw_g (lw_at lw_m4 38 rfl) rfl
theorem q853 : (Jvm.Cond.code ({ cls := "SongThatStays$Young", name := "hums", desc := "(III)Z" } : Jvm.MethodName) prog_26_method_3_code (4 : Nat) (Option.some Jvm.ClassFile.FieldType.boolean)) ∈ lw_all := lw_g (lw_at lw_m4 39 rfl) rfl
theorem q854 : (Jvm.Cond.methodLink "SongThatStays$Young" (7 : Nat) ({ cls := "SongThatStays$Whistler", name := "hums", desc := "(III)Z" } : Jvm.MethodName)) ∈ lw_all := lw_g (lw_at lw_m4 40 rfl) rfl
theorem q1597 : (Jvm.Cond.castable "SongThatStays$Young" "SongThatStays$Kind") ∈ lw_tbl := lw_at lw_m7 63 rfl
/-! SongThatStays$Refusal -/
set_option maxRecDepth 100000
def RX10 : String := "SongThatStays$Refusal"
abbrev cX10_init : ByteArray := prog_19_method_1_code
def yX10_init : MethodName := ⟨RX10, "<init>", "()V"⟩
theorem dX10_init_0 : decode cX10_init 0 = .ok (.aload_n 0, 1) := by decide +kernel
theorem dX10_init_1 : decode cX10_init 1 = .ok (.invokespecial 1, 3) := by decide +kernel
theorem dX10_init_4 : decode cX10_init 4 = .ok (.return_, 1) := by decide +kernel
theorem q108 : (Jvm.Cond.initialized "SongThatStays$Refusal") ∈ lw_all := lw_g (lw_at lw_m1 14 rfl) rfl
theorem q345 : (Jvm.Cond.declares ({ cls := "SongThatStays$Refusal", name := "<init>", desc := "()V" } : Jvm.MethodName)) ∈ lw_tbl := lw_at lw_m2 11 rfl
theorem q387 : (Jvm.Cond.instanceMethod ({ cls := "SongThatStays$Refusal", name := "<init>", desc := "()V" } : Jvm.MethodName)) ∈ lw_all := lw_g (lw_at lw_m2 53 rfl) rfl
theorem q388 : (Jvm.Cond.code ({ cls := "SongThatStays$Refusal", name := "<init>", desc := "()V" } : Jvm.MethodName) prog_19_method_1_code (1 : Nat) (Option.none : Option Jvm.ClassFile.FieldType)) ∈ lw_all := lw_g (lw_at lw_m2 54 rfl) rfl
theorem q389 : (Jvm.Cond.methodLink "SongThatStays$Refusal" (1 : Nat) ({ cls := "java/lang/RuntimeException", name := "<init>", desc := "()V" } : Jvm.MethodName)) ∈ lw_all := lw_g (lw_at lw_m2 55 rfl) rfl
theorem q1100 : (Jvm.Cond.declares ({ cls := "SongThatStays$Refusal", name := "number", desc := "()I" } : Jvm.MethodName)) ∈ lw_tbl := lw_at lw_m5 46 rfl
theorem q1101 : (Jvm.Cond.sameMethod "SongThatStays$Refusal" "SongThatStays$Refusal" "number" "()I") ∈ lw_all := lw_g (lw_at lw_m5 47 rfl) rfl
/-! SongThatStays$Refused -/
set_option maxRecDepth 100000
def RX11 : String := "SongThatStays$Refused"
def TX11 : u_T := fun k => match k with
  | 0 => ("java/lang/Throwable", "cause", "Ljava/lang/Throwable;", false)
  | 1 => ("java/lang/Throwable", "stackTrace", "[Ljava/lang/StackTraceElement;", false)
  | 2 => ("java/lang/Throwable", "suppressedExceptions", "Ljava/util/List;", false)
  | 3 => ("java/lang/Throwable", "detailMessage", "Ljava/lang/String;", false)
  | 4 => ("java/lang/Throwable", "backtrace", "Ljava/lang/Object;", false)
  | 5 => ("java/lang/Throwable", "depth", "I", false)
  | _ => ("SongThatStays$Refused", "number", "I", true)
def tyX11 : Nat → FieldType := fun k => match k with
  | 0 => .object "java/lang/Throwable"
  | 1 => .array (.object "java/lang/StackTraceElement")
  | 2 => .object "java/util/List"
  | 3 => .object "java/lang/String"
  | 4 => .object "java/lang/Object"
  | 5 => .int
  | _ => .int
abbrev wsX110 : List Cond := u_ws RX11 TX11 7
theorem nmX11 : ∀ a, a < 7 → ∀ b, b < 7 → a ≠ b → (TX11 a).2.1 ≠ (TX11 b).2.1 := by decide +kernel
theorem tyX11_ok : ∀ k, k < 7 → parseFieldDescriptor (TX11 k).2.2.1 = some (tyX11 k) := by decide +kernel
abbrev cX11_init : ByteArray := prog_20_method_1_code
def yX11_init : MethodName := ⟨RX11, "<init>", "(I)V"⟩
def dkwX11_init_0 : List UInt8 := [42, 183, 0, 1, 42, 27, 181, 0, 7, 177]
abbrev dktX11_init_0 : List UInt8 := dkwX11_init_0 ++ []
theorem dksX11_init_0 : cX11_init.data.toList.drop 0 = dktX11_init_0 := by decide +kernel
theorem dX11_init_0 : decode cX11_init 0 = .ok (.aload_n 0, 1) := dk_42 (dk_at dksX11_init_0 0 rfl rfl)
theorem dX11_init_1 : decode cX11_init 1 = .ok (.invokespecial 1, 3) := dk_183 0 1 (dk_at dksX11_init_0 1 rfl rfl)
theorem dX11_init_4 : decode cX11_init 4 = .ok (.aload_n 0, 1) := dk_42 (dk_at dksX11_init_0 4 rfl rfl)
theorem dX11_init_5 : decode cX11_init 5 = .ok (.iload_n 1, 1) := dk_27 (dk_at dksX11_init_0 5 rfl rfl)
theorem dX11_init_6 : decode cX11_init 6 = .ok (.putfield 7, 3) := dk_181 0 7 (dk_at dksX11_init_0 6 rfl rfl)
theorem dX11_init_9 : decode cX11_init 9 = .ok (.return_, 1) := dk_177 (dk_at dksX11_init_0 9 rfl rfl)
abbrev cX11_number : ByteArray := prog_20_method_2_code
def yX11_number : MethodName := ⟨RX11, "number", "()I"⟩
theorem dX11_number_0 : decode cX11_number 0 = .ok (.aload_n 0, 1) := by decide +kernel
theorem dX11_number_1 : decode cX11_number 1 = .ok (.getfield 7, 3) := by decide +kernel
theorem dX11_number_4 : decode cX11_number 4 = .ok (.ireturn, 1) := by decide +kernel
theorem q109 : (Jvm.Cond.initialized "SongThatStays$Refused") ∈ lw_all := lw_g (lw_at lw_m1 15 rfl) rfl
theorem q343 : (Jvm.Cond.instantiable "SongThatStays$Refused" (7 : Nat)) ∈ lw_all := lw_g (lw_at lw_m2 9 rfl) rfl
theorem q344 : (Jvm.Cond.castable "SongThatStays$Refused" "SongThatStays$Refused") ∈ lw_tbl := lw_at lw_m2 10 rfl
theorem q352 : (Jvm.Cond.selects "SongThatStays$Refused" ({ cls := "java/lang/Throwable", name := "fillInStackTrace", desc := "(I)Ljava/lang/Throwable;" } : Jvm.MethodName) ({ cls := "java/lang/Throwable", name := "fillInStackTrace", desc := "(I)Ljava/lang/Throwable;" } : Jvm.MethodName)) ∈ lw_all := lw_g (lw_at lw_m2 18 rfl) rfl
theorem q353 : (Jvm.Cond.selects "SongThatStays$Refused" ({ cls := "java/lang/Throwable", name := "fillInStackTrace", desc := "()Ljava/lang/Throwable;" } : Jvm.MethodName) ({ cls := "java/lang/Throwable", name := "fillInStackTrace", desc := "()Ljava/lang/Throwable;" } : Jvm.MethodName)) ∈ lw_all := lw_g (lw_at lw_m2 19 rfl) rfl
theorem q354 : (Jvm.Cond.lays "SongThatStays$Refused" "java/lang/Throwable" "cause" "Ljava/lang/Throwable;") ∈ lw_all := lw_g (lw_at lw_m2 20 rfl) rfl
theorem q356 : (Jvm.Cond.lays "SongThatStays$Refused" "java/lang/Throwable" "stackTrace" "[Ljava/lang/StackTraceElement;") ∈ lw_all := lw_g (lw_at lw_m2 22 rfl) rfl
theorem q358 : (Jvm.Cond.lays "SongThatStays$Refused" "java/lang/Throwable" "suppressedExceptions" "Ljava/util/List;") ∈ lw_all := lw_g (lw_at lw_m2 24 rfl) rfl
theorem q360 : (Jvm.Cond.lays "SongThatStays$Refused" "java/lang/Throwable" "detailMessage" "Ljava/lang/String;") ∈ lw_all := lw_g (lw_at lw_m2 26 rfl) rfl
theorem q362 : (Jvm.Cond.lays "SongThatStays$Refused" "java/lang/Throwable" "backtrace" "Ljava/lang/Object;") ∈ lw_all := lw_g (lw_at lw_m2 28 rfl) rfl
theorem q384 : (Jvm.Cond.instanceMethod ({ cls := "SongThatStays$Refused", name := "<init>", desc := "(I)V" } : Jvm.MethodName)) ∈ lw_all := lw_g (lw_at lw_m2 50 rfl) rfl
theorem q385 : (Jvm.Cond.code ({ cls := "SongThatStays$Refused", name := "<init>", desc := "(I)V" } : Jvm.MethodName) prog_20_method_1_code (2 : Nat) (Option.none : Option Jvm.ClassFile.FieldType)) ∈ lw_all := lw_g (lw_at lw_m2 51 rfl) rfl
theorem q386 : (Jvm.Cond.methodLinkNest "SongThatStays$Refused" (1 : Nat) ({ cls := "SongThatStays$Refusal", name := "<init>", desc := "()V" } : Jvm.MethodName) "SongThatStays") ∈ lw_tbl := lw_at lw_m2 52 rfl
theorem q396 : (Jvm.Cond.fieldLink "SongThatStays$Refused" (7 : Nat) "SongThatStays$Refused" "number" "I") ∈ lw_all := lw_g (lw_at lw_m2 62 rfl) rfl
theorem q401 : (Jvm.Cond.laysFinal "SongThatStays$Refused" "SongThatStays$Refused" "number" "I") ∈ lw_all := lw_g (lw_at lw_m2 67 rfl) rfl
theorem q402 : (Jvm.Cond.soleField "SongThatStays$Refused" "number") ∈ lw_all := lw_g (lw_at lw_m2 68 rfl) rfl
theorem q407 : (Jvm.Cond.lays "SongThatStays$Refused" "java/lang/Throwable" "depth" "I") ∈ lw_all := lw_g (lw_at lw_m2 73 rfl) rfl
theorem q410 : (Jvm.Cond.superclass "SongThatStays$Refused" "SongThatStays$Refusal") ∈ lw_all := lw_g (lw_at lw_m2 76 rfl) rfl
theorem q1105 : (Jvm.Cond.selects "SongThatStays$Refused" ({ cls := "SongThatStays$Refusal", name := "number", desc := "()I" } : Jvm.MethodName) ({ cls := "SongThatStays$Refused", name := "number", desc := "()I" } : Jvm.MethodName)) ∈ lw_all := lw_g (lw_at lw_m5 51 rfl) rfl
theorem q1106 : (Jvm.Cond.instanceMethod ({ cls := "SongThatStays$Refused", name := "number", desc := "()I" } : Jvm.MethodName)) ∈ lw_all := lw_g (lw_at lw_m5 52 rfl) rfl
theorem q1107 : (Jvm.Cond.code ({ cls := "SongThatStays$Refused", name := "number", desc := "()I" } : Jvm.MethodName) prog_20_method_2_code (1 : Nat) (Option.some Jvm.ClassFile.FieldType.int)) ∈ lw_all := lw_g (lw_at lw_m5 53 rfl) rfl
theorem q1591 : (Jvm.Cond.castable "SongThatStays$Refused" "SongThatStays$Refusal") ∈ lw_tbl := lw_at lw_m7 57 rfl
theorem in_X11 : ∀ w ∈ wsX110, w ∈ lw_all := lw_in wsX110 [354, 356, 358, 360, 362, 407, 401] (by decide +kernel) (by decide +kernel)
/-! SongThatStays$Fault -/
set_option maxRecDepth 100000
def RX13 : String := "SongThatStays$Fault"
def TX13 : u_T := fun k => match k with
  | 0 => ("java/lang/Throwable", "cause", "Ljava/lang/Throwable;", false)
  | 1 => ("java/lang/Throwable", "stackTrace", "[Ljava/lang/StackTraceElement;", false)
  | 2 => ("java/lang/Throwable", "suppressedExceptions", "Ljava/util/List;", false)
  | 3 => ("java/lang/Throwable", "detailMessage", "Ljava/lang/String;", false)
  | 4 => ("java/lang/Throwable", "backtrace", "Ljava/lang/Object;", false)
  | 5 => ("java/lang/Throwable", "depth", "I", false)
  | _ => ("SongThatStays$Fault", "told", "I", true)
def tyX13 : Nat → FieldType := fun k => match k with
  | 0 => .object "java/lang/Throwable"
  | 1 => .array (.object "java/lang/StackTraceElement")
  | 2 => .object "java/util/List"
  | 3 => .object "java/lang/String"
  | 4 => .object "java/lang/Object"
  | 5 => .int
  | _ => .int
abbrev wsX130 : List Cond := u_ws RX13 TX13 7
theorem nmX13 : ∀ a, a < 7 → ∀ b, b < 7 → a ≠ b → (TX13 a).2.1 ≠ (TX13 b).2.1 := by decide +kernel
theorem tyX13_ok : ∀ k, k < 7 → parseFieldDescriptor (TX13 k).2.2.1 = some (tyX13 k) := by decide +kernel
abbrev cX13_init : ByteArray := prog_6_method_1_code
def yX13_init : MethodName := ⟨RX13, "<init>", "(I)V"⟩
def dkwX13_init_0 : List UInt8 := [42, 183, 0, 1, 42, 27, 181, 0, 7, 177]
abbrev dktX13_init_0 : List UInt8 := dkwX13_init_0 ++ []
theorem dksX13_init_0 : cX13_init.data.toList.drop 0 = dktX13_init_0 := by decide +kernel
theorem dX13_init_0 : decode cX13_init 0 = .ok (.aload_n 0, 1) := dk_42 (dk_at dksX13_init_0 0 rfl rfl)
theorem dX13_init_1 : decode cX13_init 1 = .ok (.invokespecial 1, 3) := dk_183 0 1 (dk_at dksX13_init_0 1 rfl rfl)
theorem dX13_init_4 : decode cX13_init 4 = .ok (.aload_n 0, 1) := dk_42 (dk_at dksX13_init_0 4 rfl rfl)
theorem dX13_init_5 : decode cX13_init 5 = .ok (.iload_n 1, 1) := dk_27 (dk_at dksX13_init_0 5 rfl rfl)
theorem dX13_init_6 : decode cX13_init 6 = .ok (.putfield 7, 3) := dk_181 0 7 (dk_at dksX13_init_0 6 rfl rfl)
theorem dX13_init_9 : decode cX13_init 9 = .ok (.return_, 1) := dk_177 (dk_at dksX13_init_0 9 rfl rfl)
abbrev cX13_number : ByteArray := prog_6_method_2_code
def yX13_number : MethodName := ⟨RX13, "number", "()I"⟩
theorem dX13_number_0 : decode cX13_number 0 = .ok (.aload_n 0, 1) := by decide +kernel
theorem dX13_number_1 : decode cX13_number 1 = .ok (.getfield 7, 3) := by decide +kernel
theorem dX13_number_4 : decode cX13_number 4 = .ok (.ireturn, 1) := by decide +kernel
theorem q111 : (Jvm.Cond.initialized "SongThatStays$Fault") ∈ lw_all := lw_g (lw_at lw_m1 17 rfl) rfl
theorem q376 : (Jvm.Cond.selects "SongThatStays$Fault" ({ cls := "java/lang/Throwable", name := "fillInStackTrace", desc := "()Ljava/lang/Throwable;" } : Jvm.MethodName) ({ cls := "java/lang/Throwable", name := "fillInStackTrace", desc := "()Ljava/lang/Throwable;" } : Jvm.MethodName)) ∈ lw_all := lw_g (lw_at lw_m2 42 rfl) rfl
theorem q448 : (Jvm.Cond.instantiable "SongThatStays$Fault" (7 : Nat)) ∈ lw_all := lw_g (lw_at lw_m2 114 rfl) rfl
theorem q449 : (Jvm.Cond.castable "SongThatStays$Fault" "SongThatStays$Fault") ∈ lw_tbl := lw_at lw_m2 115 rfl
theorem q450 : (Jvm.Cond.selects "SongThatStays$Fault" ({ cls := "java/lang/Throwable", name := "fillInStackTrace", desc := "(I)Ljava/lang/Throwable;" } : Jvm.MethodName) ({ cls := "java/lang/Throwable", name := "fillInStackTrace", desc := "(I)Ljava/lang/Throwable;" } : Jvm.MethodName)) ∈ lw_all := lw_g (lw_at lw_m2 116 rfl) rfl
theorem q451 : (Jvm.Cond.lays "SongThatStays$Fault" "java/lang/Throwable" "cause" "Ljava/lang/Throwable;") ∈ lw_all := lw_g (lw_at lw_m2 117 rfl) rfl
theorem q452 : (Jvm.Cond.lays "SongThatStays$Fault" "java/lang/Throwable" "stackTrace" "[Ljava/lang/StackTraceElement;") ∈ lw_all := lw_g (lw_at lw_m2 118 rfl) rfl
theorem q453 : (Jvm.Cond.lays "SongThatStays$Fault" "java/lang/Throwable" "suppressedExceptions" "Ljava/util/List;") ∈ lw_all := lw_g (lw_at lw_m2 119 rfl) rfl
theorem q454 : (Jvm.Cond.lays "SongThatStays$Fault" "java/lang/Throwable" "detailMessage" "Ljava/lang/String;") ∈ lw_all := lw_g (lw_at lw_m2 120 rfl) rfl
theorem q455 : (Jvm.Cond.lays "SongThatStays$Fault" "java/lang/Throwable" "backtrace" "Ljava/lang/Object;") ∈ lw_all := lw_g (lw_at lw_m2 121 rfl) rfl
theorem q457 : (Jvm.Cond.instanceMethod ({ cls := "SongThatStays$Fault", name := "<init>", desc := "(I)V" } : Jvm.MethodName)) ∈ lw_all := lw_g (lw_at lw_m2 123 rfl) rfl
theorem q458 : (Jvm.Cond.code ({ cls := "SongThatStays$Fault", name := "<init>", desc := "(I)V" } : Jvm.MethodName) prog_6_method_1_code (2 : Nat) (Option.none : Option Jvm.ClassFile.FieldType)) ∈ lw_all := lw_g (lw_at lw_m2 124 rfl) rfl
theorem q459 : (Jvm.Cond.methodLinkNest "SongThatStays$Fault" (1 : Nat) ({ cls := "SongThatStays$Refusal", name := "<init>", desc := "()V" } : Jvm.MethodName) "SongThatStays") ∈ lw_tbl := lw_at lw_m2 125 rfl
theorem q460 : (Jvm.Cond.fieldLink "SongThatStays$Fault" (7 : Nat) "SongThatStays$Fault" "told" "I") ∈ lw_all := lw_g (lw_at lw_m2 126 rfl) rfl
theorem q461 : (Jvm.Cond.laysFinal "SongThatStays$Fault" "SongThatStays$Fault" "told" "I") ∈ lw_all := lw_g (lw_at lw_m2 127 rfl) rfl
theorem q462 : (Jvm.Cond.soleField "SongThatStays$Fault" "told") ∈ lw_all := lw_g (lw_at lw_m2 128 rfl) rfl
theorem q463 : (Jvm.Cond.lays "SongThatStays$Fault" "java/lang/Throwable" "depth" "I") ∈ lw_all := lw_g (lw_at lw_m2 129 rfl) rfl
theorem q464 : (Jvm.Cond.superclass "SongThatStays$Fault" "SongThatStays$Refusal") ∈ lw_all := lw_g (lw_at lw_m2 130 rfl) rfl
theorem q1102 : (Jvm.Cond.selects "SongThatStays$Fault" ({ cls := "SongThatStays$Refusal", name := "number", desc := "()I" } : Jvm.MethodName) ({ cls := "SongThatStays$Fault", name := "number", desc := "()I" } : Jvm.MethodName)) ∈ lw_all := lw_g (lw_at lw_m5 48 rfl) rfl
theorem q1103 : (Jvm.Cond.instanceMethod ({ cls := "SongThatStays$Fault", name := "number", desc := "()I" } : Jvm.MethodName)) ∈ lw_all := lw_g (lw_at lw_m5 49 rfl) rfl
theorem q1104 : (Jvm.Cond.code ({ cls := "SongThatStays$Fault", name := "number", desc := "()I" } : Jvm.MethodName) prog_6_method_2_code (1 : Nat) (Option.some Jvm.ClassFile.FieldType.int)) ∈ lw_all := lw_g (lw_at lw_m5 50 rfl) rfl
theorem q1590 : (Jvm.Cond.castable "SongThatStays$Fault" "SongThatStays$Refusal") ∈ lw_tbl := lw_at lw_m7 56 rfl
theorem in_X13 : ∀ w ∈ wsX130, w ∈ lw_all := lw_in wsX130 [451, 452, 453, 454, 455, 463, 461] (by decide +kernel) (by decide +kernel)
/-! SongThatStays$Told -/
set_option maxRecDepth 100000
def RX14 : String := "SongThatStays$Told"
abbrev cX14_init : ByteArray := prog_24_method_1_code
def yX14_init : MethodName := ⟨RX14, "<init>", "(III)V"⟩
def dkwX14_init_0 : List UInt8 := [42, 183, 0, 1, 42, 27, 181, 0, 7, 42, 28, 181, 0, 13, 42, 29, 181, 0, 16, 177]
abbrev dktX14_init_0 : List UInt8 := dkwX14_init_0 ++ []
theorem dksX14_init_0 : cX14_init.data.toList.drop 0 = dktX14_init_0 := by decide +kernel
theorem dX14_init_0 : decode cX14_init 0 = .ok (.aload_n 0, 1) := dk_42 (dk_at dksX14_init_0 0 rfl rfl)
theorem dX14_init_1 : decode cX14_init 1 = .ok (.invokespecial 1, 3) := dk_183 0 1 (dk_at dksX14_init_0 1 rfl rfl)
theorem dX14_init_4 : decode cX14_init 4 = .ok (.aload_n 0, 1) := dk_42 (dk_at dksX14_init_0 4 rfl rfl)
theorem dX14_init_5 : decode cX14_init 5 = .ok (.iload_n 1, 1) := dk_27 (dk_at dksX14_init_0 5 rfl rfl)
theorem dX14_init_6 : decode cX14_init 6 = .ok (.putfield 7, 3) := dk_181 0 7 (dk_at dksX14_init_0 6 rfl rfl)
theorem dX14_init_9 : decode cX14_init 9 = .ok (.aload_n 0, 1) := dk_42 (dk_at dksX14_init_0 9 rfl rfl)
theorem dX14_init_10 : decode cX14_init 10 = .ok (.iload_n 2, 1) := dk_28 (dk_at dksX14_init_0 10 rfl rfl)
theorem dX14_init_11 : decode cX14_init 11 = .ok (.putfield 13, 3) := dk_181 0 13 (dk_at dksX14_init_0 11 rfl rfl)
theorem dX14_init_14 : decode cX14_init 14 = .ok (.aload_n 0, 1) := dk_42 (dk_at dksX14_init_0 14 rfl rfl)
theorem dX14_init_15 : decode cX14_init 15 = .ok (.iload_n 3, 1) := dk_29 (dk_at dksX14_init_0 15 rfl rfl)
theorem dX14_init_16 : decode cX14_init 16 = .ok (.putfield 16, 3) := dk_181 0 16 (dk_at dksX14_init_0 16 rfl rfl)
theorem dX14_init_19 : decode cX14_init 19 = .ok (.return_, 1) := dk_177 (dk_at dksX14_init_0 19 rfl rfl)
abbrev cX14_comes : ByteArray := prog_24_method_4_code
def yX14_comes : MethodName := ⟨RX14, "comes", "(LSongThatStays$Office;)Z"⟩
def dkwX14_comes_0 : List UInt8 := [42, 43, 182, 0, 19, 61, 28, 153, 0, 8, 42, 43, 182, 0, 23, 28, 172]
abbrev dktX14_comes_0 : List UInt8 := dkwX14_comes_0 ++ []
theorem dksX14_comes_0 : cX14_comes.data.toList.drop 0 = dktX14_comes_0 := by decide +kernel
theorem dX14_comes_0 : decode cX14_comes 0 = .ok (.aload_n 0, 1) := dk_42 (dk_at dksX14_comes_0 0 rfl rfl)
theorem dX14_comes_1 : decode cX14_comes 1 = .ok (.aload_n 1, 1) := dk_43 (dk_at dksX14_comes_0 1 rfl rfl)
theorem dX14_comes_2 : decode cX14_comes 2 = .ok (.invokevirtual 19, 3) := dk_182 0 19 (dk_at dksX14_comes_0 2 rfl rfl)
theorem dX14_comes_5 : decode cX14_comes 5 = .ok (.istore_n 2, 1) := dk_61 (dk_at dksX14_comes_0 5 rfl rfl)
theorem dX14_comes_6 : decode cX14_comes 6 = .ok (.iload_n 2, 1) := dk_28 (dk_at dksX14_comes_0 6 rfl rfl)
theorem dX14_comes_7 : decode cX14_comes 7 = .ok (.ifCond .eq 8, 3) := dk_153 0 8 (dk_at dksX14_comes_0 7 rfl rfl)
theorem dX14_comes_10 : decode cX14_comes 10 = .ok (.aload_n 0, 1) := dk_42 (dk_at dksX14_comes_0 10 rfl rfl)
theorem dX14_comes_11 : decode cX14_comes 11 = .ok (.aload_n 1, 1) := dk_43 (dk_at dksX14_comes_0 11 rfl rfl)
theorem dX14_comes_12 : decode cX14_comes 12 = .ok (.invokevirtual 23, 3) := dk_182 0 23 (dk_at dksX14_comes_0 12 rfl rfl)
theorem dX14_comes_15 : decode cX14_comes 15 = .ok (.iload_n 2, 1) := dk_28 (dk_at dksX14_comes_0 15 rfl rfl)
theorem dX14_comes_16 : decode cX14_comes 16 = .ok (.ireturn, 1) := dk_172 (dk_at dksX14_comes_0 16 rfl rfl)
theorem q112 : (Jvm.Cond.initialized "SongThatStays$Told") ∈ lw_all := lw_g (lw_at lw_m1 18 rfl) rfl
theorem q488 : (Jvm.Cond.instanceMethod ({ cls := "SongThatStays$Told", name := "<init>", desc := "(III)V" } : Jvm.MethodName)) ∈ lw_all := lw_g (lw_at lw_m2 154 rfl) rfl
theorem q489 : (Jvm.Cond.code ({ cls := "SongThatStays$Told", name := "<init>", desc := "(III)V" } : Jvm.MethodName) prog_24_method_1_code (4 : Nat) (Option.none : Option Jvm.ClassFile.FieldType)) ∈ lw_all := lw_g (lw_at lw_m2 155 rfl) rfl
theorem q490 : (Jvm.Cond.methodLink "SongThatStays$Told" (1 : Nat) ({ cls := "java/lang/Object", name := "<init>", desc := "()V" } : Jvm.MethodName)) ∈ lw_all := lw_g (lw_at lw_m2 156 rfl) rfl
theorem q491 : (Jvm.Cond.fieldLink "SongThatStays$Told" (7 : Nat) "SongThatStays$Told" "start" "I") ∈ lw_all := lw_g (lw_at lw_m2 157 rfl) rfl
theorem q493 : (Jvm.Cond.fieldLink "SongThatStays$Told" (13 : Nat) "SongThatStays$Told" "first" "I") ∈ lw_all := lw_g (lw_at lw_m2 159 rfl) rfl
theorem q504 : (Jvm.Cond.fieldLink "SongThatStays$Told" (16 : Nat) "SongThatStays$Told" "second" "I") ∈ lw_all := lw_g (lw_at lw_m2 170 rfl) rfl
theorem q514 : (Jvm.Cond.soleField "SongThatStays$Told" "start") ∈ lw_all := lw_g (lw_at lw_m2 180 rfl) rfl
theorem q516 : (Jvm.Cond.soleField "SongThatStays$Told" "first") ∈ lw_all := lw_g (lw_at lw_m2 182 rfl) rfl
theorem q518 : (Jvm.Cond.soleField "SongThatStays$Told" "second") ∈ lw_all := lw_g (lw_at lw_m2 184 rfl) rfl
theorem q594 : (Jvm.Cond.instanceMethod ({ cls := "SongThatStays$Told", name := "comes", desc := "(LSongThatStays$Office;)Z" } : Jvm.MethodName)) ∈ lw_all := lw_g (lw_at lw_m3 20 rfl) rfl
theorem q595 : (Jvm.Cond.sameMethod "SongThatStays$Told" "SongThatStays$Told" "comes" "(LSongThatStays$Office;)Z") ∈ lw_all := lw_g (lw_at lw_m3 21 rfl) rfl
theorem q601 : (Jvm.Cond.code ({ cls := "SongThatStays$Told", name := "comes", desc := "(LSongThatStays$Office;)Z" } : Jvm.MethodName) prog_24_method_4_code (3 : Nat) (Option.some Jvm.ClassFile.FieldType.boolean)) ∈ lw_all := lw_g (lw_at lw_m3 27 rfl) rfl
theorem q602 : (Jvm.Cond.methodLink "SongThatStays$Told" (19 : Nat) ({ cls := "SongThatStays$Told", name := "isGood", desc := "(LSongThatStays$Office;)Z" } : Jvm.MethodName)) ∈ lw_all := lw_g (lw_at lw_m3 28 rfl) rfl
theorem q603 : (Jvm.Cond.declares ({ cls := "SongThatStays$Told", name := "isGood", desc := "(LSongThatStays$Office;)Z" } : Jvm.MethodName)) ∈ lw_tbl := lw_at lw_m3 29 rfl
theorem q604 : (Jvm.Cond.sameMethod "SongThatStays$Told" "SongThatStays$Told" "isGood" "(LSongThatStays$Office;)Z") ∈ lw_all := lw_g (lw_at lw_m3 30 rfl) rfl
theorem q622 : (Jvm.Cond.methodLink "SongThatStays$Told" (23 : Nat) ({ cls := "SongThatStays$Told", name := "become", desc := "(LSongThatStays$Office;)V" } : Jvm.MethodName)) ∈ lw_all := lw_g (lw_at lw_m3 48 rfl) rfl
theorem q623 : (Jvm.Cond.declares ({ cls := "SongThatStays$Told", name := "become", desc := "(LSongThatStays$Office;)V" } : Jvm.MethodName)) ∈ lw_tbl := lw_at lw_m3 49 rfl
theorem q624 : (Jvm.Cond.sameMethod "SongThatStays$Told" "SongThatStays$Told" "become" "(LSongThatStays$Office;)V") ∈ lw_all := lw_g (lw_at lw_m3 50 rfl) rfl
/-! SongThatStays$LoudTold -/
set_option maxRecDepth 100000
def RX15 : String := "SongThatStays$LoudTold"
def TX15 : u_T := fun k => match k with
  | 0 => ("SongThatStays$Told", "start", "I", true)
  | 1 => ("SongThatStays$Told", "first", "I", true)
  | _ => ("SongThatStays$Told", "second", "I", true)
def tyX15 : Nat → FieldType := fun k => match k with
  | 0 => .int
  | 1 => .int
  | _ => .int
abbrev wsX150 : List Cond := u_ws RX15 TX15 3
theorem nmX15 : ∀ a, a < 3 → ∀ b, b < 3 → a ≠ b → (TX15 a).2.1 ≠ (TX15 b).2.1 := by decide +kernel
theorem tyX15_ok : ∀ k, k < 3 → parseFieldDescriptor (TX15 k).2.2.1 = some (tyX15 k) := by decide +kernel
abbrev cX15_init : ByteArray := prog_14_method_1_code
def yX15_init : MethodName := ⟨RX15, "<init>", "(II)V"⟩
def dkwX15_init_0 : List UInt8 := [42, 27, 28, 3, 183, 0, 3, 177]
abbrev dktX15_init_0 : List UInt8 := dkwX15_init_0 ++ []
theorem dksX15_init_0 : cX15_init.data.toList.drop 0 = dktX15_init_0 := by decide +kernel
theorem dX15_init_0 : decode cX15_init 0 = .ok (.aload_n 0, 1) := dk_42 (dk_at dksX15_init_0 0 rfl rfl)
theorem dX15_init_1 : decode cX15_init 1 = .ok (.iload_n 1, 1) := dk_27 (dk_at dksX15_init_0 1 rfl rfl)
theorem dX15_init_2 : decode cX15_init 2 = .ok (.iload_n 2, 1) := dk_28 (dk_at dksX15_init_0 2 rfl rfl)
theorem dX15_init_3 : decode cX15_init 3 = .ok (.iconst 0, 1) := dk_3 (dk_at dksX15_init_0 3 rfl rfl)
theorem dX15_init_4 : decode cX15_init 4 = .ok (.invokespecial 3, 3) := dk_183 0 3 (dk_at dksX15_init_0 4 rfl rfl)
theorem dX15_init_7 : decode cX15_init 7 = .ok (.return_, 1) := dk_177 (dk_at dksX15_init_0 7 rfl rfl)
abbrev cX15_isGood : ByteArray := prog_14_method_2_code
def yX15_isGood : MethodName := ⟨RX15, "isGood", "(LSongThatStays$Office;)Z"⟩
def dkwX15_isGood_0 : List UInt8 := [42, 180, 0, 9, 133, 10, 20, 0, 15, 184, 0, 17, 172]
abbrev dktX15_isGood_0 : List UInt8 := dkwX15_isGood_0 ++ []
theorem dksX15_isGood_0 : cX15_isGood.data.toList.drop 0 = dktX15_isGood_0 := by decide +kernel
theorem dX15_isGood_0 : decode cX15_isGood 0 = .ok (.aload_n 0, 1) := dk_42 (dk_at dksX15_isGood_0 0 rfl rfl)
theorem dX15_isGood_1 : decode cX15_isGood 1 = .ok (.getfield 9, 3) := dk_180 0 9 (dk_at dksX15_isGood_0 1 rfl rfl)
theorem dX15_isGood_4 : decode cX15_isGood 4 = .ok (.i2l, 1) := dk_133 (dk_at dksX15_isGood_0 4 rfl rfl)
theorem dX15_isGood_5 : decode cX15_isGood 5 = .ok (.lconst 1, 1) := dk_10 (dk_at dksX15_isGood_0 5 rfl rfl)
theorem dX15_isGood_6 : decode cX15_isGood 6 = .ok (.ldc2_w 15, 3) := dk_20 0 15 (dk_at dksX15_isGood_0 6 rfl rfl)
theorem dX15_isGood_9 : decode cX15_isGood 9 = .ok (.invokestatic 17, 3) := dk_184 0 17 (dk_at dksX15_isGood_0 9 rfl rfl)
theorem dX15_isGood_12 : decode cX15_isGood 12 = .ok (.ireturn, 1) := dk_172 (dk_at dksX15_isGood_0 12 rfl rfl)
abbrev cX15_become : ByteArray := prog_14_method_3_code
def yX15_become : MethodName := ⟨RX15, "become", "(LSongThatStays$Office;)V"⟩
def dkwX15_become_0 : List UInt8 := [43, 42, 180, 0, 9, 181, 0, 21, 177]
abbrev dktX15_become_0 : List UInt8 := dkwX15_become_0 ++ []
theorem dksX15_become_0 : cX15_become.data.toList.drop 0 = dktX15_become_0 := by decide +kernel
theorem dX15_become_0 : decode cX15_become 0 = .ok (.aload_n 1, 1) := dk_43 (dk_at dksX15_become_0 0 rfl rfl)
theorem dX15_become_1 : decode cX15_become 1 = .ok (.aload_n 0, 1) := dk_42 (dk_at dksX15_become_0 1 rfl rfl)
theorem dX15_become_2 : decode cX15_become 2 = .ok (.getfield 9, 3) := dk_180 0 9 (dk_at dksX15_become_0 2 rfl rfl)
theorem dX15_become_5 : decode cX15_become 5 = .ok (.putfield 21, 3) := dk_181 0 21 (dk_at dksX15_become_0 5 rfl rfl)
theorem dX15_become_8 : decode cX15_become 8 = .ok (.return_, 1) := dk_177 (dk_at dksX15_become_0 8 rfl rfl)
theorem q113 : (Jvm.Cond.initialized "SongThatStays$LoudTold") ∈ lw_all := lw_g (lw_at lw_m1 19 rfl) rfl
theorem q231 : (Jvm.Cond.fieldLinkNest "SongThatStays$LoudTold" (21 : Nat) "SongThatStays$Office" "loud" "I" "SongThatStays") ∈ lw_tbl := lw_at lw_m1 137 rfl
theorem q470 : (Jvm.Cond.instantiable "SongThatStays$LoudTold" (3 : Nat)) ∈ lw_all := lw_g (lw_at lw_m2 136 rfl) rfl
theorem q485 : (Jvm.Cond.instanceMethod ({ cls := "SongThatStays$LoudTold", name := "<init>", desc := "(II)V" } : Jvm.MethodName)) ∈ lw_all := lw_g (lw_at lw_m2 151 rfl) rfl
theorem q486 : (Jvm.Cond.code ({ cls := "SongThatStays$LoudTold", name := "<init>", desc := "(II)V" } : Jvm.MethodName) prog_14_method_1_code (3 : Nat) (Option.none : Option Jvm.ClassFile.FieldType)) ∈ lw_all := lw_g (lw_at lw_m2 152 rfl) rfl
theorem q487 : (Jvm.Cond.methodLink "SongThatStays$LoudTold" (3 : Nat) ({ cls := "SongThatStays$Told", name := "<init>", desc := "(III)V" } : Jvm.MethodName)) ∈ lw_all := lw_g (lw_at lw_m2 153 rfl) rfl
theorem q500 : (Jvm.Cond.fieldLink "SongThatStays$LoudTold" (9 : Nat) "SongThatStays$LoudTold" "first" "I") ∈ lw_all := lw_g (lw_at lw_m2 166 rfl) rfl
theorem q501 : (Jvm.Cond.sameField "SongThatStays$LoudTold" "SongThatStays$Told" "first" "I") ∈ lw_all := lw_g (lw_at lw_m2 167 rfl) rfl
theorem q513 : (Jvm.Cond.laysFinal "SongThatStays$LoudTold" "SongThatStays$Told" "start" "I") ∈ lw_all := lw_g (lw_at lw_m2 179 rfl) rfl
theorem q515 : (Jvm.Cond.laysFinal "SongThatStays$LoudTold" "SongThatStays$Told" "first" "I") ∈ lw_all := lw_g (lw_at lw_m2 181 rfl) rfl
theorem q517 : (Jvm.Cond.laysFinal "SongThatStays$LoudTold" "SongThatStays$Told" "second" "I") ∈ lw_all := lw_g (lw_at lw_m2 183 rfl) rfl
theorem q519 : (Jvm.Cond.superclass "SongThatStays$LoudTold" "SongThatStays$Told") ∈ lw_all := lw_g (lw_at lw_m2 185 rfl) rfl
theorem q599 : (Jvm.Cond.selects "SongThatStays$LoudTold" ({ cls := "SongThatStays$Told", name := "comes", desc := "(LSongThatStays$Office;)Z" } : Jvm.MethodName) ({ cls := "SongThatStays$Told", name := "comes", desc := "(LSongThatStays$Office;)Z" } : Jvm.MethodName)) ∈ lw_all := lw_g (lw_at lw_m3 25 rfl) rfl
theorem q614 : (Jvm.Cond.selects "SongThatStays$LoudTold" ({ cls := "SongThatStays$Told", name := "isGood", desc := "(LSongThatStays$Office;)Z" } : Jvm.MethodName) ({ cls := "SongThatStays$LoudTold", name := "isGood", desc := "(LSongThatStays$Office;)Z" } : Jvm.MethodName)) ∈ lw_all := lw_g (lw_at lw_m3 40 rfl) rfl
theorem q615 : (Jvm.Cond.instanceMethod ({ cls := "SongThatStays$LoudTold", name := "isGood", desc := "(LSongThatStays$Office;)Z" } : Jvm.MethodName)) ∈ lw_all := lw_g (lw_at lw_m3 41 rfl) rfl
theorem q616 : (Jvm.Cond.code ({ cls := "SongThatStays$LoudTold", name := "isGood", desc := "(LSongThatStays$Office;)Z" } : Jvm.MethodName) prog_14_method_2_code (2 : Nat) (Option.some Jvm.ClassFile.FieldType.boolean)) ∈ lw_all := lw_g (lw_at lw_m3 42 rfl) rfl
theorem q617 : (Jvm.Cond.constantLong "SongThatStays$LoudTold" (15 : Nat) (20 : Int64)) ∈ lw_all := lw_g (lw_at lw_m3 43 rfl) rfl
theorem q618 : (Jvm.Cond.methodLinkNest "SongThatStays$LoudTold" (17 : Nat) ({ cls := "SongThatStays", name := "in", desc := "(JJJ)Z" } : Jvm.MethodName) "SongThatStays") ∈ lw_tbl := lw_at lw_m3 44 rfl
theorem q661 : (Jvm.Cond.selects "SongThatStays$LoudTold" ({ cls := "SongThatStays$Told", name := "become", desc := "(LSongThatStays$Office;)V" } : Jvm.MethodName) ({ cls := "SongThatStays$LoudTold", name := "become", desc := "(LSongThatStays$Office;)V" } : Jvm.MethodName)) ∈ lw_all := lw_g (lw_at lw_m3 87 rfl) rfl
theorem q662 : (Jvm.Cond.instanceMethod ({ cls := "SongThatStays$LoudTold", name := "become", desc := "(LSongThatStays$Office;)V" } : Jvm.MethodName)) ∈ lw_all := lw_g (lw_at lw_m3 88 rfl) rfl
theorem q663 : (Jvm.Cond.code ({ cls := "SongThatStays$LoudTold", name := "become", desc := "(LSongThatStays$Office;)V" } : Jvm.MethodName) prog_14_method_3_code (2 : Nat) (Option.none : Option Jvm.ClassFile.FieldType)) ∈ lw_all := lw_g (lw_at lw_m3 89 rfl) rfl
theorem q1604 : (Jvm.Cond.castable "SongThatStays$LoudTold" "SongThatStays$Told") ∈ lw_tbl := lw_at lw_m7 70 rfl
theorem in_X15 : ∀ w ∈ wsX150, w ∈ lw_all := lw_in wsX150 [513, 515, 517] (by decide +kernel) (by decide +kernel)
/-! SongThatStays$SongTold -/
set_option maxRecDepth 100000
def RX16 : String := "SongThatStays$SongTold"
def TX16 : u_T := fun k => match k with
  | 0 => ("SongThatStays$Told", "start", "I", true)
  | 1 => ("SongThatStays$Told", "first", "I", true)
  | 2 => ("SongThatStays$Told", "second", "I", true)
  | _ => ("SongThatStays$SongTold", "kind", "I", true)
def tyX16 : Nat → FieldType := fun k => match k with
  | 0 => .int
  | 1 => .int
  | 2 => .int
  | _ => .int
abbrev wsX160 : List Cond := u_ws RX16 TX16 4
theorem nmX16 : ∀ a, a < 4 → ∀ b, b < 4 → a ≠ b → (TX16 a).2.1 ≠ (TX16 b).2.1 := by decide +kernel
theorem tyX16_ok : ∀ k, k < 4 → parseFieldDescriptor (TX16 k).2.2.1 = some (tyX16 k) := by decide +kernel
abbrev cX16_init : ByteArray := prog_22_method_1_code
def yX16_init : MethodName := ⟨RX16, "<init>", "(IIII)V"⟩
def dkwX16_init_0 : List UInt8 := [42, 27, 29, 21, 4, 183, 0, 3, 42, 28, 181, 0, 9, 177]
abbrev dktX16_init_0 : List UInt8 := dkwX16_init_0 ++ []
theorem dksX16_init_0 : cX16_init.data.toList.drop 0 = dktX16_init_0 := by decide +kernel
theorem dX16_init_0 : decode cX16_init 0 = .ok (.aload_n 0, 1) := dk_42 (dk_at dksX16_init_0 0 rfl rfl)
theorem dX16_init_1 : decode cX16_init 1 = .ok (.iload_n 1, 1) := dk_27 (dk_at dksX16_init_0 1 rfl rfl)
theorem dX16_init_2 : decode cX16_init 2 = .ok (.iload_n 3, 1) := dk_29 (dk_at dksX16_init_0 2 rfl rfl)
theorem dX16_init_3 : decode cX16_init 3 = .ok (.iload 4, 2) := dk_21 4 (dk_at dksX16_init_0 3 rfl rfl)
theorem dX16_init_5 : decode cX16_init 5 = .ok (.invokespecial 3, 3) := dk_183 0 3 (dk_at dksX16_init_0 5 rfl rfl)
theorem dX16_init_8 : decode cX16_init 8 = .ok (.aload_n 0, 1) := dk_42 (dk_at dksX16_init_0 8 rfl rfl)
theorem dX16_init_9 : decode cX16_init 9 = .ok (.iload_n 2, 1) := dk_28 (dk_at dksX16_init_0 9 rfl rfl)
theorem dX16_init_10 : decode cX16_init 10 = .ok (.putfield 9, 3) := dk_181 0 9 (dk_at dksX16_init_0 10 rfl rfl)
theorem dX16_init_13 : decode cX16_init 13 = .ok (.return_, 1) := dk_177 (dk_at dksX16_init_0 13 rfl rfl)
abbrev cX16_isGood : ByteArray := prog_22_method_2_code
def yX16_isGood : MethodName := ⟨RX16, "isGood", "(LSongThatStays$Office;)Z"⟩
def dkwX16_isGood_0 : List UInt8 := [42, 180, 0, 15, 158, 0, 15, 43, 180, 0, 18, 8, 162, 0, 7, 4, 167, 0, 4, 3, 172]
abbrev dktX16_isGood_0 : List UInt8 := dkwX16_isGood_0 ++ []
theorem dksX16_isGood_0 : cX16_isGood.data.toList.drop 0 = dktX16_isGood_0 := by decide +kernel
theorem dX16_isGood_0 : decode cX16_isGood 0 = .ok (.aload_n 0, 1) := dk_42 (dk_at dksX16_isGood_0 0 rfl rfl)
theorem dX16_isGood_1 : decode cX16_isGood 1 = .ok (.getfield 15, 3) := dk_180 0 15 (dk_at dksX16_isGood_0 1 rfl rfl)
theorem dX16_isGood_4 : decode cX16_isGood 4 = .ok (.ifCond .le 15, 3) := dk_158 0 15 (dk_at dksX16_isGood_0 4 rfl rfl)
theorem dX16_isGood_7 : decode cX16_isGood 7 = .ok (.aload_n 1, 1) := dk_43 (dk_at dksX16_isGood_0 7 rfl rfl)
theorem dX16_isGood_8 : decode cX16_isGood 8 = .ok (.getfield 18, 3) := dk_180 0 18 (dk_at dksX16_isGood_0 8 rfl rfl)
theorem dX16_isGood_11 : decode cX16_isGood 11 = .ok (.iconst 5, 1) := dk_8 (dk_at dksX16_isGood_0 11 rfl rfl)
theorem dX16_isGood_12 : decode cX16_isGood 12 = .ok (.if_icmp .ge 7, 3) := dk_162 0 7 (dk_at dksX16_isGood_0 12 rfl rfl)
theorem dX16_isGood_15 : decode cX16_isGood 15 = .ok (.iconst 1, 1) := dk_4 (dk_at dksX16_isGood_0 15 rfl rfl)
theorem dX16_isGood_16 : decode cX16_isGood 16 = .ok (.goto 4, 3) := dk_167 0 4 (dk_at dksX16_isGood_0 16 rfl rfl)
theorem dX16_isGood_19 : decode cX16_isGood 19 = .ok (.iconst 0, 1) := dk_3 (dk_at dksX16_isGood_0 19 rfl rfl)
theorem dX16_isGood_20 : decode cX16_isGood 20 = .ok (.ireturn, 1) := dk_172 (dk_at dksX16_isGood_0 20 rfl rfl)
abbrev cX16_become : ByteArray := prog_22_method_3_code
def yX16_become : MethodName := ⟨RX16, "become", "(LSongThatStays$Office;)V"⟩
def dkwX16_become_1 : List UInt8 := [43, 89, 180, 0, 18, 4, 96, 181, 0, 18, 177]
abbrev dktX16_become_1 : List UInt8 := dkwX16_become_1 ++ []
def dkwX16_become_0 : List UInt8 := [43, 180, 0, 23, 43, 180, 0, 18, 42, 180, 0, 9, 42, 180, 0, 27, 42, 180, 0, 15, 184, 0, 30, 83]
abbrev dktX16_become_0 : List UInt8 := dkwX16_become_0 ++ dktX16_become_1
theorem dksX16_become_0 : cX16_become.data.toList.drop 0 = dktX16_become_0 := by decide +kernel
theorem dksX16_become_1 : cX16_become.data.toList.drop 24 = dktX16_become_1 := dk_seg dksX16_become_0 24 rfl rfl
theorem dX16_become_0 : decode cX16_become 0 = .ok (.aload_n 1, 1) := dk_43 (dk_at dksX16_become_0 0 rfl rfl)
theorem dX16_become_1 : decode cX16_become 1 = .ok (.getfield 23, 3) := dk_180 0 23 (dk_at dksX16_become_0 1 rfl rfl)
theorem dX16_become_4 : decode cX16_become 4 = .ok (.aload_n 1, 1) := dk_43 (dk_at dksX16_become_0 4 rfl rfl)
theorem dX16_become_5 : decode cX16_become 5 = .ok (.getfield 18, 3) := dk_180 0 18 (dk_at dksX16_become_0 5 rfl rfl)
theorem dX16_become_8 : decode cX16_become 8 = .ok (.aload_n 0, 1) := dk_42 (dk_at dksX16_become_0 8 rfl rfl)
theorem dX16_become_9 : decode cX16_become 9 = .ok (.getfield 9, 3) := dk_180 0 9 (dk_at dksX16_become_0 9 rfl rfl)
theorem dX16_become_12 : decode cX16_become 12 = .ok (.aload_n 0, 1) := dk_42 (dk_at dksX16_become_0 12 rfl rfl)
theorem dX16_become_13 : decode cX16_become 13 = .ok (.getfield 27, 3) := dk_180 0 27 (dk_at dksX16_become_0 13 rfl rfl)
theorem dX16_become_16 : decode cX16_become 16 = .ok (.aload_n 0, 1) := dk_42 (dk_at dksX16_become_0 16 rfl rfl)
theorem dX16_become_17 : decode cX16_become 17 = .ok (.getfield 15, 3) := dk_180 0 15 (dk_at dksX16_become_0 17 rfl rfl)
theorem dX16_become_20 : decode cX16_become 20 = .ok (.invokestatic 30, 3) := dk_184 0 30 (dk_at dksX16_become_0 20 rfl rfl)
theorem dX16_become_23 : decode cX16_become 23 = .ok (.aastore, 1) := dk_83 (dk_at dksX16_become_0 23 rfl rfl)
theorem dX16_become_24 : decode cX16_become 24 = .ok (.aload_n 1, 1) := dk_43 (dk_at dksX16_become_1 0 rfl rfl)
theorem dX16_become_25 : decode cX16_become 25 = .ok (.dup, 1) := dk_89 (dk_at dksX16_become_1 1 rfl rfl)
theorem dX16_become_26 : decode cX16_become 26 = .ok (.getfield 18, 3) := dk_180 0 18 (dk_at dksX16_become_1 2 rfl rfl)
theorem dX16_become_29 : decode cX16_become 29 = .ok (.iconst 1, 1) := dk_4 (dk_at dksX16_become_1 5 rfl rfl)
theorem dX16_become_30 : decode cX16_become 30 = .ok (.iadd, 1) := dk_96 (dk_at dksX16_become_1 6 rfl rfl)
theorem dX16_become_31 : decode cX16_become 31 = .ok (.putfield 18, 3) := dk_181 0 18 (dk_at dksX16_become_1 7 rfl rfl)
theorem dX16_become_34 : decode cX16_become 34 = .ok (.return_, 1) := dk_177 (dk_at dksX16_become_1 10 rfl rfl)
theorem q114 : (Jvm.Cond.initialized "SongThatStays$SongTold") ∈ lw_all := lw_g (lw_at lw_m1 20 rfl) rfl
theorem q201 : (Jvm.Cond.fieldLinkNest "SongThatStays$SongTold" (18 : Nat) "SongThatStays$Office" "songs" "I" "SongThatStays") ∈ lw_tbl := lw_at lw_m1 107 rfl
theorem q206 : (Jvm.Cond.fieldLinkNest "SongThatStays$SongTold" (23 : Nat) "SongThatStays$Office" "song" "[LSongThatStays$Song;" "SongThatStays") ∈ lw_tbl := lw_at lw_m1 112 rfl
theorem q502 : (Jvm.Cond.fieldLink "SongThatStays$SongTold" (27 : Nat) "SongThatStays$SongTold" "first" "I") ∈ lw_all := lw_g (lw_at lw_m2 168 rfl) rfl
theorem q503 : (Jvm.Cond.sameField "SongThatStays$SongTold" "SongThatStays$Told" "first" "I") ∈ lw_all := lw_g (lw_at lw_m2 169 rfl) rfl
theorem q505 : (Jvm.Cond.fieldLink "SongThatStays$SongTold" (15 : Nat) "SongThatStays$SongTold" "second" "I") ∈ lw_all := lw_g (lw_at lw_m2 171 rfl) rfl
theorem q506 : (Jvm.Cond.sameField "SongThatStays$SongTold" "SongThatStays$Told" "second" "I") ∈ lw_all := lw_g (lw_at lw_m2 172 rfl) rfl
theorem q529 : (Jvm.Cond.instantiable "SongThatStays$SongTold" (4 : Nat)) ∈ lw_all := lw_g (lw_at lw_m2 195 rfl) rfl
theorem q531 : (Jvm.Cond.instanceMethod ({ cls := "SongThatStays$SongTold", name := "<init>", desc := "(IIII)V" } : Jvm.MethodName)) ∈ lw_all := lw_g (lw_at lw_m2 197 rfl) rfl
theorem q532 : (Jvm.Cond.code ({ cls := "SongThatStays$SongTold", name := "<init>", desc := "(IIII)V" } : Jvm.MethodName) prog_22_method_1_code (5 : Nat) (Option.none : Option Jvm.ClassFile.FieldType)) ∈ lw_all := lw_g (lw_at lw_m2 198 rfl) rfl
theorem q533 : (Jvm.Cond.methodLink "SongThatStays$SongTold" (3 : Nat) ({ cls := "SongThatStays$Told", name := "<init>", desc := "(III)V" } : Jvm.MethodName)) ∈ lw_all := lw_g (lw_at lw_m2 199 rfl) rfl
theorem q534 : (Jvm.Cond.fieldLink "SongThatStays$SongTold" (9 : Nat) "SongThatStays$SongTold" "kind" "I") ∈ lw_all := lw_g (lw_at lw_m2 200 rfl) rfl
theorem q535 : (Jvm.Cond.laysFinal "SongThatStays$SongTold" "SongThatStays$SongTold" "kind" "I") ∈ lw_all := lw_g (lw_at lw_m2 201 rfl) rfl
theorem q536 : (Jvm.Cond.soleField "SongThatStays$SongTold" "kind") ∈ lw_all := lw_g (lw_at lw_m2 202 rfl) rfl
theorem q537 : (Jvm.Cond.laysFinal "SongThatStays$SongTold" "SongThatStays$Told" "start" "I") ∈ lw_all := lw_g (lw_at lw_m2 203 rfl) rfl
theorem q538 : (Jvm.Cond.laysFinal "SongThatStays$SongTold" "SongThatStays$Told" "first" "I") ∈ lw_all := lw_g (lw_at lw_m2 204 rfl) rfl
theorem q539 : (Jvm.Cond.laysFinal "SongThatStays$SongTold" "SongThatStays$Told" "second" "I") ∈ lw_all := lw_g (lw_at lw_m2 205 rfl) rfl
theorem q540 : (Jvm.Cond.superclass "SongThatStays$SongTold" "SongThatStays$Told") ∈ lw_all := lw_g (lw_at lw_m2 206 rfl) rfl
theorem q600 : (Jvm.Cond.selects "SongThatStays$SongTold" ({ cls := "SongThatStays$Told", name := "comes", desc := "(LSongThatStays$Office;)Z" } : Jvm.MethodName) ({ cls := "SongThatStays$Told", name := "comes", desc := "(LSongThatStays$Office;)Z" } : Jvm.MethodName)) ∈ lw_all := lw_g (lw_at lw_m3 26 rfl) rfl
theorem q619 : (Jvm.Cond.selects "SongThatStays$SongTold" ({ cls := "SongThatStays$Told", name := "isGood", desc := "(LSongThatStays$Office;)Z" } : Jvm.MethodName) ({ cls := "SongThatStays$SongTold", name := "isGood", desc := "(LSongThatStays$Office;)Z" } : Jvm.MethodName)) ∈ lw_all := lw_g (lw_at lw_m3 45 rfl) rfl
theorem q620 : (Jvm.Cond.instanceMethod ({ cls := "SongThatStays$SongTold", name := "isGood", desc := "(LSongThatStays$Office;)Z" } : Jvm.MethodName)) ∈ lw_all := lw_g (lw_at lw_m3 46 rfl) rfl
theorem q621 : (Jvm.Cond.code ({ cls := "SongThatStays$SongTold", name := "isGood", desc := "(LSongThatStays$Office;)Z" } : Jvm.MethodName) prog_22_method_2_code (2 : Nat) (Option.some Jvm.ClassFile.FieldType.boolean)) ∈ lw_all := lw_g (lw_at lw_m3 47 rfl) rfl
theorem q664 : (Jvm.Cond.selects "SongThatStays$SongTold" ({ cls := "SongThatStays$Told", name := "become", desc := "(LSongThatStays$Office;)V" } : Jvm.MethodName) ({ cls := "SongThatStays$SongTold", name := "become", desc := "(LSongThatStays$Office;)V" } : Jvm.MethodName)) ∈ lw_all := lw_g (lw_at lw_m3 90 rfl) rfl
theorem q665 : (Jvm.Cond.instanceMethod ({ cls := "SongThatStays$SongTold", name := "become", desc := "(LSongThatStays$Office;)V" } : Jvm.MethodName)) ∈ lw_all := lw_g (lw_at lw_m3 91 rfl) rfl
theorem q666 : (Jvm.Cond.code ({ cls := "SongThatStays$SongTold", name := "become", desc := "(LSongThatStays$Office;)V" } : Jvm.MethodName) prog_22_method_3_code (2 : Nat) (Option.none : Option Jvm.ClassFile.FieldType)) ∈ lw_all := lw_g (lw_at lw_m3 92 rfl) rfl
theorem q667 : (Jvm.Cond.methodLinkNest "SongThatStays$SongTold" (30 : Nat) ({ cls := "SongThatStays", name := "songOf", desc := "(III)LSongThatStays$Song;" } : Jvm.MethodName) "SongThatStays") ∈ lw_tbl := lw_at lw_m3 93 rfl
theorem q1605 : (Jvm.Cond.castable "SongThatStays$SongTold" "SongThatStays$Told") ∈ lw_tbl := lw_at lw_m7 71 rfl
theorem in_X16 : ∀ w ∈ wsX160, w ∈ lw_all := lw_in wsX160 [537, 538, 539, 535] (by decide +kernel) (by decide +kernel)
/-! SongThatStays$HeadTold -/
set_option maxRecDepth 100000
def RX17 : String := "SongThatStays$HeadTold"
def TX17 : u_T := fun k => match k with
  | 0 => ("SongThatStays$Told", "start", "I", true)
  | 1 => ("SongThatStays$Told", "first", "I", true)
  | 2 => ("SongThatStays$Told", "second", "I", true)
  | _ => ("SongThatStays$HeadTold", "kind", "LSongThatStays$Kind;", true)
def tyX17 : Nat → FieldType := fun k => match k with
  | 0 => .int
  | 1 => .int
  | 2 => .int
  | _ => .object "SongThatStays$Kind"
abbrev wsX170 : List Cond := u_ws RX17 TX17 4
theorem nmX17 : ∀ a, a < 4 → ∀ b, b < 4 → a ≠ b → (TX17 a).2.1 ≠ (TX17 b).2.1 := by decide +kernel
theorem tyX17_ok : ∀ k, k < 4 → parseFieldDescriptor (TX17 k).2.2.1 = some (tyX17 k) := by decide +kernel
abbrev cX17_init : ByteArray := prog_9_method_1_code
def yX17_init : MethodName := ⟨RX17, "<init>", "(ILSongThatStays$Kind;II)V"⟩
def dkwX17_init_0 : List UInt8 := [42, 27, 29, 21, 4, 183, 0, 3, 42, 44, 181, 0, 9, 177]
abbrev dktX17_init_0 : List UInt8 := dkwX17_init_0 ++ []
theorem dksX17_init_0 : cX17_init.data.toList.drop 0 = dktX17_init_0 := by decide +kernel
theorem dX17_init_0 : decode cX17_init 0 = .ok (.aload_n 0, 1) := dk_42 (dk_at dksX17_init_0 0 rfl rfl)
theorem dX17_init_1 : decode cX17_init 1 = .ok (.iload_n 1, 1) := dk_27 (dk_at dksX17_init_0 1 rfl rfl)
theorem dX17_init_2 : decode cX17_init 2 = .ok (.iload_n 3, 1) := dk_29 (dk_at dksX17_init_0 2 rfl rfl)
theorem dX17_init_3 : decode cX17_init 3 = .ok (.iload 4, 2) := dk_21 4 (dk_at dksX17_init_0 3 rfl rfl)
theorem dX17_init_5 : decode cX17_init 5 = .ok (.invokespecial 3, 3) := dk_183 0 3 (dk_at dksX17_init_0 5 rfl rfl)
theorem dX17_init_8 : decode cX17_init 8 = .ok (.aload_n 0, 1) := dk_42 (dk_at dksX17_init_0 8 rfl rfl)
theorem dX17_init_9 : decode cX17_init 9 = .ok (.aload_n 2, 1) := dk_44 (dk_at dksX17_init_0 9 rfl rfl)
theorem dX17_init_10 : decode cX17_init 10 = .ok (.putfield 9, 3) := dk_181 0 9 (dk_at dksX17_init_0 10 rfl rfl)
theorem dX17_init_13 : decode cX17_init 13 = .ok (.return_, 1) := dk_177 (dk_at dksX17_init_0 13 rfl rfl)
abbrev cX17_isGood : ByteArray := prog_9_method_2_code
def yX17_isGood : MethodName := ⟨RX17, "isGood", "(LSongThatStays$Office;)Z"⟩
def dkwX17_isGood_0 : List UInt8 := [42, 180, 0, 15, 8, 162, 0, 16, 43, 180, 0, 19, 16, 6, 162, 0, 7, 4, 167, 0, 4, 3, 172]
abbrev dktX17_isGood_0 : List UInt8 := dkwX17_isGood_0 ++ []
theorem dksX17_isGood_0 : cX17_isGood.data.toList.drop 0 = dktX17_isGood_0 := by decide +kernel
theorem dX17_isGood_0 : decode cX17_isGood 0 = .ok (.aload_n 0, 1) := dk_42 (dk_at dksX17_isGood_0 0 rfl rfl)
theorem dX17_isGood_1 : decode cX17_isGood 1 = .ok (.getfield 15, 3) := dk_180 0 15 (dk_at dksX17_isGood_0 1 rfl rfl)
theorem dX17_isGood_4 : decode cX17_isGood 4 = .ok (.iconst 5, 1) := dk_8 (dk_at dksX17_isGood_0 4 rfl rfl)
theorem dX17_isGood_5 : decode cX17_isGood 5 = .ok (.if_icmp .ge 16, 3) := dk_162 0 16 (dk_at dksX17_isGood_0 5 rfl rfl)
theorem dX17_isGood_8 : decode cX17_isGood 8 = .ok (.aload_n 1, 1) := dk_43 (dk_at dksX17_isGood_0 8 rfl rfl)
theorem dX17_isGood_9 : decode cX17_isGood 9 = .ok (.getfield 19, 3) := dk_180 0 19 (dk_at dksX17_isGood_0 9 rfl rfl)
theorem dX17_isGood_12 : decode cX17_isGood 12 = .ok (.bipush 6, 2) := dk_16 6 (dk_at dksX17_isGood_0 12 rfl rfl)
theorem dX17_isGood_14 : decode cX17_isGood 14 = .ok (.if_icmp .ge 7, 3) := dk_162 0 7 (dk_at dksX17_isGood_0 14 rfl rfl)
theorem dX17_isGood_17 : decode cX17_isGood 17 = .ok (.iconst 1, 1) := dk_4 (dk_at dksX17_isGood_0 17 rfl rfl)
theorem dX17_isGood_18 : decode cX17_isGood 18 = .ok (.goto 4, 3) := dk_167 0 4 (dk_at dksX17_isGood_0 18 rfl rfl)
theorem dX17_isGood_21 : decode cX17_isGood 21 = .ok (.iconst 0, 1) := dk_3 (dk_at dksX17_isGood_0 21 rfl rfl)
theorem dX17_isGood_22 : decode cX17_isGood 22 = .ok (.ireturn, 1) := dk_172 (dk_at dksX17_isGood_0 22 rfl rfl)
abbrev cX17_become : ByteArray := prog_9_method_3_code
def yX17_become : MethodName := ⟨RX17, "become", "(LSongThatStays$Office;)V"⟩
def dkwX17_become_2 : List UInt8 := [182, 0, 40, 43, 89, 180, 0, 19, 4, 96, 181, 0, 19, 177]
abbrev dktX17_become_2 : List UInt8 := dkwX17_become_2 ++ []
def dkwX17_become_1 : List UInt8 := [79, 43, 180, 0, 31, 28, 42, 180, 0, 34, 79, 43, 180, 0, 37, 28, 3, 79, 43, 28, 16, 247]
abbrev dktX17_become_1 : List UInt8 := dkwX17_become_1 ++ dktX17_become_2
def dkwX17_become_0 : List UInt8 := [43, 180, 0, 19, 61, 43, 180, 0, 24, 28, 42, 180, 0, 9, 83, 43, 180, 0, 27, 28, 42, 180, 0, 15]
abbrev dktX17_become_0 : List UInt8 := dkwX17_become_0 ++ dktX17_become_1
theorem dksX17_become_0 : cX17_become.data.toList.drop 0 = dktX17_become_0 := by decide +kernel
theorem dksX17_become_1 : cX17_become.data.toList.drop 24 = dktX17_become_1 := dk_seg dksX17_become_0 24 rfl rfl
theorem dksX17_become_2 : cX17_become.data.toList.drop 46 = dktX17_become_2 := dk_seg dksX17_become_1 22 rfl rfl
theorem dX17_become_0 : decode cX17_become 0 = .ok (.aload_n 1, 1) := dk_43 (dk_at dksX17_become_0 0 rfl rfl)
theorem dX17_become_1 : decode cX17_become 1 = .ok (.getfield 19, 3) := dk_180 0 19 (dk_at dksX17_become_0 1 rfl rfl)
theorem dX17_become_4 : decode cX17_become 4 = .ok (.istore_n 2, 1) := dk_61 (dk_at dksX17_become_0 4 rfl rfl)
theorem dX17_become_5 : decode cX17_become 5 = .ok (.aload_n 1, 1) := dk_43 (dk_at dksX17_become_0 5 rfl rfl)
theorem dX17_become_6 : decode cX17_become 6 = .ok (.getfield 24, 3) := dk_180 0 24 (dk_at dksX17_become_0 6 rfl rfl)
theorem dX17_become_9 : decode cX17_become 9 = .ok (.iload_n 2, 1) := dk_28 (dk_at dksX17_become_0 9 rfl rfl)
theorem dX17_become_10 : decode cX17_become 10 = .ok (.aload_n 0, 1) := dk_42 (dk_at dksX17_become_0 10 rfl rfl)
theorem dX17_become_11 : decode cX17_become 11 = .ok (.getfield 9, 3) := dk_180 0 9 (dk_at dksX17_become_0 11 rfl rfl)
theorem dX17_become_14 : decode cX17_become 14 = .ok (.aastore, 1) := dk_83 (dk_at dksX17_become_0 14 rfl rfl)
theorem dX17_become_15 : decode cX17_become 15 = .ok (.aload_n 1, 1) := dk_43 (dk_at dksX17_become_0 15 rfl rfl)
theorem dX17_become_16 : decode cX17_become 16 = .ok (.getfield 27, 3) := dk_180 0 27 (dk_at dksX17_become_0 16 rfl rfl)
theorem dX17_become_19 : decode cX17_become 19 = .ok (.iload_n 2, 1) := dk_28 (dk_at dksX17_become_0 19 rfl rfl)
theorem dX17_become_20 : decode cX17_become 20 = .ok (.aload_n 0, 1) := dk_42 (dk_at dksX17_become_0 20 rfl rfl)
theorem dX17_become_21 : decode cX17_become 21 = .ok (.getfield 15, 3) := dk_180 0 15 (dk_at dksX17_become_0 21 rfl rfl)
theorem dX17_become_24 : decode cX17_become 24 = .ok (.iastore, 1) := dk_79 (dk_at dksX17_become_1 0 rfl rfl)
theorem dX17_become_25 : decode cX17_become 25 = .ok (.aload_n 1, 1) := dk_43 (dk_at dksX17_become_1 1 rfl rfl)
theorem dX17_become_26 : decode cX17_become 26 = .ok (.getfield 31, 3) := dk_180 0 31 (dk_at dksX17_become_1 2 rfl rfl)
theorem dX17_become_29 : decode cX17_become 29 = .ok (.iload_n 2, 1) := dk_28 (dk_at dksX17_become_1 5 rfl rfl)
theorem dX17_become_30 : decode cX17_become 30 = .ok (.aload_n 0, 1) := dk_42 (dk_at dksX17_become_1 6 rfl rfl)
theorem dX17_become_31 : decode cX17_become 31 = .ok (.getfield 34, 3) := dk_180 0 34 (dk_at dksX17_become_1 7 rfl rfl)
theorem dX17_become_34 : decode cX17_become 34 = .ok (.iastore, 1) := dk_79 (dk_at dksX17_become_1 10 rfl rfl)
theorem dX17_become_35 : decode cX17_become 35 = .ok (.aload_n 1, 1) := dk_43 (dk_at dksX17_become_1 11 rfl rfl)
theorem dX17_become_36 : decode cX17_become 36 = .ok (.getfield 37, 3) := dk_180 0 37 (dk_at dksX17_become_1 12 rfl rfl)
theorem dX17_become_39 : decode cX17_become 39 = .ok (.iload_n 2, 1) := dk_28 (dk_at dksX17_become_1 15 rfl rfl)
theorem dX17_become_40 : decode cX17_become 40 = .ok (.iconst 0, 1) := dk_3 (dk_at dksX17_become_1 16 rfl rfl)
theorem dX17_become_41 : decode cX17_become 41 = .ok (.iastore, 1) := dk_79 (dk_at dksX17_become_1 17 rfl rfl)
theorem dX17_become_42 : decode cX17_become 42 = .ok (.aload_n 1, 1) := dk_43 (dk_at dksX17_become_1 18 rfl rfl)
theorem dX17_become_43 : decode cX17_become 43 = .ok (.iload_n 2, 1) := dk_28 (dk_at dksX17_become_1 19 rfl rfl)
theorem dX17_become_44 : decode cX17_become 44 = .ok (.bipush (-9), 2) := dk_16 247 (dk_at dksX17_become_1 20 rfl rfl)
theorem dX17_become_46 : decode cX17_become 46 = .ok (.invokevirtual 40, 3) := dk_182 0 40 (dk_at dksX17_become_2 0 rfl rfl)
theorem dX17_become_49 : decode cX17_become 49 = .ok (.aload_n 1, 1) := dk_43 (dk_at dksX17_become_2 3 rfl rfl)
theorem dX17_become_50 : decode cX17_become 50 = .ok (.dup, 1) := dk_89 (dk_at dksX17_become_2 4 rfl rfl)
theorem dX17_become_51 : decode cX17_become 51 = .ok (.getfield 19, 3) := dk_180 0 19 (dk_at dksX17_become_2 5 rfl rfl)
theorem dX17_become_54 : decode cX17_become 54 = .ok (.iconst 1, 1) := dk_4 (dk_at dksX17_become_2 8 rfl rfl)
theorem dX17_become_55 : decode cX17_become 55 = .ok (.iadd, 1) := dk_96 (dk_at dksX17_become_2 9 rfl rfl)
theorem dX17_become_56 : decode cX17_become 56 = .ok (.putfield 19, 3) := dk_181 0 19 (dk_at dksX17_become_2 10 rfl rfl)
theorem dX17_become_59 : decode cX17_become 59 = .ok (.return_, 1) := dk_177 (dk_at dksX17_become_2 13 rfl rfl)
theorem q115 : (Jvm.Cond.initialized "SongThatStays$HeadTold") ∈ lw_all := lw_g (lw_at lw_m1 21 rfl) rfl
theorem q209 : (Jvm.Cond.fieldLinkNest "SongThatStays$HeadTold" (19 : Nat) "SongThatStays$Office" "heads" "I" "SongThatStays") ∈ lw_tbl := lw_at lw_m1 115 rfl
theorem q213 : (Jvm.Cond.fieldLinkNest "SongThatStays$HeadTold" (24 : Nat) "SongThatStays$Office" "kind" "[LSongThatStays$Kind;" "SongThatStays") ∈ lw_tbl := lw_at lw_m1 119 rfl
theorem q216 : (Jvm.Cond.fieldLinkNest "SongThatStays$HeadTold" (27 : Nat) "SongThatStays$Office" "rooms" "[I" "SongThatStays") ∈ lw_tbl := lw_at lw_m1 122 rfl
theorem q219 : (Jvm.Cond.fieldLinkNest "SongThatStays$HeadTold" (31 : Nat) "SongThatStays$Office" "resists" "[I" "SongThatStays") ∈ lw_tbl := lw_at lw_m1 125 rfl
theorem q226 : (Jvm.Cond.fieldLinkNest "SongThatStays$HeadTold" (37 : Nat) "SongThatStays$Office" "gums" "[I" "SongThatStays") ∈ lw_tbl := lw_at lw_m1 132 rfl
theorem q498 : (Jvm.Cond.fieldLink "SongThatStays$HeadTold" (15 : Nat) "SongThatStays$HeadTold" "first" "I") ∈ lw_all := lw_g (lw_at lw_m2 164 rfl) rfl
theorem q499 : (Jvm.Cond.sameField "SongThatStays$HeadTold" "SongThatStays$Told" "first" "I") ∈ lw_all := lw_g (lw_at lw_m2 165 rfl) rfl
theorem q511 : (Jvm.Cond.fieldLink "SongThatStays$HeadTold" (34 : Nat) "SongThatStays$HeadTold" "second" "I") ∈ lw_all := lw_g (lw_at lw_m2 177 rfl) rfl
theorem q512 : (Jvm.Cond.sameField "SongThatStays$HeadTold" "SongThatStays$Told" "second" "I") ∈ lw_all := lw_g (lw_at lw_m2 178 rfl) rfl
theorem q550 : (Jvm.Cond.instantiable "SongThatStays$HeadTold" (4 : Nat)) ∈ lw_all := lw_g (lw_at lw_m2 216 rfl) rfl
theorem q552 : (Jvm.Cond.instanceMethod ({ cls := "SongThatStays$HeadTold", name := "<init>", desc := "(ILSongThatStays$Kind;II)V" } : Jvm.MethodName)) ∈ lw_all := lw_g (lw_at lw_m2 218 rfl) rfl
theorem q553 : (Jvm.Cond.code ({ cls := "SongThatStays$HeadTold", name := "<init>", desc := "(ILSongThatStays$Kind;II)V" } : Jvm.MethodName) prog_9_method_1_code (5 : Nat) (Option.none : Option Jvm.ClassFile.FieldType)) ∈ lw_all := lw_g (lw_at lw_m2 219 rfl) rfl
theorem q554 : (Jvm.Cond.methodLink "SongThatStays$HeadTold" (3 : Nat) ({ cls := "SongThatStays$Told", name := "<init>", desc := "(III)V" } : Jvm.MethodName)) ∈ lw_all := lw_g (lw_at lw_m2 220 rfl) rfl
theorem q555 : (Jvm.Cond.fieldLink "SongThatStays$HeadTold" (9 : Nat) "SongThatStays$HeadTold" "kind" "LSongThatStays$Kind;") ∈ lw_all := lw_g (lw_at lw_m2 221 rfl) rfl
theorem q556 : (Jvm.Cond.laysFinal "SongThatStays$HeadTold" "SongThatStays$HeadTold" "kind" "LSongThatStays$Kind;") ∈ lw_all := lw_g (lw_at lw_m2 222 rfl) rfl
theorem q557 : (Jvm.Cond.soleField "SongThatStays$HeadTold" "kind") ∈ lw_all := lw_g (lw_at lw_m2 223 rfl) rfl
theorem q558 : (Jvm.Cond.laysFinal "SongThatStays$HeadTold" "SongThatStays$Told" "start" "I") ∈ lw_all := lw_g (lw_at lw_m2 224 rfl) rfl
theorem q559 : (Jvm.Cond.laysFinal "SongThatStays$HeadTold" "SongThatStays$Told" "first" "I") ∈ lw_all := lw_g (lw_at lw_m2 225 rfl) rfl
theorem q560 : (Jvm.Cond.laysFinal "SongThatStays$HeadTold" "SongThatStays$Told" "second" "I") ∈ lw_all := lw_g (lw_at lw_m2 226 rfl) rfl
theorem q561 : (Jvm.Cond.superclass "SongThatStays$HeadTold" "SongThatStays$Told") ∈ lw_all := lw_g (lw_at lw_m2 227 rfl) rfl
theorem q598 : (Jvm.Cond.selects "SongThatStays$HeadTold" ({ cls := "SongThatStays$Told", name := "comes", desc := "(LSongThatStays$Office;)Z" } : Jvm.MethodName) ({ cls := "SongThatStays$Told", name := "comes", desc := "(LSongThatStays$Office;)Z" } : Jvm.MethodName)) ∈ lw_all := lw_g (lw_at lw_m3 24 rfl) rfl
theorem q611 : (Jvm.Cond.selects "SongThatStays$HeadTold" ({ cls := "SongThatStays$Told", name := "isGood", desc := "(LSongThatStays$Office;)Z" } : Jvm.MethodName) ({ cls := "SongThatStays$HeadTold", name := "isGood", desc := "(LSongThatStays$Office;)Z" } : Jvm.MethodName)) ∈ lw_all := lw_g (lw_at lw_m3 37 rfl) rfl
theorem q612 : (Jvm.Cond.instanceMethod ({ cls := "SongThatStays$HeadTold", name := "isGood", desc := "(LSongThatStays$Office;)Z" } : Jvm.MethodName)) ∈ lw_all := lw_g (lw_at lw_m3 38 rfl) rfl
theorem q613 : (Jvm.Cond.code ({ cls := "SongThatStays$HeadTold", name := "isGood", desc := "(LSongThatStays$Office;)Z" } : Jvm.MethodName) prog_9_method_2_code (2 : Nat) (Option.some Jvm.ClassFile.FieldType.boolean)) ∈ lw_all := lw_g (lw_at lw_m3 39 rfl) rfl
theorem q657 : (Jvm.Cond.selects "SongThatStays$HeadTold" ({ cls := "SongThatStays$Told", name := "become", desc := "(LSongThatStays$Office;)V" } : Jvm.MethodName) ({ cls := "SongThatStays$HeadTold", name := "become", desc := "(LSongThatStays$Office;)V" } : Jvm.MethodName)) ∈ lw_all := lw_g (lw_at lw_m3 83 rfl) rfl
theorem q658 : (Jvm.Cond.instanceMethod ({ cls := "SongThatStays$HeadTold", name := "become", desc := "(LSongThatStays$Office;)V" } : Jvm.MethodName)) ∈ lw_all := lw_g (lw_at lw_m3 84 rfl) rfl
theorem q659 : (Jvm.Cond.code ({ cls := "SongThatStays$HeadTold", name := "become", desc := "(LSongThatStays$Office;)V" } : Jvm.MethodName) prog_9_method_3_code (3 : Nat) (Option.none : Option Jvm.ClassFile.FieldType)) ∈ lw_all := lw_g (lw_at lw_m3 85 rfl) rfl
theorem q660 : (Jvm.Cond.methodLink "SongThatStays$HeadTold" (40 : Nat) ({ cls := "SongThatStays$Office", name := "get", desc := "(II)V" } : Jvm.MethodName)) ∈ lw_all := lw_g (lw_at lw_m3 86 rfl) rfl
theorem q1606 : (Jvm.Cond.castable "SongThatStays$HeadTold" "SongThatStays$Told") ∈ lw_tbl := lw_at lw_m7 72 rfl
theorem in_X17 : ∀ w ∈ wsX170, w ∈ lw_all := lw_in wsX170 [558, 559, 560, 556] (by decide +kernel) (by decide +kernel)
/-! SongThatStays$DoorTold -/
set_option maxRecDepth 100000
def RX18 : String := "SongThatStays$DoorTold"
def TX18 : u_T := fun k => match k with
  | 0 => ("SongThatStays$Told", "start", "I", true)
  | 1 => ("SongThatStays$Told", "first", "I", true)
  | _ => ("SongThatStays$Told", "second", "I", true)
def tyX18 : Nat → FieldType := fun k => match k with
  | 0 => .int
  | 1 => .int
  | _ => .int
abbrev wsX180 : List Cond := u_ws RX18 TX18 3
theorem nmX18 : ∀ a, a < 3 → ∀ b, b < 3 → a ≠ b → (TX18 a).2.1 ≠ (TX18 b).2.1 := by decide +kernel
theorem tyX18_ok : ∀ k, k < 3 → parseFieldDescriptor (TX18 k).2.2.1 = some (tyX18 k) := by decide +kernel
abbrev cX18_init : ByteArray := prog_5_method_1_code
def yX18_init : MethodName := ⟨RX18, "<init>", "(III)V"⟩
def dkwX18_init_0 : List UInt8 := [42, 27, 28, 29, 183, 0, 3, 177]
abbrev dktX18_init_0 : List UInt8 := dkwX18_init_0 ++ []
theorem dksX18_init_0 : cX18_init.data.toList.drop 0 = dktX18_init_0 := by decide +kernel
theorem dX18_init_0 : decode cX18_init 0 = .ok (.aload_n 0, 1) := dk_42 (dk_at dksX18_init_0 0 rfl rfl)
theorem dX18_init_1 : decode cX18_init 1 = .ok (.iload_n 1, 1) := dk_27 (dk_at dksX18_init_0 1 rfl rfl)
theorem dX18_init_2 : decode cX18_init 2 = .ok (.iload_n 2, 1) := dk_28 (dk_at dksX18_init_0 2 rfl rfl)
theorem dX18_init_3 : decode cX18_init 3 = .ok (.iload_n 3, 1) := dk_29 (dk_at dksX18_init_0 3 rfl rfl)
theorem dX18_init_4 : decode cX18_init 4 = .ok (.invokespecial 3, 3) := dk_183 0 3 (dk_at dksX18_init_0 4 rfl rfl)
theorem dX18_init_7 : decode cX18_init 7 = .ok (.return_, 1) := dk_177 (dk_at dksX18_init_0 7 rfl rfl)
abbrev cX18_isGood : ByteArray := prog_5_method_2_code
def yX18_isGood : MethodName := ⟨RX18, "isGood", "(LSongThatStays$Office;)Z"⟩
def dkwX18_isGood_1 : List UInt8 := [159, 0, 16, 43, 180, 0, 18, 16, 8, 162, 0, 7, 4, 167, 0, 4, 3, 172]
abbrev dktX18_isGood_1 : List UInt8 := dkwX18_isGood_1 ++ []
def dkwX18_isGood_0 : List UInt8 := [42, 180, 0, 9, 8, 162, 0, 35, 42, 180, 0, 15, 8, 162, 0, 27, 42, 180, 0, 9, 42, 180, 0, 15]
abbrev dktX18_isGood_0 : List UInt8 := dkwX18_isGood_0 ++ dktX18_isGood_1
theorem dksX18_isGood_0 : cX18_isGood.data.toList.drop 0 = dktX18_isGood_0 := by decide +kernel
theorem dksX18_isGood_1 : cX18_isGood.data.toList.drop 24 = dktX18_isGood_1 := dk_seg dksX18_isGood_0 24 rfl rfl
theorem dX18_isGood_0 : decode cX18_isGood 0 = .ok (.aload_n 0, 1) := dk_42 (dk_at dksX18_isGood_0 0 rfl rfl)
theorem dX18_isGood_1 : decode cX18_isGood 1 = .ok (.getfield 9, 3) := dk_180 0 9 (dk_at dksX18_isGood_0 1 rfl rfl)
theorem dX18_isGood_4 : decode cX18_isGood 4 = .ok (.iconst 5, 1) := dk_8 (dk_at dksX18_isGood_0 4 rfl rfl)
theorem dX18_isGood_5 : decode cX18_isGood 5 = .ok (.if_icmp .ge 35, 3) := dk_162 0 35 (dk_at dksX18_isGood_0 5 rfl rfl)
theorem dX18_isGood_8 : decode cX18_isGood 8 = .ok (.aload_n 0, 1) := dk_42 (dk_at dksX18_isGood_0 8 rfl rfl)
theorem dX18_isGood_9 : decode cX18_isGood 9 = .ok (.getfield 15, 3) := dk_180 0 15 (dk_at dksX18_isGood_0 9 rfl rfl)
theorem dX18_isGood_12 : decode cX18_isGood 12 = .ok (.iconst 5, 1) := dk_8 (dk_at dksX18_isGood_0 12 rfl rfl)
theorem dX18_isGood_13 : decode cX18_isGood 13 = .ok (.if_icmp .ge 27, 3) := dk_162 0 27 (dk_at dksX18_isGood_0 13 rfl rfl)
theorem dX18_isGood_16 : decode cX18_isGood 16 = .ok (.aload_n 0, 1) := dk_42 (dk_at dksX18_isGood_0 16 rfl rfl)
theorem dX18_isGood_17 : decode cX18_isGood 17 = .ok (.getfield 9, 3) := dk_180 0 9 (dk_at dksX18_isGood_0 17 rfl rfl)
theorem dX18_isGood_20 : decode cX18_isGood 20 = .ok (.aload_n 0, 1) := dk_42 (dk_at dksX18_isGood_0 20 rfl rfl)
theorem dX18_isGood_21 : decode cX18_isGood 21 = .ok (.getfield 15, 3) := dk_180 0 15 (dk_at dksX18_isGood_0 21 rfl rfl)
theorem dX18_isGood_24 : decode cX18_isGood 24 = .ok (.if_icmp .eq 16, 3) := dk_159 0 16 (dk_at dksX18_isGood_1 0 rfl rfl)
theorem dX18_isGood_27 : decode cX18_isGood 27 = .ok (.aload_n 1, 1) := dk_43 (dk_at dksX18_isGood_1 3 rfl rfl)
theorem dX18_isGood_28 : decode cX18_isGood 28 = .ok (.getfield 18, 3) := dk_180 0 18 (dk_at dksX18_isGood_1 4 rfl rfl)
theorem dX18_isGood_31 : decode cX18_isGood 31 = .ok (.bipush 8, 2) := dk_16 8 (dk_at dksX18_isGood_1 7 rfl rfl)
theorem dX18_isGood_33 : decode cX18_isGood 33 = .ok (.if_icmp .ge 7, 3) := dk_162 0 7 (dk_at dksX18_isGood_1 9 rfl rfl)
theorem dX18_isGood_36 : decode cX18_isGood 36 = .ok (.iconst 1, 1) := dk_4 (dk_at dksX18_isGood_1 12 rfl rfl)
theorem dX18_isGood_37 : decode cX18_isGood 37 = .ok (.goto 4, 3) := dk_167 0 4 (dk_at dksX18_isGood_1 13 rfl rfl)
theorem dX18_isGood_40 : decode cX18_isGood 40 = .ok (.iconst 0, 1) := dk_3 (dk_at dksX18_isGood_1 16 rfl rfl)
theorem dX18_isGood_41 : decode cX18_isGood 41 = .ok (.ireturn, 1) := dk_172 (dk_at dksX18_isGood_1 17 rfl rfl)
abbrev cX18_become : ByteArray := prog_5_method_3_code
def yX18_become : MethodName := ⟨RX18, "become", "(LSongThatStays$Office;)V"⟩
def dkwX18_become_2 : List UInt8 := [180, 0, 18, 4, 96, 181, 0, 18, 177]
abbrev dktX18_become_2 : List UInt8 := dkwX18_become_2 ++ []
def dkwX18_become_1 : List UInt8 := [180, 0, 15, 79, 43, 89, 180, 0, 30, 4, 43, 180, 0, 18, 120, 2, 130, 126, 181, 0, 30, 43, 89]
abbrev dktX18_become_1 : List UInt8 := dkwX18_become_1 ++ dktX18_become_2
def dkwX18_become_0 : List UInt8 := [43, 180, 0, 23, 43, 180, 0, 18, 42, 180, 0, 9, 79, 43, 180, 0, 27, 43, 180, 0, 18, 42]
abbrev dktX18_become_0 : List UInt8 := dkwX18_become_0 ++ dktX18_become_1
theorem dksX18_become_0 : cX18_become.data.toList.drop 0 = dktX18_become_0 := by decide +kernel
theorem dksX18_become_1 : cX18_become.data.toList.drop 22 = dktX18_become_1 := dk_seg dksX18_become_0 22 rfl rfl
theorem dksX18_become_2 : cX18_become.data.toList.drop 45 = dktX18_become_2 := dk_seg dksX18_become_1 23 rfl rfl
theorem dX18_become_0 : decode cX18_become 0 = .ok (.aload_n 1, 1) := dk_43 (dk_at dksX18_become_0 0 rfl rfl)
theorem dX18_become_1 : decode cX18_become 1 = .ok (.getfield 23, 3) := dk_180 0 23 (dk_at dksX18_become_0 1 rfl rfl)
theorem dX18_become_4 : decode cX18_become 4 = .ok (.aload_n 1, 1) := dk_43 (dk_at dksX18_become_0 4 rfl rfl)
theorem dX18_become_5 : decode cX18_become 5 = .ok (.getfield 18, 3) := dk_180 0 18 (dk_at dksX18_become_0 5 rfl rfl)
theorem dX18_become_8 : decode cX18_become 8 = .ok (.aload_n 0, 1) := dk_42 (dk_at dksX18_become_0 8 rfl rfl)
theorem dX18_become_9 : decode cX18_become 9 = .ok (.getfield 9, 3) := dk_180 0 9 (dk_at dksX18_become_0 9 rfl rfl)
theorem dX18_become_12 : decode cX18_become 12 = .ok (.iastore, 1) := dk_79 (dk_at dksX18_become_0 12 rfl rfl)
theorem dX18_become_13 : decode cX18_become 13 = .ok (.aload_n 1, 1) := dk_43 (dk_at dksX18_become_0 13 rfl rfl)
theorem dX18_become_14 : decode cX18_become 14 = .ok (.getfield 27, 3) := dk_180 0 27 (dk_at dksX18_become_0 14 rfl rfl)
theorem dX18_become_17 : decode cX18_become 17 = .ok (.aload_n 1, 1) := dk_43 (dk_at dksX18_become_0 17 rfl rfl)
theorem dX18_become_18 : decode cX18_become 18 = .ok (.getfield 18, 3) := dk_180 0 18 (dk_at dksX18_become_0 18 rfl rfl)
theorem dX18_become_21 : decode cX18_become 21 = .ok (.aload_n 0, 1) := dk_42 (dk_at dksX18_become_0 21 rfl rfl)
theorem dX18_become_22 : decode cX18_become 22 = .ok (.getfield 15, 3) := dk_180 0 15 (dk_at dksX18_become_1 0 rfl rfl)
theorem dX18_become_25 : decode cX18_become 25 = .ok (.iastore, 1) := dk_79 (dk_at dksX18_become_1 3 rfl rfl)
theorem dX18_become_26 : decode cX18_become 26 = .ok (.aload_n 1, 1) := dk_43 (dk_at dksX18_become_1 4 rfl rfl)
theorem dX18_become_27 : decode cX18_become 27 = .ok (.dup, 1) := dk_89 (dk_at dksX18_become_1 5 rfl rfl)
theorem dX18_become_28 : decode cX18_become 28 = .ok (.getfield 30, 3) := dk_180 0 30 (dk_at dksX18_become_1 6 rfl rfl)
theorem dX18_become_31 : decode cX18_become 31 = .ok (.iconst 1, 1) := dk_4 (dk_at dksX18_become_1 9 rfl rfl)
theorem dX18_become_32 : decode cX18_become 32 = .ok (.aload_n 1, 1) := dk_43 (dk_at dksX18_become_1 10 rfl rfl)
theorem dX18_become_33 : decode cX18_become 33 = .ok (.getfield 18, 3) := dk_180 0 18 (dk_at dksX18_become_1 11 rfl rfl)
theorem dX18_become_36 : decode cX18_become 36 = .ok (.ishl, 1) := dk_120 (dk_at dksX18_become_1 14 rfl rfl)
theorem dX18_become_37 : decode cX18_become 37 = .ok (.iconst (-1), 1) := dk_2 (dk_at dksX18_become_1 15 rfl rfl)
theorem dX18_become_38 : decode cX18_become 38 = .ok (.ixor, 1) := dk_130 (dk_at dksX18_become_1 16 rfl rfl)
theorem dX18_become_39 : decode cX18_become 39 = .ok (.iand, 1) := dk_126 (dk_at dksX18_become_1 17 rfl rfl)
theorem dX18_become_40 : decode cX18_become 40 = .ok (.putfield 30, 3) := dk_181 0 30 (dk_at dksX18_become_1 18 rfl rfl)
theorem dX18_become_43 : decode cX18_become 43 = .ok (.aload_n 1, 1) := dk_43 (dk_at dksX18_become_1 21 rfl rfl)
theorem dX18_become_44 : decode cX18_become 44 = .ok (.dup, 1) := dk_89 (dk_at dksX18_become_1 22 rfl rfl)
theorem dX18_become_45 : decode cX18_become 45 = .ok (.getfield 18, 3) := dk_180 0 18 (dk_at dksX18_become_2 0 rfl rfl)
theorem dX18_become_48 : decode cX18_become 48 = .ok (.iconst 1, 1) := dk_4 (dk_at dksX18_become_2 3 rfl rfl)
theorem dX18_become_49 : decode cX18_become 49 = .ok (.iadd, 1) := dk_96 (dk_at dksX18_become_2 4 rfl rfl)
theorem dX18_become_50 : decode cX18_become 50 = .ok (.putfield 18, 3) := dk_181 0 18 (dk_at dksX18_become_2 5 rfl rfl)
theorem dX18_become_53 : decode cX18_become 53 = .ok (.return_, 1) := dk_177 (dk_at dksX18_become_2 8 rfl rfl)
theorem q116 : (Jvm.Cond.initialized "SongThatStays$DoorTold") ∈ lw_all := lw_g (lw_at lw_m1 22 rfl) rfl
theorem q192 : (Jvm.Cond.fieldLinkNest "SongThatStays$DoorTold" (18 : Nat) "SongThatStays$Office" "doors" "I" "SongThatStays") ∈ lw_tbl := lw_at lw_m1 98 rfl
theorem q195 : (Jvm.Cond.fieldLinkNest "SongThatStays$DoorTold" (23 : Nat) "SongThatStays$Office" "from" "[I" "SongThatStays") ∈ lw_tbl := lw_at lw_m1 101 rfl
theorem q197 : (Jvm.Cond.fieldLinkNest "SongThatStays$DoorTold" (27 : Nat) "SongThatStays$Office" "to" "[I" "SongThatStays") ∈ lw_tbl := lw_at lw_m1 103 rfl
theorem q199 : (Jvm.Cond.fieldLinkNest "SongThatStays$DoorTold" (30 : Nat) "SongThatStays$Office" "shut" "I" "SongThatStays") ∈ lw_tbl := lw_at lw_m1 105 rfl
theorem q494 : (Jvm.Cond.fieldLink "SongThatStays$DoorTold" (9 : Nat) "SongThatStays$DoorTold" "first" "I") ∈ lw_all := lw_g (lw_at lw_m2 160 rfl) rfl
theorem q495 : (Jvm.Cond.sameField "SongThatStays$DoorTold" "SongThatStays$Told" "first" "I") ∈ lw_all := lw_g (lw_at lw_m2 161 rfl) rfl
theorem q507 : (Jvm.Cond.fieldLink "SongThatStays$DoorTold" (15 : Nat) "SongThatStays$DoorTold" "second" "I") ∈ lw_all := lw_g (lw_at lw_m2 173 rfl) rfl
theorem q508 : (Jvm.Cond.sameField "SongThatStays$DoorTold" "SongThatStays$Told" "second" "I") ∈ lw_all := lw_g (lw_at lw_m2 174 rfl) rfl
theorem q563 : (Jvm.Cond.instantiable "SongThatStays$DoorTold" (3 : Nat)) ∈ lw_all := lw_g (lw_at lw_m2 229 rfl) rfl
theorem q565 : (Jvm.Cond.instanceMethod ({ cls := "SongThatStays$DoorTold", name := "<init>", desc := "(III)V" } : Jvm.MethodName)) ∈ lw_all := lw_g (lw_at lw_m2 231 rfl) rfl
theorem q566 : (Jvm.Cond.code ({ cls := "SongThatStays$DoorTold", name := "<init>", desc := "(III)V" } : Jvm.MethodName) prog_5_method_1_code (4 : Nat) (Option.none : Option Jvm.ClassFile.FieldType)) ∈ lw_all := lw_g (lw_at lw_m2 232 rfl) rfl
theorem q567 : (Jvm.Cond.methodLink "SongThatStays$DoorTold" (3 : Nat) ({ cls := "SongThatStays$Told", name := "<init>", desc := "(III)V" } : Jvm.MethodName)) ∈ lw_all := lw_g (lw_at lw_m2 233 rfl) rfl
theorem q568 : (Jvm.Cond.laysFinal "SongThatStays$DoorTold" "SongThatStays$Told" "start" "I") ∈ lw_all := lw_g (lw_at lw_m2 234 rfl) rfl
theorem q569 : (Jvm.Cond.laysFinal "SongThatStays$DoorTold" "SongThatStays$Told" "first" "I") ∈ lw_all := lw_g (lw_at lw_m2 235 rfl) rfl
theorem q570 : (Jvm.Cond.laysFinal "SongThatStays$DoorTold" "SongThatStays$Told" "second" "I") ∈ lw_all := lw_g (lw_at lw_m2 236 rfl) rfl
theorem q571 : (Jvm.Cond.superclass "SongThatStays$DoorTold" "SongThatStays$Told") ∈ lw_all := lw_g (lw_at lw_m2 237 rfl) rfl
theorem q596 : (Jvm.Cond.selects "SongThatStays$DoorTold" ({ cls := "SongThatStays$Told", name := "comes", desc := "(LSongThatStays$Office;)Z" } : Jvm.MethodName) ({ cls := "SongThatStays$Told", name := "comes", desc := "(LSongThatStays$Office;)Z" } : Jvm.MethodName)) ∈ lw_all := lw_g (lw_at lw_m3 22 rfl) rfl
theorem q605 : (Jvm.Cond.selects "SongThatStays$DoorTold" ({ cls := "SongThatStays$Told", name := "isGood", desc := "(LSongThatStays$Office;)Z" } : Jvm.MethodName) ({ cls := "SongThatStays$DoorTold", name := "isGood", desc := "(LSongThatStays$Office;)Z" } : Jvm.MethodName)) ∈ lw_all := lw_g (lw_at lw_m3 31 rfl) rfl
theorem q606 : (Jvm.Cond.instanceMethod ({ cls := "SongThatStays$DoorTold", name := "isGood", desc := "(LSongThatStays$Office;)Z" } : Jvm.MethodName)) ∈ lw_all := lw_g (lw_at lw_m3 32 rfl) rfl
theorem q607 : (Jvm.Cond.code ({ cls := "SongThatStays$DoorTold", name := "isGood", desc := "(LSongThatStays$Office;)Z" } : Jvm.MethodName) prog_5_method_2_code (2 : Nat) (Option.some Jvm.ClassFile.FieldType.boolean)) ∈ lw_all := lw_g (lw_at lw_m3 33 rfl) rfl
theorem q625 : (Jvm.Cond.selects "SongThatStays$DoorTold" ({ cls := "SongThatStays$Told", name := "become", desc := "(LSongThatStays$Office;)V" } : Jvm.MethodName) ({ cls := "SongThatStays$DoorTold", name := "become", desc := "(LSongThatStays$Office;)V" } : Jvm.MethodName)) ∈ lw_all := lw_g (lw_at lw_m3 51 rfl) rfl
theorem q626 : (Jvm.Cond.instanceMethod ({ cls := "SongThatStays$DoorTold", name := "become", desc := "(LSongThatStays$Office;)V" } : Jvm.MethodName)) ∈ lw_all := lw_g (lw_at lw_m3 52 rfl) rfl
theorem q627 : (Jvm.Cond.code ({ cls := "SongThatStays$DoorTold", name := "become", desc := "(LSongThatStays$Office;)V" } : Jvm.MethodName) prog_5_method_3_code (2 : Nat) (Option.none : Option Jvm.ClassFile.FieldType)) ∈ lw_all := lw_g (lw_at lw_m3 53 rfl) rfl
theorem q1607 : (Jvm.Cond.castable "SongThatStays$DoorTold" "SongThatStays$Told") ∈ lw_tbl := lw_at lw_m7 73 rfl
theorem in_X18 : ∀ w ∈ wsX180, w ∈ lw_all := lw_in wsX180 [568, 569, 570] (by decide +kernel) (by decide +kernel)
/-! SongThatStays$GotTold -/
set_option maxRecDepth 100000
def RX19 : String := "SongThatStays$GotTold"
def TX19 : u_T := fun k => match k with
  | 0 => ("SongThatStays$Told", "start", "I", true)
  | 1 => ("SongThatStays$Told", "first", "I", true)
  | _ => ("SongThatStays$Told", "second", "I", true)
def tyX19 : Nat → FieldType := fun k => match k with
  | 0 => .int
  | 1 => .int
  | _ => .int
abbrev wsX190 : List Cond := u_ws RX19 TX19 3
theorem nmX19 : ∀ a, a < 3 → ∀ b, b < 3 → a ≠ b → (TX19 a).2.1 ≠ (TX19 b).2.1 := by decide +kernel
theorem tyX19_ok : ∀ k, k < 3 → parseFieldDescriptor (TX19 k).2.2.1 = some (tyX19 k) := by decide +kernel
abbrev cX19_init : ByteArray := prog_7_method_1_code
def yX19_init : MethodName := ⟨RX19, "<init>", "(III)V"⟩
def dkwX19_init_0 : List UInt8 := [42, 27, 28, 29, 183, 0, 1, 177]
abbrev dktX19_init_0 : List UInt8 := dkwX19_init_0 ++ []
theorem dksX19_init_0 : cX19_init.data.toList.drop 0 = dktX19_init_0 := by decide +kernel
theorem dX19_init_0 : decode cX19_init 0 = .ok (.aload_n 0, 1) := dk_42 (dk_at dksX19_init_0 0 rfl rfl)
theorem dX19_init_1 : decode cX19_init 1 = .ok (.iload_n 1, 1) := dk_27 (dk_at dksX19_init_0 1 rfl rfl)
theorem dX19_init_2 : decode cX19_init 2 = .ok (.iload_n 2, 1) := dk_28 (dk_at dksX19_init_0 2 rfl rfl)
theorem dX19_init_3 : decode cX19_init 3 = .ok (.iload_n 3, 1) := dk_29 (dk_at dksX19_init_0 3 rfl rfl)
theorem dX19_init_4 : decode cX19_init 4 = .ok (.invokespecial 1, 3) := dk_183 0 1 (dk_at dksX19_init_0 4 rfl rfl)
theorem dX19_init_7 : decode cX19_init 7 = .ok (.return_, 1) := dk_177 (dk_at dksX19_init_0 7 rfl rfl)
abbrev cX19_isGood : ByteArray := prog_7_method_2_code
def yX19_isGood : MethodName := ⟨RX19, "isGood", "(LSongThatStays$Office;)Z"⟩
def dkwX19_isGood_1 : List UInt8 := [167, 0, 4, 3, 172]
abbrev dktX19_isGood_1 : List UInt8 := dkwX19_isGood_1 ++ []
def dkwX19_isGood_0 : List UInt8 := [42, 180, 0, 7, 43, 180, 0, 13, 162, 0, 18, 42, 180, 0, 18, 43, 180, 0, 21, 162, 0, 7, 4]
abbrev dktX19_isGood_0 : List UInt8 := dkwX19_isGood_0 ++ dktX19_isGood_1
theorem dksX19_isGood_0 : cX19_isGood.data.toList.drop 0 = dktX19_isGood_0 := by decide +kernel
theorem dksX19_isGood_1 : cX19_isGood.data.toList.drop 23 = dktX19_isGood_1 := dk_seg dksX19_isGood_0 23 rfl rfl
theorem dX19_isGood_0 : decode cX19_isGood 0 = .ok (.aload_n 0, 1) := dk_42 (dk_at dksX19_isGood_0 0 rfl rfl)
theorem dX19_isGood_1 : decode cX19_isGood 1 = .ok (.getfield 7, 3) := dk_180 0 7 (dk_at dksX19_isGood_0 1 rfl rfl)
theorem dX19_isGood_4 : decode cX19_isGood 4 = .ok (.aload_n 1, 1) := dk_43 (dk_at dksX19_isGood_0 4 rfl rfl)
theorem dX19_isGood_5 : decode cX19_isGood 5 = .ok (.getfield 13, 3) := dk_180 0 13 (dk_at dksX19_isGood_0 5 rfl rfl)
theorem dX19_isGood_8 : decode cX19_isGood 8 = .ok (.if_icmp .ge 18, 3) := dk_162 0 18 (dk_at dksX19_isGood_0 8 rfl rfl)
theorem dX19_isGood_11 : decode cX19_isGood 11 = .ok (.aload_n 0, 1) := dk_42 (dk_at dksX19_isGood_0 11 rfl rfl)
theorem dX19_isGood_12 : decode cX19_isGood 12 = .ok (.getfield 18, 3) := dk_180 0 18 (dk_at dksX19_isGood_0 12 rfl rfl)
theorem dX19_isGood_15 : decode cX19_isGood 15 = .ok (.aload_n 1, 1) := dk_43 (dk_at dksX19_isGood_0 15 rfl rfl)
theorem dX19_isGood_16 : decode cX19_isGood 16 = .ok (.getfield 21, 3) := dk_180 0 21 (dk_at dksX19_isGood_0 16 rfl rfl)
theorem dX19_isGood_19 : decode cX19_isGood 19 = .ok (.if_icmp .ge 7, 3) := dk_162 0 7 (dk_at dksX19_isGood_0 19 rfl rfl)
theorem dX19_isGood_22 : decode cX19_isGood 22 = .ok (.iconst 1, 1) := dk_4 (dk_at dksX19_isGood_0 22 rfl rfl)
theorem dX19_isGood_23 : decode cX19_isGood 23 = .ok (.goto 4, 3) := dk_167 0 4 (dk_at dksX19_isGood_1 0 rfl rfl)
theorem dX19_isGood_26 : decode cX19_isGood 26 = .ok (.iconst 0, 1) := dk_3 (dk_at dksX19_isGood_1 3 rfl rfl)
theorem dX19_isGood_27 : decode cX19_isGood 27 = .ok (.ireturn, 1) := dk_172 (dk_at dksX19_isGood_1 4 rfl rfl)
abbrev cX19_become : ByteArray := prog_7_method_3_code
def yX19_become : MethodName := ⟨RX19, "become", "(LSongThatStays$Office;)V"⟩
def dkwX19_become_0 : List UInt8 := [43, 42, 180, 0, 7, 42, 180, 0, 18, 182, 0, 24, 177]
abbrev dktX19_become_0 : List UInt8 := dkwX19_become_0 ++ []
theorem dksX19_become_0 : cX19_become.data.toList.drop 0 = dktX19_become_0 := by decide +kernel
theorem dX19_become_0 : decode cX19_become 0 = .ok (.aload_n 1, 1) := dk_43 (dk_at dksX19_become_0 0 rfl rfl)
theorem dX19_become_1 : decode cX19_become 1 = .ok (.aload_n 0, 1) := dk_42 (dk_at dksX19_become_0 1 rfl rfl)
theorem dX19_become_2 : decode cX19_become 2 = .ok (.getfield 7, 3) := dk_180 0 7 (dk_at dksX19_become_0 2 rfl rfl)
theorem dX19_become_5 : decode cX19_become 5 = .ok (.aload_n 0, 1) := dk_42 (dk_at dksX19_become_0 5 rfl rfl)
theorem dX19_become_6 : decode cX19_become 6 = .ok (.getfield 18, 3) := dk_180 0 18 (dk_at dksX19_become_0 6 rfl rfl)
theorem dX19_become_9 : decode cX19_become 9 = .ok (.invokevirtual 24, 3) := dk_182 0 24 (dk_at dksX19_become_0 9 rfl rfl)
theorem dX19_become_12 : decode cX19_become 12 = .ok (.return_, 1) := dk_177 (dk_at dksX19_become_0 12 rfl rfl)
theorem q117 : (Jvm.Cond.initialized "SongThatStays$GotTold") ∈ lw_all := lw_g (lw_at lw_m1 23 rfl) rfl
theorem q202 : (Jvm.Cond.fieldLinkNest "SongThatStays$GotTold" (21 : Nat) "SongThatStays$Office" "songs" "I" "SongThatStays") ∈ lw_tbl := lw_at lw_m1 108 rfl
theorem q208 : (Jvm.Cond.fieldLinkNest "SongThatStays$GotTold" (13 : Nat) "SongThatStays$Office" "heads" "I" "SongThatStays") ∈ lw_tbl := lw_at lw_m1 114 rfl
theorem q496 : (Jvm.Cond.fieldLink "SongThatStays$GotTold" (7 : Nat) "SongThatStays$GotTold" "first" "I") ∈ lw_all := lw_g (lw_at lw_m2 162 rfl) rfl
theorem q497 : (Jvm.Cond.sameField "SongThatStays$GotTold" "SongThatStays$Told" "first" "I") ∈ lw_all := lw_g (lw_at lw_m2 163 rfl) rfl
theorem q509 : (Jvm.Cond.fieldLink "SongThatStays$GotTold" (18 : Nat) "SongThatStays$GotTold" "second" "I") ∈ lw_all := lw_g (lw_at lw_m2 175 rfl) rfl
theorem q510 : (Jvm.Cond.sameField "SongThatStays$GotTold" "SongThatStays$Told" "second" "I") ∈ lw_all := lw_g (lw_at lw_m2 176 rfl) rfl
theorem q573 : (Jvm.Cond.instantiable "SongThatStays$GotTold" (3 : Nat)) ∈ lw_all := lw_g (lw_at lw_m2 239 rfl) rfl
theorem q575 : (Jvm.Cond.instanceMethod ({ cls := "SongThatStays$GotTold", name := "<init>", desc := "(III)V" } : Jvm.MethodName)) ∈ lw_all := lw_g (lw_at lw_m3 1 rfl) rfl
theorem q576 : (Jvm.Cond.code ({ cls := "SongThatStays$GotTold", name := "<init>", desc := "(III)V" } : Jvm.MethodName) prog_7_method_1_code (4 : Nat) (Option.none : Option Jvm.ClassFile.FieldType)) ∈ lw_all := lw_g (lw_at lw_m3 2 rfl) rfl
theorem q577 : (Jvm.Cond.methodLink "SongThatStays$GotTold" (1 : Nat) ({ cls := "SongThatStays$Told", name := "<init>", desc := "(III)V" } : Jvm.MethodName)) ∈ lw_all := lw_g (lw_at lw_m3 3 rfl) rfl
theorem q578 : (Jvm.Cond.laysFinal "SongThatStays$GotTold" "SongThatStays$Told" "start" "I") ∈ lw_all := lw_g (lw_at lw_m3 4 rfl) rfl
theorem q579 : (Jvm.Cond.laysFinal "SongThatStays$GotTold" "SongThatStays$Told" "first" "I") ∈ lw_all := lw_g (lw_at lw_m3 5 rfl) rfl
theorem q580 : (Jvm.Cond.laysFinal "SongThatStays$GotTold" "SongThatStays$Told" "second" "I") ∈ lw_all := lw_g (lw_at lw_m3 6 rfl) rfl
theorem q581 : (Jvm.Cond.superclass "SongThatStays$GotTold" "SongThatStays$Told") ∈ lw_all := lw_g (lw_at lw_m3 7 rfl) rfl
theorem q597 : (Jvm.Cond.selects "SongThatStays$GotTold" ({ cls := "SongThatStays$Told", name := "comes", desc := "(LSongThatStays$Office;)Z" } : Jvm.MethodName) ({ cls := "SongThatStays$Told", name := "comes", desc := "(LSongThatStays$Office;)Z" } : Jvm.MethodName)) ∈ lw_all := lw_g (lw_at lw_m3 23 rfl) rfl
theorem q608 : (Jvm.Cond.selects "SongThatStays$GotTold" ({ cls := "SongThatStays$Told", name := "isGood", desc := "(LSongThatStays$Office;)Z" } : Jvm.MethodName) ({ cls := "SongThatStays$GotTold", name := "isGood", desc := "(LSongThatStays$Office;)Z" } : Jvm.MethodName)) ∈ lw_all := lw_g (lw_at lw_m3 34 rfl) rfl
theorem q609 : (Jvm.Cond.instanceMethod ({ cls := "SongThatStays$GotTold", name := "isGood", desc := "(LSongThatStays$Office;)Z" } : Jvm.MethodName)) ∈ lw_all := lw_g (lw_at lw_m3 35 rfl) rfl
theorem q610 : (Jvm.Cond.code ({ cls := "SongThatStays$GotTold", name := "isGood", desc := "(LSongThatStays$Office;)Z" } : Jvm.MethodName) prog_7_method_2_code (2 : Nat) (Option.some Jvm.ClassFile.FieldType.boolean)) ∈ lw_all := lw_g (lw_at lw_m3 36 rfl) rfl
theorem q628 : (Jvm.Cond.selects "SongThatStays$GotTold" ({ cls := "SongThatStays$Told", name := "become", desc := "(LSongThatStays$Office;)V" } : Jvm.MethodName) ({ cls := "SongThatStays$GotTold", name := "become", desc := "(LSongThatStays$Office;)V" } : Jvm.MethodName)) ∈ lw_all := lw_g (lw_at lw_m3 54 rfl) rfl
theorem q629 : (Jvm.Cond.instanceMethod ({ cls := "SongThatStays$GotTold", name := "become", desc := "(LSongThatStays$Office;)V" } : Jvm.MethodName)) ∈ lw_all := lw_g (lw_at lw_m3 55 rfl) rfl
theorem q630 : (Jvm.Cond.code ({ cls := "SongThatStays$GotTold", name := "become", desc := "(LSongThatStays$Office;)V" } : Jvm.MethodName) prog_7_method_3_code (2 : Nat) (Option.none : Option Jvm.ClassFile.FieldType)) ∈ lw_all := lw_g (lw_at lw_m3 56 rfl) rfl
theorem q631 : (Jvm.Cond.methodLink "SongThatStays$GotTold" (24 : Nat) ({ cls := "SongThatStays$Office", name := "get", desc := "(II)V" } : Jvm.MethodName)) ∈ lw_all := lw_g (lw_at lw_m3 57 rfl) rfl
theorem q1608 : (Jvm.Cond.castable "SongThatStays$GotTold" "SongThatStays$Told") ∈ lw_tbl := lw_at lw_m7 74 rfl
theorem in_X19 : ∀ w ∈ wsX190, w ∈ lw_all := lw_in wsX190 [578, 579, 580] (by decide +kernel) (by decide +kernel)
/-! SongThatStays$Song -/
set_option maxRecDepth 100000
def RX20 : String := "SongThatStays$Song"
abbrev cX20_init : ByteArray := prog_21_method_1_code
def yX20_init : MethodName := ⟨RX20, "<init>", "(II)V"⟩
def dkwX20_init_0 : List UInt8 := [42, 183, 0, 1, 42, 27, 181, 0, 7, 42, 28, 181, 0, 13, 177]
abbrev dktX20_init_0 : List UInt8 := dkwX20_init_0 ++ []
theorem dksX20_init_0 : cX20_init.data.toList.drop 0 = dktX20_init_0 := by decide +kernel
theorem dX20_init_0 : decode cX20_init 0 = .ok (.aload_n 0, 1) := dk_42 (dk_at dksX20_init_0 0 rfl rfl)
theorem dX20_init_1 : decode cX20_init 1 = .ok (.invokespecial 1, 3) := dk_183 0 1 (dk_at dksX20_init_0 1 rfl rfl)
theorem dX20_init_4 : decode cX20_init 4 = .ok (.aload_n 0, 1) := dk_42 (dk_at dksX20_init_0 4 rfl rfl)
theorem dX20_init_5 : decode cX20_init 5 = .ok (.iload_n 1, 1) := dk_27 (dk_at dksX20_init_0 5 rfl rfl)
theorem dX20_init_6 : decode cX20_init 6 = .ok (.putfield 7, 3) := dk_181 0 7 (dk_at dksX20_init_0 6 rfl rfl)
theorem dX20_init_9 : decode cX20_init 9 = .ok (.aload_n 0, 1) := dk_42 (dk_at dksX20_init_0 9 rfl rfl)
theorem dX20_init_10 : decode cX20_init 10 = .ok (.iload_n 2, 1) := dk_28 (dk_at dksX20_init_0 10 rfl rfl)
theorem dX20_init_11 : decode cX20_init 11 = .ok (.putfield 13, 3) := dk_181 0 13 (dk_at dksX20_init_0 11 rfl rfl)
theorem dX20_init_14 : decode cX20_init 14 = .ok (.return_, 1) := dk_177 (dk_at dksX20_init_0 14 rfl rfl)
theorem q120 : (Jvm.Cond.initialized "SongThatStays$Song") ∈ lw_all := lw_g (lw_at lw_m1 26 rfl) rfl
theorem q636 : (Jvm.Cond.declares ({ cls := "SongThatStays$Song", name := "fresh", desc := "()I" } : Jvm.MethodName)) ∈ lw_tbl := lw_at lw_m3 62 rfl
theorem q637 : (Jvm.Cond.sameMethod "SongThatStays$Song" "SongThatStays$Song" "fresh" "()I") ∈ lw_all := lw_g (lw_at lw_m3 63 rfl) rfl
theorem q676 : (Jvm.Cond.instanceMethod ({ cls := "SongThatStays$Song", name := "<init>", desc := "(II)V" } : Jvm.MethodName)) ∈ lw_all := lw_g (lw_at lw_m3 102 rfl) rfl
theorem q677 : (Jvm.Cond.code ({ cls := "SongThatStays$Song", name := "<init>", desc := "(II)V" } : Jvm.MethodName) prog_21_method_1_code (3 : Nat) (Option.none : Option Jvm.ClassFile.FieldType)) ∈ lw_all := lw_g (lw_at lw_m3 103 rfl) rfl
theorem q678 : (Jvm.Cond.methodLink "SongThatStays$Song" (1 : Nat) ({ cls := "java/lang/Object", name := "<init>", desc := "()V" } : Jvm.MethodName)) ∈ lw_all := lw_g (lw_at lw_m3 104 rfl) rfl
theorem q679 : (Jvm.Cond.fieldLink "SongThatStays$Song" (7 : Nat) "SongThatStays$Song" "pull" "I") ∈ lw_all := lw_g (lw_at lw_m3 105 rfl) rfl
theorem q684 : (Jvm.Cond.fieldLink "SongThatStays$Song" (13 : Nat) "SongThatStays$Song" "length" "I") ∈ lw_all := lw_g (lw_at lw_m3 110 rfl) rfl
theorem q689 : (Jvm.Cond.soleField "SongThatStays$Song" "pull") ∈ lw_all := lw_g (lw_at lw_m3 115 rfl) rfl
theorem q691 : (Jvm.Cond.soleField "SongThatStays$Song" "length") ∈ lw_all := lw_g (lw_at lw_m3 117 rfl) rfl
theorem q752 : (Jvm.Cond.declares ({ cls := "SongThatStays$Song", name := "kind", desc := "()I" } : Jvm.MethodName)) ∈ lw_tbl := lw_at lw_m3 178 rfl
theorem q753 : (Jvm.Cond.sameMethod "SongThatStays$Song" "SongThatStays$Song" "kind" "()I") ∈ lw_all := lw_g (lw_at lw_m3 179 rfl) rfl
theorem q931 : (Jvm.Cond.declares ({ cls := "SongThatStays$Song", name := "fades", desc := "(I)I" } : Jvm.MethodName)) ∈ lw_tbl := lw_at lw_m4 117 rfl
theorem q932 : (Jvm.Cond.sameMethod "SongThatStays$Song" "SongThatStays$Song" "fades" "(I)I") ∈ lw_all := lw_g (lw_at lw_m4 118 rfl) rfl
/-! SongThatStays$Plain -/
set_option maxRecDepth 100000
def RX21 : String := "SongThatStays$Plain"
def TX21 : u_T := fun k => match k with
  | 0 => ("SongThatStays$Song", "pull", "I", true)
  | _ => ("SongThatStays$Song", "length", "I", true)
def tyX21 : Nat → FieldType := fun k => match k with
  | 0 => .int
  | _ => .int
abbrev wsX210 : List Cond := u_ws RX21 TX21 2
theorem nmX21 : ∀ a, a < 2 → ∀ b, b < 2 → a ≠ b → (TX21 a).2.1 ≠ (TX21 b).2.1 := by decide +kernel
theorem tyX21_ok : ∀ k, k < 2 → parseFieldDescriptor (TX21 k).2.2.1 = some (tyX21 k) := by decide +kernel
abbrev cX21_fresh : ByteArray := prog_16_method_3_code
def yX21_fresh : MethodName := ⟨RX21, "fresh", "()I"⟩
def dkwX21_fresh_0 : List UInt8 := [5, 42, 180, 0, 7, 104, 42, 180, 0, 13, 96, 172]
abbrev dktX21_fresh_0 : List UInt8 := dkwX21_fresh_0 ++ []
theorem dksX21_fresh_0 : cX21_fresh.data.toList.drop 0 = dktX21_fresh_0 := by decide +kernel
theorem dX21_fresh_0 : decode cX21_fresh 0 = .ok (.iconst 2, 1) := dk_5 (dk_at dksX21_fresh_0 0 rfl rfl)
theorem dX21_fresh_1 : decode cX21_fresh 1 = .ok (.aload_n 0, 1) := dk_42 (dk_at dksX21_fresh_0 1 rfl rfl)
theorem dX21_fresh_2 : decode cX21_fresh 2 = .ok (.getfield 7, 3) := dk_180 0 7 (dk_at dksX21_fresh_0 2 rfl rfl)
theorem dX21_fresh_5 : decode cX21_fresh 5 = .ok (.imul, 1) := dk_104 (dk_at dksX21_fresh_0 5 rfl rfl)
theorem dX21_fresh_6 : decode cX21_fresh 6 = .ok (.aload_n 0, 1) := dk_42 (dk_at dksX21_fresh_0 6 rfl rfl)
theorem dX21_fresh_7 : decode cX21_fresh 7 = .ok (.getfield 13, 3) := dk_180 0 13 (dk_at dksX21_fresh_0 7 rfl rfl)
theorem dX21_fresh_10 : decode cX21_fresh 10 = .ok (.iadd, 1) := dk_96 (dk_at dksX21_fresh_0 10 rfl rfl)
theorem dX21_fresh_11 : decode cX21_fresh 11 = .ok (.ireturn, 1) := dk_172 (dk_at dksX21_fresh_0 11 rfl rfl)
abbrev cX21_init : ByteArray := prog_16_method_1_code
def yX21_init : MethodName := ⟨RX21, "<init>", "(II)V"⟩
def dkwX21_init_0 : List UInt8 := [42, 27, 28, 183, 0, 1, 177]
abbrev dktX21_init_0 : List UInt8 := dkwX21_init_0 ++ []
theorem dksX21_init_0 : cX21_init.data.toList.drop 0 = dktX21_init_0 := by decide +kernel
theorem dX21_init_0 : decode cX21_init 0 = .ok (.aload_n 0, 1) := dk_42 (dk_at dksX21_init_0 0 rfl rfl)
theorem dX21_init_1 : decode cX21_init 1 = .ok (.iload_n 1, 1) := dk_27 (dk_at dksX21_init_0 1 rfl rfl)
theorem dX21_init_2 : decode cX21_init 2 = .ok (.iload_n 2, 1) := dk_28 (dk_at dksX21_init_0 2 rfl rfl)
theorem dX21_init_3 : decode cX21_init 3 = .ok (.invokespecial 1, 3) := dk_183 0 1 (dk_at dksX21_init_0 3 rfl rfl)
theorem dX21_init_6 : decode cX21_init 6 = .ok (.return_, 1) := dk_177 (dk_at dksX21_init_0 6 rfl rfl)
abbrev cX21_kind : ByteArray := prog_16_method_2_code
def yX21_kind : MethodName := ⟨RX21, "kind", "()I"⟩
theorem dX21_kind_0 : decode cX21_kind 0 = .ok (.iconst 0, 1) := by decide +kernel
theorem dX21_kind_1 : decode cX21_kind 1 = .ok (.ireturn, 1) := by decide +kernel
abbrev cX21_fades : ByteArray := prog_16_method_4_code
def yX21_fades : MethodName := ⟨RX21, "fades", "(I)I"⟩
theorem dX21_fades_0 : decode cX21_fades 0 = .ok (.iconst 2, 1) := by decide +kernel
theorem dX21_fades_1 : decode cX21_fades 1 = .ok (.ireturn, 1) := by decide +kernel
theorem q121 : (Jvm.Cond.initialized "SongThatStays$Plain") ∈ lw_all := lw_g (lw_at lw_m1 27 rfl) rfl
theorem q639 : (Jvm.Cond.instanceMethod ({ cls := "SongThatStays$Plain", name := "fresh", desc := "()I" } : Jvm.MethodName)) ∈ lw_all := lw_g (lw_at lw_m3 65 rfl) rfl
theorem q640 : (Jvm.Cond.code ({ cls := "SongThatStays$Plain", name := "fresh", desc := "()I" } : Jvm.MethodName) prog_16_method_3_code (1 : Nat) (Option.some Jvm.ClassFile.FieldType.int)) ∈ lw_all := lw_g (lw_at lw_m3 66 rfl) rfl
theorem q652 : (Jvm.Cond.selects "SongThatStays$Plain" ({ cls := "SongThatStays$Song", name := "fresh", desc := "()I" } : Jvm.MethodName) ({ cls := "SongThatStays$Plain", name := "fresh", desc := "()I" } : Jvm.MethodName)) ∈ lw_all := lw_g (lw_at lw_m3 78 rfl) rfl
theorem q671 : (Jvm.Cond.instantiable "SongThatStays$Plain" (2 : Nat)) ∈ lw_all := lw_g (lw_at lw_m3 97 rfl) rfl
theorem q673 : (Jvm.Cond.instanceMethod ({ cls := "SongThatStays$Plain", name := "<init>", desc := "(II)V" } : Jvm.MethodName)) ∈ lw_all := lw_g (lw_at lw_m3 99 rfl) rfl
theorem q674 : (Jvm.Cond.code ({ cls := "SongThatStays$Plain", name := "<init>", desc := "(II)V" } : Jvm.MethodName) prog_16_method_1_code (3 : Nat) (Option.none : Option Jvm.ClassFile.FieldType)) ∈ lw_all := lw_g (lw_at lw_m3 100 rfl) rfl
theorem q675 : (Jvm.Cond.methodLink "SongThatStays$Plain" (1 : Nat) ({ cls := "SongThatStays$Song", name := "<init>", desc := "(II)V" } : Jvm.MethodName)) ∈ lw_all := lw_g (lw_at lw_m3 101 rfl) rfl
theorem q680 : (Jvm.Cond.fieldLink "SongThatStays$Plain" (7 : Nat) "SongThatStays$Plain" "pull" "I") ∈ lw_all := lw_g (lw_at lw_m3 106 rfl) rfl
theorem q681 : (Jvm.Cond.sameField "SongThatStays$Plain" "SongThatStays$Song" "pull" "I") ∈ lw_all := lw_g (lw_at lw_m3 107 rfl) rfl
theorem q685 : (Jvm.Cond.fieldLink "SongThatStays$Plain" (13 : Nat) "SongThatStays$Plain" "length" "I") ∈ lw_all := lw_g (lw_at lw_m3 111 rfl) rfl
theorem q686 : (Jvm.Cond.sameField "SongThatStays$Plain" "SongThatStays$Song" "length" "I") ∈ lw_all := lw_g (lw_at lw_m3 112 rfl) rfl
theorem q688 : (Jvm.Cond.laysFinal "SongThatStays$Plain" "SongThatStays$Song" "pull" "I") ∈ lw_all := lw_g (lw_at lw_m3 114 rfl) rfl
theorem q690 : (Jvm.Cond.laysFinal "SongThatStays$Plain" "SongThatStays$Song" "length" "I") ∈ lw_all := lw_g (lw_at lw_m3 116 rfl) rfl
theorem q692 : (Jvm.Cond.superclass "SongThatStays$Plain" "SongThatStays$Song") ∈ lw_all := lw_g (lw_at lw_m3 118 rfl) rfl
theorem q766 : (Jvm.Cond.selects "SongThatStays$Plain" ({ cls := "SongThatStays$Song", name := "kind", desc := "()I" } : Jvm.MethodName) ({ cls := "SongThatStays$Plain", name := "kind", desc := "()I" } : Jvm.MethodName)) ∈ lw_all := lw_g (lw_at lw_m3 192 rfl) rfl
theorem q767 : (Jvm.Cond.instanceMethod ({ cls := "SongThatStays$Plain", name := "kind", desc := "()I" } : Jvm.MethodName)) ∈ lw_all := lw_g (lw_at lw_m3 193 rfl) rfl
theorem q768 : (Jvm.Cond.code ({ cls := "SongThatStays$Plain", name := "kind", desc := "()I" } : Jvm.MethodName) prog_16_method_2_code (1 : Nat) (Option.some Jvm.ClassFile.FieldType.int)) ∈ lw_all := lw_g (lw_at lw_m3 194 rfl) rfl
theorem q940 : (Jvm.Cond.instanceMethod ({ cls := "SongThatStays$Plain", name := "fades", desc := "(I)I" } : Jvm.MethodName)) ∈ lw_all := lw_g (lw_at lw_m4 126 rfl) rfl
theorem q941 : (Jvm.Cond.code ({ cls := "SongThatStays$Plain", name := "fades", desc := "(I)I" } : Jvm.MethodName) prog_16_method_4_code (2 : Nat) (Option.some Jvm.ClassFile.FieldType.int)) ∈ lw_all := lw_g (lw_at lw_m4 127 rfl) rfl
theorem q954 : (Jvm.Cond.selects "SongThatStays$Plain" ({ cls := "SongThatStays$Song", name := "fades", desc := "(I)I" } : Jvm.MethodName) ({ cls := "SongThatStays$Plain", name := "fades", desc := "(I)I" } : Jvm.MethodName)) ∈ lw_all := lw_g (lw_at lw_m4 140 rfl) rfl
theorem q1582 : (Jvm.Cond.sameMethod "SongThatStays$Plain" "SongThatStays$Plain" "fresh" "()I") ∈ lw_all := lw_g (lw_at lw_m7 48 rfl) rfl
theorem q1588 : (Jvm.Cond.sameMethod "SongThatStays$Plain" "SongThatStays$Plain" "fades" "(I)I") ∈ lw_all := lw_g (lw_at lw_m7 54 rfl) rfl
theorem q1598 : (Jvm.Cond.castable "SongThatStays$Plain" "SongThatStays$Song") ∈ lw_tbl := lw_at lw_m7 64 rfl
theorem in_X21 : ∀ w ∈ wsX210, w ∈ lw_all := lw_in wsX210 [688, 690] (by decide +kernel) (by decide +kernel)
/-! SongThatStays$Looping -/
set_option maxRecDepth 100000
def RX22 : String := "SongThatStays$Looping"
def TX22 : u_T := fun k => match k with
  | 0 => ("SongThatStays$Song", "pull", "I", true)
  | _ => ("SongThatStays$Song", "length", "I", true)
def tyX22 : Nat → FieldType := fun k => match k with
  | 0 => .int
  | _ => .int
abbrev wsX220 : List Cond := u_ws RX22 TX22 2
theorem nmX22 : ∀ a, a < 2 → ∀ b, b < 2 → a ≠ b → (TX22 a).2.1 ≠ (TX22 b).2.1 := by decide +kernel
theorem tyX22_ok : ∀ k, k < 2 → parseFieldDescriptor (TX22 k).2.2.1 = some (tyX22 k) := by decide +kernel
abbrev cX22_init : ByteArray := prog_13_method_1_code
def yX22_init : MethodName := ⟨RX22, "<init>", "(II)V"⟩
def dkwX22_init_0 : List UInt8 := [42, 27, 28, 183, 0, 1, 177]
abbrev dktX22_init_0 : List UInt8 := dkwX22_init_0 ++ []
theorem dksX22_init_0 : cX22_init.data.toList.drop 0 = dktX22_init_0 := by decide +kernel
theorem dX22_init_0 : decode cX22_init 0 = .ok (.aload_n 0, 1) := dk_42 (dk_at dksX22_init_0 0 rfl rfl)
theorem dX22_init_1 : decode cX22_init 1 = .ok (.iload_n 1, 1) := dk_27 (dk_at dksX22_init_0 1 rfl rfl)
theorem dX22_init_2 : decode cX22_init 2 = .ok (.iload_n 2, 1) := dk_28 (dk_at dksX22_init_0 2 rfl rfl)
theorem dX22_init_3 : decode cX22_init 3 = .ok (.invokespecial 1, 3) := dk_183 0 1 (dk_at dksX22_init_0 3 rfl rfl)
theorem dX22_init_6 : decode cX22_init 6 = .ok (.return_, 1) := dk_177 (dk_at dksX22_init_0 6 rfl rfl)
abbrev cX22_kind : ByteArray := prog_13_method_2_code
def yX22_kind : MethodName := ⟨RX22, "kind", "()I"⟩
theorem dX22_kind_0 : decode cX22_kind 0 = .ok (.iconst 1, 1) := by decide +kernel
theorem dX22_kind_1 : decode cX22_kind 1 = .ok (.ireturn, 1) := by decide +kernel
abbrev cX22_fades : ByteArray := prog_13_method_3_code
def yX22_fades : MethodName := ⟨RX22, "fades", "(I)I"⟩
def dkwX22_fades_0 : List UInt8 := [42, 27, 183, 0, 7, 4, 100, 172]
abbrev dktX22_fades_0 : List UInt8 := dkwX22_fades_0 ++ []
theorem dksX22_fades_0 : cX22_fades.data.toList.drop 0 = dktX22_fades_0 := by decide +kernel
theorem dX22_fades_0 : decode cX22_fades 0 = .ok (.aload_n 0, 1) := dk_42 (dk_at dksX22_fades_0 0 rfl rfl)
theorem dX22_fades_1 : decode cX22_fades 1 = .ok (.iload_n 1, 1) := dk_27 (dk_at dksX22_fades_0 1 rfl rfl)
theorem dX22_fades_2 : decode cX22_fades 2 = .ok (.invokespecial 7, 3) := dk_183 0 7 (dk_at dksX22_fades_0 2 rfl rfl)
theorem dX22_fades_5 : decode cX22_fades 5 = .ok (.iconst 1, 1) := dk_4 (dk_at dksX22_fades_0 5 rfl rfl)
theorem dX22_fades_6 : decode cX22_fades 6 = .ok (.isub, 1) := dk_100 (dk_at dksX22_fades_0 6 rfl rfl)
theorem dX22_fades_7 : decode cX22_fades 7 = .ok (.ireturn, 1) := dk_172 (dk_at dksX22_fades_0 7 rfl rfl)
theorem q122 : (Jvm.Cond.initialized "SongThatStays$Looping") ∈ lw_all := lw_g (lw_at lw_m1 28 rfl) rfl
theorem q651 : (Jvm.Cond.selects "SongThatStays$Looping" ({ cls := "SongThatStays$Song", name := "fresh", desc := "()I" } : Jvm.MethodName) ({ cls := "SongThatStays$Plain", name := "fresh", desc := "()I" } : Jvm.MethodName)) ∈ lw_all := lw_g (lw_at lw_m3 77 rfl) rfl
theorem q694 : (Jvm.Cond.instantiable "SongThatStays$Looping" (2 : Nat)) ∈ lw_all := lw_g (lw_at lw_m3 120 rfl) rfl
theorem q696 : (Jvm.Cond.instanceMethod ({ cls := "SongThatStays$Looping", name := "<init>", desc := "(II)V" } : Jvm.MethodName)) ∈ lw_all := lw_g (lw_at lw_m3 122 rfl) rfl
theorem q697 : (Jvm.Cond.code ({ cls := "SongThatStays$Looping", name := "<init>", desc := "(II)V" } : Jvm.MethodName) prog_13_method_1_code (3 : Nat) (Option.none : Option Jvm.ClassFile.FieldType)) ∈ lw_all := lw_g (lw_at lw_m3 123 rfl) rfl
theorem q698 : (Jvm.Cond.methodLink "SongThatStays$Looping" (1 : Nat) ({ cls := "SongThatStays$Plain", name := "<init>", desc := "(II)V" } : Jvm.MethodName)) ∈ lw_all := lw_g (lw_at lw_m3 124 rfl) rfl
theorem q699 : (Jvm.Cond.laysFinal "SongThatStays$Looping" "SongThatStays$Song" "pull" "I") ∈ lw_all := lw_g (lw_at lw_m3 125 rfl) rfl
theorem q700 : (Jvm.Cond.laysFinal "SongThatStays$Looping" "SongThatStays$Song" "length" "I") ∈ lw_all := lw_g (lw_at lw_m3 126 rfl) rfl
theorem q701 : (Jvm.Cond.superclass "SongThatStays$Looping" "SongThatStays$Plain") ∈ lw_all := lw_g (lw_at lw_m3 127 rfl) rfl
theorem q763 : (Jvm.Cond.selects "SongThatStays$Looping" ({ cls := "SongThatStays$Song", name := "kind", desc := "()I" } : Jvm.MethodName) ({ cls := "SongThatStays$Looping", name := "kind", desc := "()I" } : Jvm.MethodName)) ∈ lw_all := lw_g (lw_at lw_m3 189 rfl) rfl
theorem q764 : (Jvm.Cond.instanceMethod ({ cls := "SongThatStays$Looping", name := "kind", desc := "()I" } : Jvm.MethodName)) ∈ lw_all := lw_g (lw_at lw_m3 190 rfl) rfl
theorem q765 : (Jvm.Cond.code ({ cls := "SongThatStays$Looping", name := "kind", desc := "()I" } : Jvm.MethodName) prog_13_method_2_code (1 : Nat) (Option.some Jvm.ClassFile.FieldType.int)) ∈ lw_all := lw_g (lw_at lw_m3 191 rfl) rfl
theorem q937 : (Jvm.Cond.instanceMethod ({ cls := "SongThatStays$Looping", name := "fades", desc := "(I)I" } : Jvm.MethodName)) ∈ lw_all := lw_g (lw_at lw_m4 123 rfl) rfl
theorem q938 : (Jvm.Cond.code ({ cls := "SongThatStays$Looping", name := "fades", desc := "(I)I" } : Jvm.MethodName) prog_13_method_3_code (2 : Nat) (Option.some Jvm.ClassFile.FieldType.int)) ∈ lw_all := lw_g (lw_at lw_m4 124 rfl) rfl
theorem q939 : (Jvm.Cond.methodLink "SongThatStays$Looping" (7 : Nat) ({ cls := "SongThatStays$Plain", name := "fades", desc := "(I)I" } : Jvm.MethodName)) ∈ lw_all := lw_g (lw_at lw_m4 125 rfl) rfl
theorem q953 : (Jvm.Cond.selects "SongThatStays$Looping" ({ cls := "SongThatStays$Song", name := "fades", desc := "(I)I" } : Jvm.MethodName) ({ cls := "SongThatStays$Looping", name := "fades", desc := "(I)I" } : Jvm.MethodName)) ∈ lw_all := lw_g (lw_at lw_m4 139 rfl) rfl
theorem q1587 : (Jvm.Cond.sameMethod "SongThatStays$Looping" "SongThatStays$Looping" "fades" "(I)I") ∈ lw_all := lw_g (lw_at lw_m7 53 rfl) rfl
theorem q1599 : (Jvm.Cond.castable "SongThatStays$Looping" "SongThatStays$Song") ∈ lw_tbl := lw_at lw_m7 65 rfl
theorem in_X22 : ∀ w ∈ wsX220, w ∈ lw_all := lw_in wsX220 [699, 700] (by decide +kernel) (by decide +kernel)
/-! SongThatStays$Quick -/
set_option maxRecDepth 100000
def RX23 : String := "SongThatStays$Quick"
def TX23 : u_T := fun k => match k with
  | 0 => ("SongThatStays$Song", "pull", "I", true)
  | _ => ("SongThatStays$Song", "length", "I", true)
def tyX23 : Nat → FieldType := fun k => match k with
  | 0 => .int
  | _ => .int
abbrev wsX230 : List Cond := u_ws RX23 TX23 2
theorem nmX23 : ∀ a, a < 2 → ∀ b, b < 2 → a ≠ b → (TX23 a).2.1 ≠ (TX23 b).2.1 := by decide +kernel
theorem tyX23_ok : ∀ k, k < 2 → parseFieldDescriptor (TX23 k).2.2.1 = some (tyX23 k) := by decide +kernel
abbrev cX23_fresh : ByteArray := prog_17_method_3_code
def yX23_fresh : MethodName := ⟨RX23, "fresh", "()I"⟩
def dkwX23_fresh_0 : List UInt8 := [42, 183, 0, 7, 6, 96, 172]
abbrev dktX23_fresh_0 : List UInt8 := dkwX23_fresh_0 ++ []
theorem dksX23_fresh_0 : cX23_fresh.data.toList.drop 0 = dktX23_fresh_0 := by decide +kernel
theorem dX23_fresh_0 : decode cX23_fresh 0 = .ok (.aload_n 0, 1) := dk_42 (dk_at dksX23_fresh_0 0 rfl rfl)
theorem dX23_fresh_1 : decode cX23_fresh 1 = .ok (.invokespecial 7, 3) := dk_183 0 7 (dk_at dksX23_fresh_0 1 rfl rfl)
theorem dX23_fresh_4 : decode cX23_fresh 4 = .ok (.iconst 3, 1) := dk_6 (dk_at dksX23_fresh_0 4 rfl rfl)
theorem dX23_fresh_5 : decode cX23_fresh 5 = .ok (.iadd, 1) := dk_96 (dk_at dksX23_fresh_0 5 rfl rfl)
theorem dX23_fresh_6 : decode cX23_fresh 6 = .ok (.ireturn, 1) := dk_172 (dk_at dksX23_fresh_0 6 rfl rfl)
abbrev cX23_init : ByteArray := prog_17_method_1_code
def yX23_init : MethodName := ⟨RX23, "<init>", "(II)V"⟩
def dkwX23_init_0 : List UInt8 := [42, 27, 28, 183, 0, 1, 177]
abbrev dktX23_init_0 : List UInt8 := dkwX23_init_0 ++ []
theorem dksX23_init_0 : cX23_init.data.toList.drop 0 = dktX23_init_0 := by decide +kernel
theorem dX23_init_0 : decode cX23_init 0 = .ok (.aload_n 0, 1) := dk_42 (dk_at dksX23_init_0 0 rfl rfl)
theorem dX23_init_1 : decode cX23_init 1 = .ok (.iload_n 1, 1) := dk_27 (dk_at dksX23_init_0 1 rfl rfl)
theorem dX23_init_2 : decode cX23_init 2 = .ok (.iload_n 2, 1) := dk_28 (dk_at dksX23_init_0 2 rfl rfl)
theorem dX23_init_3 : decode cX23_init 3 = .ok (.invokespecial 1, 3) := dk_183 0 1 (dk_at dksX23_init_0 3 rfl rfl)
theorem dX23_init_6 : decode cX23_init 6 = .ok (.return_, 1) := dk_177 (dk_at dksX23_init_0 6 rfl rfl)
abbrev cX23_kind : ByteArray := prog_17_method_2_code
def yX23_kind : MethodName := ⟨RX23, "kind", "()I"⟩
theorem dX23_kind_0 : decode cX23_kind 0 = .ok (.iconst 2, 1) := by decide +kernel
theorem dX23_kind_1 : decode cX23_kind 1 = .ok (.ireturn, 1) := by decide +kernel
abbrev cX23_fades : ByteArray := prog_17_method_4_code
def yX23_fades : MethodName := ⟨RX23, "fades", "(I)I"⟩
def dkwX23_fades_0 : List UInt8 := [42, 27, 183, 0, 11, 4, 96, 172]
abbrev dktX23_fades_0 : List UInt8 := dkwX23_fades_0 ++ []
theorem dksX23_fades_0 : cX23_fades.data.toList.drop 0 = dktX23_fades_0 := by decide +kernel
theorem dX23_fades_0 : decode cX23_fades 0 = .ok (.aload_n 0, 1) := dk_42 (dk_at dksX23_fades_0 0 rfl rfl)
theorem dX23_fades_1 : decode cX23_fades 1 = .ok (.iload_n 1, 1) := dk_27 (dk_at dksX23_fades_0 1 rfl rfl)
theorem dX23_fades_2 : decode cX23_fades 2 = .ok (.invokespecial 11, 3) := dk_183 0 11 (dk_at dksX23_fades_0 2 rfl rfl)
theorem dX23_fades_5 : decode cX23_fades 5 = .ok (.iconst 1, 1) := dk_4 (dk_at dksX23_fades_0 5 rfl rfl)
theorem dX23_fades_6 : decode cX23_fades 6 = .ok (.iadd, 1) := dk_96 (dk_at dksX23_fades_0 6 rfl rfl)
theorem dX23_fades_7 : decode cX23_fades 7 = .ok (.ireturn, 1) := dk_172 (dk_at dksX23_fades_0 7 rfl rfl)
theorem q123 : (Jvm.Cond.initialized "SongThatStays$Quick") ∈ lw_all := lw_g (lw_at lw_m1 29 rfl) rfl
theorem q647 : (Jvm.Cond.instanceMethod ({ cls := "SongThatStays$Quick", name := "fresh", desc := "()I" } : Jvm.MethodName)) ∈ lw_all := lw_g (lw_at lw_m3 73 rfl) rfl
theorem q648 : (Jvm.Cond.code ({ cls := "SongThatStays$Quick", name := "fresh", desc := "()I" } : Jvm.MethodName) prog_17_method_3_code (1 : Nat) (Option.some Jvm.ClassFile.FieldType.int)) ∈ lw_all := lw_g (lw_at lw_m3 74 rfl) rfl
theorem q649 : (Jvm.Cond.methodLink "SongThatStays$Quick" (7 : Nat) ({ cls := "SongThatStays$Plain", name := "fresh", desc := "()I" } : Jvm.MethodName)) ∈ lw_all := lw_g (lw_at lw_m3 75 rfl) rfl
theorem q650 : (Jvm.Cond.superclass "SongThatStays$Quick" "SongThatStays$Plain") ∈ lw_all := lw_g (lw_at lw_m3 76 rfl) rfl
theorem q653 : (Jvm.Cond.selects "SongThatStays$Quick" ({ cls := "SongThatStays$Song", name := "fresh", desc := "()I" } : Jvm.MethodName) ({ cls := "SongThatStays$Quick", name := "fresh", desc := "()I" } : Jvm.MethodName)) ∈ lw_all := lw_g (lw_at lw_m3 79 rfl) rfl
theorem q703 : (Jvm.Cond.instantiable "SongThatStays$Quick" (2 : Nat)) ∈ lw_all := lw_g (lw_at lw_m3 129 rfl) rfl
theorem q705 : (Jvm.Cond.instanceMethod ({ cls := "SongThatStays$Quick", name := "<init>", desc := "(II)V" } : Jvm.MethodName)) ∈ lw_all := lw_g (lw_at lw_m3 131 rfl) rfl
theorem q706 : (Jvm.Cond.code ({ cls := "SongThatStays$Quick", name := "<init>", desc := "(II)V" } : Jvm.MethodName) prog_17_method_1_code (3 : Nat) (Option.none : Option Jvm.ClassFile.FieldType)) ∈ lw_all := lw_g (lw_at lw_m3 132 rfl) rfl
theorem q707 : (Jvm.Cond.methodLink "SongThatStays$Quick" (1 : Nat) ({ cls := "SongThatStays$Plain", name := "<init>", desc := "(II)V" } : Jvm.MethodName)) ∈ lw_all := lw_g (lw_at lw_m3 133 rfl) rfl
theorem q708 : (Jvm.Cond.laysFinal "SongThatStays$Quick" "SongThatStays$Song" "pull" "I") ∈ lw_all := lw_g (lw_at lw_m3 134 rfl) rfl
theorem q709 : (Jvm.Cond.laysFinal "SongThatStays$Quick" "SongThatStays$Song" "length" "I") ∈ lw_all := lw_g (lw_at lw_m3 135 rfl) rfl
theorem q769 : (Jvm.Cond.selects "SongThatStays$Quick" ({ cls := "SongThatStays$Song", name := "kind", desc := "()I" } : Jvm.MethodName) ({ cls := "SongThatStays$Quick", name := "kind", desc := "()I" } : Jvm.MethodName)) ∈ lw_all := lw_g (lw_at lw_m3 195 rfl) rfl
theorem q770 : (Jvm.Cond.instanceMethod ({ cls := "SongThatStays$Quick", name := "kind", desc := "()I" } : Jvm.MethodName)) ∈ lw_all := lw_g (lw_at lw_m3 196 rfl) rfl
theorem q771 : (Jvm.Cond.code ({ cls := "SongThatStays$Quick", name := "kind", desc := "()I" } : Jvm.MethodName) prog_17_method_2_code (1 : Nat) (Option.some Jvm.ClassFile.FieldType.int)) ∈ lw_all := lw_g (lw_at lw_m3 197 rfl) rfl
theorem q950 : (Jvm.Cond.instanceMethod ({ cls := "SongThatStays$Quick", name := "fades", desc := "(I)I" } : Jvm.MethodName)) ∈ lw_all := lw_g (lw_at lw_m4 136 rfl) rfl
theorem q951 : (Jvm.Cond.code ({ cls := "SongThatStays$Quick", name := "fades", desc := "(I)I" } : Jvm.MethodName) prog_17_method_4_code (2 : Nat) (Option.some Jvm.ClassFile.FieldType.int)) ∈ lw_all := lw_g (lw_at lw_m4 137 rfl) rfl
theorem q952 : (Jvm.Cond.methodLink "SongThatStays$Quick" (11 : Nat) ({ cls := "SongThatStays$Plain", name := "fades", desc := "(I)I" } : Jvm.MethodName)) ∈ lw_all := lw_g (lw_at lw_m4 138 rfl) rfl
theorem q955 : (Jvm.Cond.selects "SongThatStays$Quick" ({ cls := "SongThatStays$Song", name := "fades", desc := "(I)I" } : Jvm.MethodName) ({ cls := "SongThatStays$Quick", name := "fades", desc := "(I)I" } : Jvm.MethodName)) ∈ lw_all := lw_g (lw_at lw_m4 141 rfl) rfl
theorem q1581 : (Jvm.Cond.sameMethod "SongThatStays$Quick" "SongThatStays$Quick" "fresh" "()I") ∈ lw_all := lw_g (lw_at lw_m7 47 rfl) rfl
theorem q1589 : (Jvm.Cond.sameMethod "SongThatStays$Quick" "SongThatStays$Quick" "fades" "(I)I") ∈ lw_all := lw_g (lw_at lw_m7 55 rfl) rfl
theorem q1600 : (Jvm.Cond.castable "SongThatStays$Quick" "SongThatStays$Song") ∈ lw_tbl := lw_at lw_m7 66 rfl
theorem in_X23 : ∀ w ∈ wsX230, w ∈ lw_all := lw_in wsX230 [708, 709] (by decide +kernel) (by decide +kernel)
/-! SongThatStays$Cued -/
set_option maxRecDepth 100000
def RX24 : String := "SongThatStays$Cued"
def TX24 : u_T := fun k => match k with
  | 0 => ("SongThatStays$Song", "pull", "I", true)
  | _ => ("SongThatStays$Song", "length", "I", true)
def tyX24 : Nat → FieldType := fun k => match k with
  | 0 => .int
  | _ => .int
abbrev wsX240 : List Cond := u_ws RX24 TX24 2
theorem nmX24 : ∀ a, a < 2 → ∀ b, b < 2 → a ≠ b → (TX24 a).2.1 ≠ (TX24 b).2.1 := by decide +kernel
theorem tyX24_ok : ∀ k, k < 2 → parseFieldDescriptor (TX24 k).2.2.1 = some (tyX24 k) := by decide +kernel
abbrev cX24_init : ByteArray := prog_3_method_1_code
def yX24_init : MethodName := ⟨RX24, "<init>", "(II)V"⟩
def dkwX24_init_0 : List UInt8 := [42, 27, 28, 183, 0, 1, 177]
abbrev dktX24_init_0 : List UInt8 := dkwX24_init_0 ++ []
theorem dksX24_init_0 : cX24_init.data.toList.drop 0 = dktX24_init_0 := by decide +kernel
theorem dX24_init_0 : decode cX24_init 0 = .ok (.aload_n 0, 1) := dk_42 (dk_at dksX24_init_0 0 rfl rfl)
theorem dX24_init_1 : decode cX24_init 1 = .ok (.iload_n 1, 1) := dk_27 (dk_at dksX24_init_0 1 rfl rfl)
theorem dX24_init_2 : decode cX24_init 2 = .ok (.iload_n 2, 1) := dk_28 (dk_at dksX24_init_0 2 rfl rfl)
theorem dX24_init_3 : decode cX24_init 3 = .ok (.invokespecial 1, 3) := dk_183 0 1 (dk_at dksX24_init_0 3 rfl rfl)
theorem dX24_init_6 : decode cX24_init 6 = .ok (.return_, 1) := dk_177 (dk_at dksX24_init_0 6 rfl rfl)
abbrev cX24_kind : ByteArray := prog_3_method_2_code
def yX24_kind : MethodName := ⟨RX24, "kind", "()I"⟩
theorem dX24_kind_0 : decode cX24_kind 0 = .ok (.iconst 3, 1) := by decide +kernel
theorem dX24_kind_1 : decode cX24_kind 1 = .ok (.ireturn, 1) := by decide +kernel
abbrev cX24_fades : ByteArray := prog_3_method_3_code
def yX24_fades : MethodName := ⟨RX24, "fades", "(I)I"⟩
def dkwX24_fades_0 : List UInt8 := [27, 16, 6, 112, 154, 0, 8, 16, 252, 167, 0, 8, 42, 27, 183, 0, 7, 172]
abbrev dktX24_fades_0 : List UInt8 := dkwX24_fades_0 ++ []
theorem dksX24_fades_0 : cX24_fades.data.toList.drop 0 = dktX24_fades_0 := by decide +kernel
theorem dX24_fades_0 : decode cX24_fades 0 = .ok (.iload_n 1, 1) := dk_27 (dk_at dksX24_fades_0 0 rfl rfl)
theorem dX24_fades_1 : decode cX24_fades 1 = .ok (.bipush 6, 2) := dk_16 6 (dk_at dksX24_fades_0 1 rfl rfl)
theorem dX24_fades_3 : decode cX24_fades 3 = .ok (.irem, 1) := dk_112 (dk_at dksX24_fades_0 3 rfl rfl)
theorem dX24_fades_4 : decode cX24_fades 4 = .ok (.ifCond .ne 8, 3) := dk_154 0 8 (dk_at dksX24_fades_0 4 rfl rfl)
theorem dX24_fades_7 : decode cX24_fades 7 = .ok (.bipush (-4), 2) := dk_16 252 (dk_at dksX24_fades_0 7 rfl rfl)
theorem dX24_fades_9 : decode cX24_fades 9 = .ok (.goto 8, 3) := dk_167 0 8 (dk_at dksX24_fades_0 9 rfl rfl)
theorem dX24_fades_12 : decode cX24_fades 12 = .ok (.aload_n 0, 1) := dk_42 (dk_at dksX24_fades_0 12 rfl rfl)
theorem dX24_fades_13 : decode cX24_fades 13 = .ok (.iload_n 1, 1) := dk_27 (dk_at dksX24_fades_0 13 rfl rfl)
theorem dX24_fades_14 : decode cX24_fades 14 = .ok (.invokespecial 7, 3) := dk_183 0 7 (dk_at dksX24_fades_0 14 rfl rfl)
theorem dX24_fades_17 : decode cX24_fades 17 = .ok (.ireturn, 1) := dk_172 (dk_at dksX24_fades_0 17 rfl rfl)
theorem q124 : (Jvm.Cond.initialized "SongThatStays$Cued") ∈ lw_all := lw_g (lw_at lw_m1 30 rfl) rfl
theorem q638 : (Jvm.Cond.selects "SongThatStays$Cued" ({ cls := "SongThatStays$Song", name := "fresh", desc := "()I" } : Jvm.MethodName) ({ cls := "SongThatStays$Plain", name := "fresh", desc := "()I" } : Jvm.MethodName)) ∈ lw_all := lw_g (lw_at lw_m3 64 rfl) rfl
theorem q711 : (Jvm.Cond.instantiable "SongThatStays$Cued" (2 : Nat)) ∈ lw_all := lw_g (lw_at lw_m3 137 rfl) rfl
theorem q713 : (Jvm.Cond.instanceMethod ({ cls := "SongThatStays$Cued", name := "<init>", desc := "(II)V" } : Jvm.MethodName)) ∈ lw_all := lw_g (lw_at lw_m3 139 rfl) rfl
theorem q714 : (Jvm.Cond.code ({ cls := "SongThatStays$Cued", name := "<init>", desc := "(II)V" } : Jvm.MethodName) prog_3_method_1_code (3 : Nat) (Option.none : Option Jvm.ClassFile.FieldType)) ∈ lw_all := lw_g (lw_at lw_m3 140 rfl) rfl
theorem q715 : (Jvm.Cond.methodLink "SongThatStays$Cued" (1 : Nat) ({ cls := "SongThatStays$Looping", name := "<init>", desc := "(II)V" } : Jvm.MethodName)) ∈ lw_all := lw_g (lw_at lw_m3 141 rfl) rfl
theorem q716 : (Jvm.Cond.laysFinal "SongThatStays$Cued" "SongThatStays$Song" "pull" "I") ∈ lw_all := lw_g (lw_at lw_m3 142 rfl) rfl
theorem q717 : (Jvm.Cond.laysFinal "SongThatStays$Cued" "SongThatStays$Song" "length" "I") ∈ lw_all := lw_g (lw_at lw_m3 143 rfl) rfl
theorem q718 : (Jvm.Cond.superclass "SongThatStays$Cued" "SongThatStays$Looping") ∈ lw_all := lw_g (lw_at lw_m3 144 rfl) rfl
theorem q754 : (Jvm.Cond.selects "SongThatStays$Cued" ({ cls := "SongThatStays$Song", name := "kind", desc := "()I" } : Jvm.MethodName) ({ cls := "SongThatStays$Cued", name := "kind", desc := "()I" } : Jvm.MethodName)) ∈ lw_all := lw_g (lw_at lw_m3 180 rfl) rfl
theorem q755 : (Jvm.Cond.instanceMethod ({ cls := "SongThatStays$Cued", name := "kind", desc := "()I" } : Jvm.MethodName)) ∈ lw_all := lw_g (lw_at lw_m3 181 rfl) rfl
theorem q756 : (Jvm.Cond.code ({ cls := "SongThatStays$Cued", name := "kind", desc := "()I" } : Jvm.MethodName) prog_3_method_2_code (1 : Nat) (Option.some Jvm.ClassFile.FieldType.int)) ∈ lw_all := lw_g (lw_at lw_m3 182 rfl) rfl
theorem q933 : (Jvm.Cond.selects "SongThatStays$Cued" ({ cls := "SongThatStays$Song", name := "fades", desc := "(I)I" } : Jvm.MethodName) ({ cls := "SongThatStays$Cued", name := "fades", desc := "(I)I" } : Jvm.MethodName)) ∈ lw_all := lw_g (lw_at lw_m4 119 rfl) rfl
theorem q934 : (Jvm.Cond.instanceMethod ({ cls := "SongThatStays$Cued", name := "fades", desc := "(I)I" } : Jvm.MethodName)) ∈ lw_all := lw_g (lw_at lw_m4 120 rfl) rfl
theorem q935 : (Jvm.Cond.code ({ cls := "SongThatStays$Cued", name := "fades", desc := "(I)I" } : Jvm.MethodName) prog_3_method_3_code (2 : Nat) (Option.some Jvm.ClassFile.FieldType.int)) ∈ lw_all := lw_g (lw_at lw_m4 121 rfl) rfl
theorem q936 : (Jvm.Cond.methodLink "SongThatStays$Cued" (7 : Nat) ({ cls := "SongThatStays$Looping", name := "fades", desc := "(I)I" } : Jvm.MethodName)) ∈ lw_all := lw_g (lw_at lw_m4 122 rfl) rfl
theorem q1601 : (Jvm.Cond.castable "SongThatStays$Cued" "SongThatStays$Song") ∈ lw_tbl := lw_at lw_m7 67 rfl
theorem in_X24 : ∀ w ∈ wsX240, w ∈ lw_all := lw_in wsX240 [716, 717] (by decide +kernel) (by decide +kernel)
/-! SongThatStays$Jingle -/
set_option maxRecDepth 100000
def RX25 : String := "SongThatStays$Jingle"
def TX25 : u_T := fun k => match k with
  | 0 => ("SongThatStays$Song", "pull", "I", true)
  | _ => ("SongThatStays$Song", "length", "I", true)
def tyX25 : Nat → FieldType := fun k => match k with
  | 0 => .int
  | _ => .int
abbrev wsX250 : List Cond := u_ws RX25 TX25 2
theorem nmX25 : ∀ a, a < 2 → ∀ b, b < 2 → a ≠ b → (TX25 a).2.1 ≠ (TX25 b).2.1 := by decide +kernel
theorem tyX25_ok : ∀ k, k < 2 → parseFieldDescriptor (TX25 k).2.2.1 = some (tyX25 k) := by decide +kernel
abbrev cX25_fresh : ByteArray := prog_11_method_3_code
def yX25_fresh : MethodName := ⟨RX25, "fresh", "()I"⟩
def dkwX25_fresh_0 : List UInt8 := [5, 42, 183, 0, 7, 104, 172]
abbrev dktX25_fresh_0 : List UInt8 := dkwX25_fresh_0 ++ []
theorem dksX25_fresh_0 : cX25_fresh.data.toList.drop 0 = dktX25_fresh_0 := by decide +kernel
theorem dX25_fresh_0 : decode cX25_fresh 0 = .ok (.iconst 2, 1) := dk_5 (dk_at dksX25_fresh_0 0 rfl rfl)
theorem dX25_fresh_1 : decode cX25_fresh 1 = .ok (.aload_n 0, 1) := dk_42 (dk_at dksX25_fresh_0 1 rfl rfl)
theorem dX25_fresh_2 : decode cX25_fresh 2 = .ok (.invokespecial 7, 3) := dk_183 0 7 (dk_at dksX25_fresh_0 2 rfl rfl)
theorem dX25_fresh_5 : decode cX25_fresh 5 = .ok (.imul, 1) := dk_104 (dk_at dksX25_fresh_0 5 rfl rfl)
theorem dX25_fresh_6 : decode cX25_fresh 6 = .ok (.ireturn, 1) := dk_172 (dk_at dksX25_fresh_0 6 rfl rfl)
abbrev cX25_init : ByteArray := prog_11_method_1_code
def yX25_init : MethodName := ⟨RX25, "<init>", "(II)V"⟩
def dkwX25_init_0 : List UInt8 := [42, 27, 28, 183, 0, 1, 177]
abbrev dktX25_init_0 : List UInt8 := dkwX25_init_0 ++ []
theorem dksX25_init_0 : cX25_init.data.toList.drop 0 = dktX25_init_0 := by decide +kernel
theorem dX25_init_0 : decode cX25_init 0 = .ok (.aload_n 0, 1) := dk_42 (dk_at dksX25_init_0 0 rfl rfl)
theorem dX25_init_1 : decode cX25_init 1 = .ok (.iload_n 1, 1) := dk_27 (dk_at dksX25_init_0 1 rfl rfl)
theorem dX25_init_2 : decode cX25_init 2 = .ok (.iload_n 2, 1) := dk_28 (dk_at dksX25_init_0 2 rfl rfl)
theorem dX25_init_3 : decode cX25_init 3 = .ok (.invokespecial 1, 3) := dk_183 0 1 (dk_at dksX25_init_0 3 rfl rfl)
theorem dX25_init_6 : decode cX25_init 6 = .ok (.return_, 1) := dk_177 (dk_at dksX25_init_0 6 rfl rfl)
abbrev cX25_kind : ByteArray := prog_11_method_2_code
def yX25_kind : MethodName := ⟨RX25, "kind", "()I"⟩
theorem dX25_kind_0 : decode cX25_kind 0 = .ok (.iconst 4, 1) := by decide +kernel
theorem dX25_kind_1 : decode cX25_kind 1 = .ok (.ireturn, 1) := by decide +kernel
abbrev cX25_fades : ByteArray := prog_11_method_4_code
def yX25_fades : MethodName := ⟨RX25, "fades", "(I)I"⟩
def dkwX25_fades_0 : List UInt8 := [5, 42, 27, 183, 0, 11, 104, 172]
abbrev dktX25_fades_0 : List UInt8 := dkwX25_fades_0 ++ []
theorem dksX25_fades_0 : cX25_fades.data.toList.drop 0 = dktX25_fades_0 := by decide +kernel
theorem dX25_fades_0 : decode cX25_fades 0 = .ok (.iconst 2, 1) := dk_5 (dk_at dksX25_fades_0 0 rfl rfl)
theorem dX25_fades_1 : decode cX25_fades 1 = .ok (.aload_n 0, 1) := dk_42 (dk_at dksX25_fades_0 1 rfl rfl)
theorem dX25_fades_2 : decode cX25_fades 2 = .ok (.iload_n 1, 1) := dk_27 (dk_at dksX25_fades_0 2 rfl rfl)
theorem dX25_fades_3 : decode cX25_fades 3 = .ok (.invokespecial 11, 3) := dk_183 0 11 (dk_at dksX25_fades_0 3 rfl rfl)
theorem dX25_fades_6 : decode cX25_fades 6 = .ok (.imul, 1) := dk_104 (dk_at dksX25_fades_0 6 rfl rfl)
theorem dX25_fades_7 : decode cX25_fades 7 = .ok (.ireturn, 1) := dk_172 (dk_at dksX25_fades_0 7 rfl rfl)
theorem q125 : (Jvm.Cond.initialized "SongThatStays$Jingle") ∈ lw_all := lw_g (lw_at lw_m1 31 rfl) rfl
theorem q642 : (Jvm.Cond.selects "SongThatStays$Jingle" ({ cls := "SongThatStays$Song", name := "fresh", desc := "()I" } : Jvm.MethodName) ({ cls := "SongThatStays$Jingle", name := "fresh", desc := "()I" } : Jvm.MethodName)) ∈ lw_all := lw_g (lw_at lw_m3 68 rfl) rfl
theorem q643 : (Jvm.Cond.instanceMethod ({ cls := "SongThatStays$Jingle", name := "fresh", desc := "()I" } : Jvm.MethodName)) ∈ lw_all := lw_g (lw_at lw_m3 69 rfl) rfl
theorem q644 : (Jvm.Cond.code ({ cls := "SongThatStays$Jingle", name := "fresh", desc := "()I" } : Jvm.MethodName) prog_11_method_3_code (1 : Nat) (Option.some Jvm.ClassFile.FieldType.int)) ∈ lw_all := lw_g (lw_at lw_m3 70 rfl) rfl
theorem q645 : (Jvm.Cond.methodLink "SongThatStays$Jingle" (7 : Nat) ({ cls := "SongThatStays$Quick", name := "fresh", desc := "()I" } : Jvm.MethodName)) ∈ lw_all := lw_g (lw_at lw_m3 71 rfl) rfl
theorem q646 : (Jvm.Cond.superclass "SongThatStays$Jingle" "SongThatStays$Quick") ∈ lw_all := lw_g (lw_at lw_m3 72 rfl) rfl
theorem q720 : (Jvm.Cond.instantiable "SongThatStays$Jingle" (2 : Nat)) ∈ lw_all := lw_g (lw_at lw_m3 146 rfl) rfl
theorem q722 : (Jvm.Cond.instanceMethod ({ cls := "SongThatStays$Jingle", name := "<init>", desc := "(II)V" } : Jvm.MethodName)) ∈ lw_all := lw_g (lw_at lw_m3 148 rfl) rfl
theorem q723 : (Jvm.Cond.code ({ cls := "SongThatStays$Jingle", name := "<init>", desc := "(II)V" } : Jvm.MethodName) prog_11_method_1_code (3 : Nat) (Option.none : Option Jvm.ClassFile.FieldType)) ∈ lw_all := lw_g (lw_at lw_m3 149 rfl) rfl
theorem q724 : (Jvm.Cond.methodLink "SongThatStays$Jingle" (1 : Nat) ({ cls := "SongThatStays$Quick", name := "<init>", desc := "(II)V" } : Jvm.MethodName)) ∈ lw_all := lw_g (lw_at lw_m3 150 rfl) rfl
theorem q725 : (Jvm.Cond.laysFinal "SongThatStays$Jingle" "SongThatStays$Song" "pull" "I") ∈ lw_all := lw_g (lw_at lw_m3 151 rfl) rfl
theorem q726 : (Jvm.Cond.laysFinal "SongThatStays$Jingle" "SongThatStays$Song" "length" "I") ∈ lw_all := lw_g (lw_at lw_m3 152 rfl) rfl
theorem q760 : (Jvm.Cond.selects "SongThatStays$Jingle" ({ cls := "SongThatStays$Song", name := "kind", desc := "()I" } : Jvm.MethodName) ({ cls := "SongThatStays$Jingle", name := "kind", desc := "()I" } : Jvm.MethodName)) ∈ lw_all := lw_g (lw_at lw_m3 186 rfl) rfl
theorem q761 : (Jvm.Cond.instanceMethod ({ cls := "SongThatStays$Jingle", name := "kind", desc := "()I" } : Jvm.MethodName)) ∈ lw_all := lw_g (lw_at lw_m3 187 rfl) rfl
theorem q762 : (Jvm.Cond.code ({ cls := "SongThatStays$Jingle", name := "kind", desc := "()I" } : Jvm.MethodName) prog_11_method_2_code (1 : Nat) (Option.some Jvm.ClassFile.FieldType.int)) ∈ lw_all := lw_g (lw_at lw_m3 188 rfl) rfl
theorem q946 : (Jvm.Cond.selects "SongThatStays$Jingle" ({ cls := "SongThatStays$Song", name := "fades", desc := "(I)I" } : Jvm.MethodName) ({ cls := "SongThatStays$Jingle", name := "fades", desc := "(I)I" } : Jvm.MethodName)) ∈ lw_all := lw_g (lw_at lw_m4 132 rfl) rfl
theorem q947 : (Jvm.Cond.instanceMethod ({ cls := "SongThatStays$Jingle", name := "fades", desc := "(I)I" } : Jvm.MethodName)) ∈ lw_all := lw_g (lw_at lw_m4 133 rfl) rfl
theorem q948 : (Jvm.Cond.code ({ cls := "SongThatStays$Jingle", name := "fades", desc := "(I)I" } : Jvm.MethodName) prog_11_method_4_code (2 : Nat) (Option.some Jvm.ClassFile.FieldType.int)) ∈ lw_all := lw_g (lw_at lw_m4 134 rfl) rfl
theorem q949 : (Jvm.Cond.methodLink "SongThatStays$Jingle" (11 : Nat) ({ cls := "SongThatStays$Quick", name := "fades", desc := "(I)I" } : Jvm.MethodName)) ∈ lw_all := lw_g (lw_at lw_m4 135 rfl) rfl
theorem q1602 : (Jvm.Cond.castable "SongThatStays$Jingle" "SongThatStays$Song") ∈ lw_tbl := lw_at lw_m7 68 rfl
theorem in_X25 : ∀ w ∈ wsX250, w ∈ lw_all := lw_in wsX250 [725, 726] (by decide +kernel) (by decide +kernel)
/-! SongThatStays$Hymn -/
set_option maxRecDepth 100000
def RX26 : String := "SongThatStays$Hymn"
def TX26 : u_T := fun k => match k with
  | 0 => ("SongThatStays$Song", "pull", "I", true)
  | _ => ("SongThatStays$Song", "length", "I", true)
def tyX26 : Nat → FieldType := fun k => match k with
  | 0 => .int
  | _ => .int
abbrev wsX260 : List Cond := u_ws RX26 TX26 2
theorem nmX26 : ∀ a, a < 2 → ∀ b, b < 2 → a ≠ b → (TX26 a).2.1 ≠ (TX26 b).2.1 := by decide +kernel
theorem tyX26_ok : ∀ k, k < 2 → parseFieldDescriptor (TX26 k).2.2.1 = some (tyX26 k) := by decide +kernel
abbrev cX26_init : ByteArray := prog_10_method_1_code
def yX26_init : MethodName := ⟨RX26, "<init>", "(II)V"⟩
def dkwX26_init_0 : List UInt8 := [42, 27, 28, 183, 0, 1, 177]
abbrev dktX26_init_0 : List UInt8 := dkwX26_init_0 ++ []
theorem dksX26_init_0 : cX26_init.data.toList.drop 0 = dktX26_init_0 := by decide +kernel
theorem dX26_init_0 : decode cX26_init 0 = .ok (.aload_n 0, 1) := dk_42 (dk_at dksX26_init_0 0 rfl rfl)
theorem dX26_init_1 : decode cX26_init 1 = .ok (.iload_n 1, 1) := dk_27 (dk_at dksX26_init_0 1 rfl rfl)
theorem dX26_init_2 : decode cX26_init 2 = .ok (.iload_n 2, 1) := dk_28 (dk_at dksX26_init_0 2 rfl rfl)
theorem dX26_init_3 : decode cX26_init 3 = .ok (.invokespecial 1, 3) := dk_183 0 1 (dk_at dksX26_init_0 3 rfl rfl)
theorem dX26_init_6 : decode cX26_init 6 = .ok (.return_, 1) := dk_177 (dk_at dksX26_init_0 6 rfl rfl)
abbrev cX26_kind : ByteArray := prog_10_method_2_code
def yX26_kind : MethodName := ⟨RX26, "kind", "()I"⟩
theorem dX26_kind_0 : decode cX26_kind 0 = .ok (.iconst 5, 1) := by decide +kernel
theorem dX26_kind_1 : decode cX26_kind 1 = .ok (.ireturn, 1) := by decide +kernel
abbrev cX26_fades : ByteArray := prog_10_method_3_code
def yX26_fades : MethodName := ⟨RX26, "fades", "(I)I"⟩
def dkwX26_fades_0 : List UInt8 := [27, 5, 112, 154, 0, 11, 42, 27, 183, 0, 7, 167, 0, 4, 3, 172]
abbrev dktX26_fades_0 : List UInt8 := dkwX26_fades_0 ++ []
theorem dksX26_fades_0 : cX26_fades.data.toList.drop 0 = dktX26_fades_0 := by decide +kernel
theorem dX26_fades_0 : decode cX26_fades 0 = .ok (.iload_n 1, 1) := dk_27 (dk_at dksX26_fades_0 0 rfl rfl)
theorem dX26_fades_1 : decode cX26_fades 1 = .ok (.iconst 2, 1) := dk_5 (dk_at dksX26_fades_0 1 rfl rfl)
theorem dX26_fades_2 : decode cX26_fades 2 = .ok (.irem, 1) := dk_112 (dk_at dksX26_fades_0 2 rfl rfl)
theorem dX26_fades_3 : decode cX26_fades 3 = .ok (.ifCond .ne 11, 3) := dk_154 0 11 (dk_at dksX26_fades_0 3 rfl rfl)
theorem dX26_fades_6 : decode cX26_fades 6 = .ok (.aload_n 0, 1) := dk_42 (dk_at dksX26_fades_0 6 rfl rfl)
theorem dX26_fades_7 : decode cX26_fades 7 = .ok (.iload_n 1, 1) := dk_27 (dk_at dksX26_fades_0 7 rfl rfl)
theorem dX26_fades_8 : decode cX26_fades 8 = .ok (.invokespecial 7, 3) := dk_183 0 7 (dk_at dksX26_fades_0 8 rfl rfl)
theorem dX26_fades_11 : decode cX26_fades 11 = .ok (.goto 4, 3) := dk_167 0 4 (dk_at dksX26_fades_0 11 rfl rfl)
theorem dX26_fades_14 : decode cX26_fades 14 = .ok (.iconst 0, 1) := dk_3 (dk_at dksX26_fades_0 14 rfl rfl)
theorem dX26_fades_15 : decode cX26_fades 15 = .ok (.ireturn, 1) := dk_172 (dk_at dksX26_fades_0 15 rfl rfl)
theorem q126 : (Jvm.Cond.initialized "SongThatStays$Hymn") ∈ lw_all := lw_g (lw_at lw_m1 32 rfl) rfl
theorem q641 : (Jvm.Cond.selects "SongThatStays$Hymn" ({ cls := "SongThatStays$Song", name := "fresh", desc := "()I" } : Jvm.MethodName) ({ cls := "SongThatStays$Plain", name := "fresh", desc := "()I" } : Jvm.MethodName)) ∈ lw_all := lw_g (lw_at lw_m3 67 rfl) rfl
theorem q728 : (Jvm.Cond.instantiable "SongThatStays$Hymn" (2 : Nat)) ∈ lw_all := lw_g (lw_at lw_m3 154 rfl) rfl
theorem q730 : (Jvm.Cond.instanceMethod ({ cls := "SongThatStays$Hymn", name := "<init>", desc := "(II)V" } : Jvm.MethodName)) ∈ lw_all := lw_g (lw_at lw_m3 156 rfl) rfl
theorem q731 : (Jvm.Cond.code ({ cls := "SongThatStays$Hymn", name := "<init>", desc := "(II)V" } : Jvm.MethodName) prog_10_method_1_code (3 : Nat) (Option.none : Option Jvm.ClassFile.FieldType)) ∈ lw_all := lw_g (lw_at lw_m3 157 rfl) rfl
theorem q732 : (Jvm.Cond.methodLink "SongThatStays$Hymn" (1 : Nat) ({ cls := "SongThatStays$Looping", name := "<init>", desc := "(II)V" } : Jvm.MethodName)) ∈ lw_all := lw_g (lw_at lw_m3 158 rfl) rfl
theorem q733 : (Jvm.Cond.laysFinal "SongThatStays$Hymn" "SongThatStays$Song" "pull" "I") ∈ lw_all := lw_g (lw_at lw_m3 159 rfl) rfl
theorem q734 : (Jvm.Cond.laysFinal "SongThatStays$Hymn" "SongThatStays$Song" "length" "I") ∈ lw_all := lw_g (lw_at lw_m3 160 rfl) rfl
theorem q735 : (Jvm.Cond.superclass "SongThatStays$Hymn" "SongThatStays$Looping") ∈ lw_all := lw_g (lw_at lw_m3 161 rfl) rfl
theorem q757 : (Jvm.Cond.selects "SongThatStays$Hymn" ({ cls := "SongThatStays$Song", name := "kind", desc := "()I" } : Jvm.MethodName) ({ cls := "SongThatStays$Hymn", name := "kind", desc := "()I" } : Jvm.MethodName)) ∈ lw_all := lw_g (lw_at lw_m3 183 rfl) rfl
theorem q758 : (Jvm.Cond.instanceMethod ({ cls := "SongThatStays$Hymn", name := "kind", desc := "()I" } : Jvm.MethodName)) ∈ lw_all := lw_g (lw_at lw_m3 184 rfl) rfl
theorem q759 : (Jvm.Cond.code ({ cls := "SongThatStays$Hymn", name := "kind", desc := "()I" } : Jvm.MethodName) prog_10_method_2_code (1 : Nat) (Option.some Jvm.ClassFile.FieldType.int)) ∈ lw_all := lw_g (lw_at lw_m3 185 rfl) rfl
theorem q942 : (Jvm.Cond.selects "SongThatStays$Hymn" ({ cls := "SongThatStays$Song", name := "fades", desc := "(I)I" } : Jvm.MethodName) ({ cls := "SongThatStays$Hymn", name := "fades", desc := "(I)I" } : Jvm.MethodName)) ∈ lw_all := lw_g (lw_at lw_m4 128 rfl) rfl
theorem q943 : (Jvm.Cond.instanceMethod ({ cls := "SongThatStays$Hymn", name := "fades", desc := "(I)I" } : Jvm.MethodName)) ∈ lw_all := lw_g (lw_at lw_m4 129 rfl) rfl
theorem q944 : (Jvm.Cond.code ({ cls := "SongThatStays$Hymn", name := "fades", desc := "(I)I" } : Jvm.MethodName) prog_10_method_3_code (2 : Nat) (Option.some Jvm.ClassFile.FieldType.int)) ∈ lw_all := lw_g (lw_at lw_m4 130 rfl) rfl
theorem q945 : (Jvm.Cond.methodLink "SongThatStays$Hymn" (7 : Nat) ({ cls := "SongThatStays$Looping", name := "fades", desc := "(I)I" } : Jvm.MethodName)) ∈ lw_all := lw_g (lw_at lw_m4 131 rfl) rfl
theorem q1603 : (Jvm.Cond.castable "SongThatStays$Hymn" "SongThatStays$Song") ∈ lw_tbl := lw_at lw_m7 69 rfl
theorem in_X26 : ∀ w ∈ wsX260, w ∈ lw_all := lw_in wsX260 [733, 734] (by decide +kernel) (by decide +kernel)
