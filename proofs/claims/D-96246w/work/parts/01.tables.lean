-- ===== PART A: goes FIRST, ahead of the names: the tables' words, and 'selects' of the private methods out of them =====
/-- a private method of a class that the tables say can be made, by its rows of tables_1 -/
def lw_okq (q : MethodName × Nat) : Prop := (q.1.cls ≠ "java/lang/invoke/MethodHandle" ∧ q.1.cls ≠ "java/lang/invoke/VarHandle") ∧ Cond.instantiable q.1.cls q.2 ∈ tables_1 ∧ Cond.privateMethod q.1 ∈ tables_1 ∧ Cond.instanceMethod q.1 ∈ tables_1
set_option maxRecDepth 100000
theorem lw_t1 {w : Cond} (h : w ∈ tables_1_1) : w ∈ tables_1 := List.mem_append_left _ h
theorem lw_t2 {w : Cond} (h : w ∈ tables_1_2) : w ∈ tables_1 := List.mem_append_right _ (List.mem_append_left _ h)
theorem lw_t3 {w : Cond} (h : w ∈ tables_1_3) : w ∈ tables_1 := List.mem_append_right _ (List.mem_append_right _ (List.mem_append_left _ h))
theorem lw_t4 {w : Cond} (h : w ∈ tables_1_4) : w ∈ tables_1 := List.mem_append_right _ (List.mem_append_right _ (List.mem_append_right _ (List.mem_append_left _ h)))
theorem lw_t5 {w : Cond} (h : w ∈ tables_1_5) : w ∈ tables_1 := List.mem_append_right _ (List.mem_append_right _ (List.mem_append_right _ (List.mem_append_right _ (List.mem_append_left _ h))))
theorem lw_t6 {w : Cond} (h : w ∈ tables_1_6) : w ∈ tables_1 := List.mem_append_right _ (List.mem_append_right _ (List.mem_append_right _ (List.mem_append_right _ (List.mem_append_right _ (List.mem_append_left _ h)))))
theorem lw_t7 {w : Cond} (h : w ∈ tables_1_7) : w ∈ tables_1 := List.mem_append_right _ (List.mem_append_right _ (List.mem_append_right _ (List.mem_append_right _ (List.mem_append_right _ (List.mem_append_right _ h)))))
theorem lw_p0 : lw_okq (⟨"SongThatStays", "act", "(IIII)I"⟩, 10) := ⟨⟨by decide +kernel, by decide +kernel⟩, lw_t1 (List.mem_of_getElem? (i := 34) rfl), lw_t1 (List.mem_of_getElem? (i := 229) rfl), lw_t1 (List.mem_of_getElem? (i := 230) rfl)⟩
theorem lw_p1 : lw_okq (⟨"SongThatStays", "ofOffice", "(III)I"⟩, 10) := ⟨⟨by decide +kernel, by decide +kernel⟩, lw_t1 (List.mem_of_getElem? (i := 34) rfl), lw_t1 (List.mem_of_getElem? (i := 234) rfl), lw_t1 (List.mem_of_getElem? (i := 235) rfl)⟩
theorem lw_p2 : lw_okq (⟨"SongThatStays", "letterIt", "(I)I"⟩, 10) := ⟨⟨by decide +kernel, by decide +kernel⟩, lw_t1 (List.mem_of_getElem? (i := 34) rfl), lw_t1 (List.mem_of_getElem? (i := 238) rfl), lw_t1 (List.mem_of_getElem? (i := 239) rfl)⟩
theorem lw_p3 : lw_okq (⟨"java/lang/Throwable", "fillInStackTrace", "(I)Ljava/lang/Throwable;"⟩, 6) := ⟨⟨by decide +kernel, by decide +kernel⟩, lw_t2 (List.mem_of_getElem? (i := 47) rfl), lw_t2 (List.mem_of_getElem? (i := 45) rfl), lw_t2 (List.mem_of_getElem? (i := 46) rfl)⟩
theorem lw_p4 : lw_okq (⟨"SongThatStays", "readOffice", "()I"⟩, 10) := ⟨⟨by decide +kernel, by decide +kernel⟩, lw_t1 (List.mem_of_getElem? (i := 34) rfl), lw_t2 (List.mem_of_getElem? (i := 78) rfl), lw_t2 (List.mem_of_getElem? (i := 79) rfl)⟩
theorem lw_p5 : lw_okq (⟨"SongThatStays$Reader", "here", "()I"⟩, 3) := ⟨⟨by decide +kernel, by decide +kernel⟩, lw_t2 (List.mem_of_getElem? (i := 82) rfl), lw_t2 (List.mem_of_getElem? (i := 106) rfl), lw_t2 (List.mem_of_getElem? (i := 107) rfl)⟩
theorem lw_p6 : lw_okq (⟨"SongThatStays$Reader", "mustStand", "(Z)V"⟩, 3) := ⟨⟨by decide +kernel, by decide +kernel⟩, lw_t2 (List.mem_of_getElem? (i := 82) rfl), lw_t2 (List.mem_of_getElem? (i := 110) rfl), lw_t2 (List.mem_of_getElem? (i := 111) rfl)⟩
theorem lw_p7 : lw_okq (⟨"SongThatStays$Reader", "told", "(II)LSongThatStays$Told;"⟩, 3) := ⟨⟨by decide +kernel, by decide +kernel⟩, lw_t2 (List.mem_of_getElem? (i := 82) rfl), lw_t2 (List.mem_of_getElem? (i := 132) rfl), lw_t2 (List.mem_of_getElem? (i := 133) rfl)⟩
theorem lw_p8 : lw_okq (⟨"SongThatStays$Reader", "number", "()I"⟩, 3) := ⟨⟨by decide +kernel, by decide +kernel⟩, lw_t2 (List.mem_of_getElem? (i := 82) rfl), lw_t2 (List.mem_of_getElem? (i := 138) rfl), lw_t2 (List.mem_of_getElem? (i := 139) rfl)⟩
theorem lw_p9 : lw_okq (⟨"SongThatStays$Reader", "digit", "()I"⟩, 3) := ⟨⟨by decide +kernel, by decide +kernel⟩, lw_t2 (List.mem_of_getElem? (i := 82) rfl), lw_t2 (List.mem_of_getElem? (i := 142) rfl), lw_t2 (List.mem_of_getElem? (i := 143) rfl)⟩
theorem lw_p10 : lw_okq (⟨"SongThatStays$Reader", "song", "(I)LSongThatStays$Told;"⟩, 3) := ⟨⟨by decide +kernel, by decide +kernel⟩, lw_t2 (List.mem_of_getElem? (i := 82) rfl), lw_t2 (List.mem_of_getElem? (i := 187) rfl), lw_t2 (List.mem_of_getElem? (i := 188) rfl)⟩
theorem lw_p11 : lw_okq (⟨"SongThatStays$Reader", "songKindOf", "(I)I"⟩, 3) := ⟨⟨by decide +kernel, by decide +kernel⟩, lw_t2 (List.mem_of_getElem? (i := 82) rfl), lw_t2 (List.mem_of_getElem? (i := 191) rfl), lw_t2 (List.mem_of_getElem? (i := 192) rfl)⟩
theorem lw_p12 : lw_okq (⟨"SongThatStays$Reader", "head", "(I)LSongThatStays$Told;"⟩, 3) := ⟨⟨by decide +kernel, by decide +kernel⟩, lw_t2 (List.mem_of_getElem? (i := 82) rfl), lw_t2 (List.mem_of_getElem? (i := 208) rfl), lw_t2 (List.mem_of_getElem? (i := 209) rfl)⟩
theorem lw_p13 : lw_okq (⟨"SongThatStays$Reader", "kindOf", "(I)I"⟩, 3) := ⟨⟨by decide +kernel, by decide +kernel⟩, lw_t2 (List.mem_of_getElem? (i := 82) rfl), lw_t2 (List.mem_of_getElem? (i := 212) rfl), lw_t2 (List.mem_of_getElem? (i := 213) rfl)⟩
theorem lw_p14 : lw_okq (⟨"SongThatStays$Reader", "take", "(I)V"⟩, 3) := ⟨⟨by decide +kernel, by decide +kernel⟩, lw_t2 (List.mem_of_getElem? (i := 82) rfl), lw_t3 (List.mem_of_getElem? (i := 9) rfl), lw_t3 (List.mem_of_getElem? (i := 10) rfl)⟩
theorem lw_p15 : lw_okq (⟨"SongThatStays", "songTold", "(II)I"⟩, 10) := ⟨⟨by decide +kernel, by decide +kernel⟩, lw_t1 (List.mem_of_getElem? (i := 34) rfl), lw_t3 (List.mem_of_getElem? (i := 165) rfl), lw_t3 (List.mem_of_getElem? (i := 166) rfl)⟩
def lw_privs_1 : List (MethodName × Nat) := [(⟨"SongThatStays", "act", "(IIII)I"⟩, 10), (⟨"SongThatStays", "ofOffice", "(III)I"⟩, 10), (⟨"SongThatStays", "letterIt", "(I)I"⟩, 10), (⟨"java/lang/Throwable", "fillInStackTrace", "(I)Ljava/lang/Throwable;"⟩, 6), (⟨"SongThatStays", "readOffice", "()I"⟩, 10), (⟨"SongThatStays$Reader", "here", "()I"⟩, 3), (⟨"SongThatStays$Reader", "mustStand", "(Z)V"⟩, 3), (⟨"SongThatStays$Reader", "told", "(II)LSongThatStays$Told;"⟩, 3), (⟨"SongThatStays$Reader", "number", "()I"⟩, 3), (⟨"SongThatStays$Reader", "digit", "()I"⟩, 3), (⟨"SongThatStays$Reader", "song", "(I)LSongThatStays$Told;"⟩, 3), (⟨"SongThatStays$Reader", "songKindOf", "(I)I"⟩, 3), (⟨"SongThatStays$Reader", "head", "(I)LSongThatStays$Told;"⟩, 3), (⟨"SongThatStays$Reader", "kindOf", "(I)I"⟩, 3), (⟨"SongThatStays$Reader", "take", "(I)V"⟩, 3), (⟨"SongThatStays", "songTold", "(II)I"⟩, 10)]
theorem lw_r1 : ∀ q ∈ lw_privs_1, lw_okq q := List.forall_mem_cons.mpr ⟨lw_p0, List.forall_mem_cons.mpr ⟨lw_p1, List.forall_mem_cons.mpr ⟨lw_p2, List.forall_mem_cons.mpr ⟨lw_p3, List.forall_mem_cons.mpr ⟨lw_p4, List.forall_mem_cons.mpr ⟨lw_p5, List.forall_mem_cons.mpr ⟨lw_p6, List.forall_mem_cons.mpr ⟨lw_p7, List.forall_mem_cons.mpr ⟨lw_p8, List.forall_mem_cons.mpr ⟨lw_p9, List.forall_mem_cons.mpr ⟨lw_p10, List.forall_mem_cons.mpr ⟨lw_p11, List.forall_mem_cons.mpr ⟨lw_p12, List.forall_mem_cons.mpr ⟨lw_p13, List.forall_mem_cons.mpr ⟨lw_p14, List.forall_mem_cons.mpr ⟨lw_p15, fun _ h => absurd h List.not_mem_nil⟩⟩⟩⟩⟩⟩⟩⟩⟩⟩⟩⟩⟩⟩⟩⟩
theorem lw_p16 : lw_okq (⟨"SongThatStays", "mustBeSong", "(I)V"⟩, 10) := ⟨⟨by decide +kernel, by decide +kernel⟩, lw_t1 (List.mem_of_getElem? (i := 34) rfl), lw_t3 (List.mem_of_getElem? (i := 169) rfl), lw_t3 (List.mem_of_getElem? (i := 170) rfl)⟩
theorem lw_p17 : lw_okq (⟨"SongThatStays", "headTold", "(II)I"⟩, 10) := ⟨⟨by decide +kernel, by decide +kernel⟩, lw_t1 (List.mem_of_getElem? (i := 34) rfl), lw_t3 (List.mem_of_getElem? (i := 204) rfl), lw_t3 (List.mem_of_getElem? (i := 205) rfl)⟩
theorem lw_p18 : lw_okq (⟨"SongThatStays", "mustBeHead", "(I)V"⟩, 10) := ⟨⟨by decide +kernel, by decide +kernel⟩, lw_t1 (List.mem_of_getElem? (i := 34) rfl), lw_t3 (List.mem_of_getElem? (i := 208) rfl), lw_t3 (List.mem_of_getElem? (i := 209) rfl)⟩
theorem lw_p19 : lw_okq (⟨"SongThatStays", "nearTold", "(I)I"⟩, 10) := ⟨⟨by decide +kernel, by decide +kernel⟩, lw_t1 (List.mem_of_getElem? (i := 34) rfl), lw_t4 (List.mem_of_getElem? (i := 42) rfl), lw_t4 (List.mem_of_getElem? (i := 43) rfl)⟩
theorem lw_p20 : lw_okq (⟨"SongThatStays", "goIt", "(II)I"⟩, 10) := ⟨⟨by decide +kernel, by decide +kernel⟩, lw_t1 (List.mem_of_getElem? (i := 34) rfl), lw_t4 (List.mem_of_getElem? (i := 58) rfl), lw_t4 (List.mem_of_getElem? (i := 59) rfl)⟩
theorem lw_p21 : lw_okq (⟨"SongThatStays", "getIt", "(II)I"⟩, 10) := ⟨⟨by decide +kernel, by decide +kernel⟩, lw_t1 (List.mem_of_getElem? (i := 34) rfl), lw_t4 (List.mem_of_getElem? (i := 62) rfl), lw_t4 (List.mem_of_getElem? (i := 63) rfl)⟩
theorem lw_p22 : lw_okq (⟨"SongThatStays", "mustBeSongOrNone", "(I)V"⟩, 10) := ⟨⟨by decide +kernel, by decide +kernel⟩, lw_t1 (List.mem_of_getElem? (i := 34) rfl), lw_t4 (List.mem_of_getElem? (i := 66) rfl), lw_t4 (List.mem_of_getElem? (i := 67) rfl)⟩
theorem lw_p23 : lw_okq (⟨"SongThatStays", "ofOfficeToo", "(III)I"⟩, 10) := ⟨⟨by decide +kernel, by decide +kernel⟩, lw_t1 (List.mem_of_getElem? (i := 34) rfl), lw_t4 (List.mem_of_getElem? (i := 72) rfl), lw_t4 (List.mem_of_getElem? (i := 73) rfl)⟩
theorem lw_p24 : lw_okq (⟨"SongThatStays", "remedyIt", "(II)I"⟩, 10) := ⟨⟨by decide +kernel, by decide +kernel⟩, lw_t1 (List.mem_of_getElem? (i := 34) rfl), lw_t4 (List.mem_of_getElem? (i := 76) rfl), lw_t4 (List.mem_of_getElem? (i := 77) rfl)⟩
theorem lw_p25 : lw_okq (⟨"SongThatStays", "loudTold", "(I)I"⟩, 10) := ⟨⟨by decide +kernel, by decide +kernel⟩, lw_t1 (List.mem_of_getElem? (i := 34) rfl), lw_t4 (List.mem_of_getElem? (i := 92) rfl), lw_t4 (List.mem_of_getElem? (i := 93) rfl)⟩
theorem lw_p26 : lw_okq (⟨"SongThatStays$Office", "gotBy", "(I)I"⟩, 20) := ⟨⟨by decide +kernel, by decide +kernel⟩, lw_t1 (List.mem_of_getElem? (i := 89) rfl), lw_t4 (List.mem_of_getElem? (i := 102) rfl), lw_t4 (List.mem_of_getElem? (i := 103) rfl)⟩
theorem lw_p27 : lw_okq (⟨"SongThatStays$Office", "giverOf", "(I)I"⟩, 20) := ⟨⟨by decide +kernel, by decide +kernel⟩, lw_t1 (List.mem_of_getElem? (i := 89) rfl), lw_t4 (List.mem_of_getElem? (i := 108) rfl), lw_t4 (List.mem_of_getElem? (i := 109) rfl)⟩
theorem lw_p28 : lw_okq (⟨"SongThatStays$Office", "fade", "(I)V"⟩, 20) := ⟨⟨by decide +kernel, by decide +kernel⟩, lw_t1 (List.mem_of_getElem? (i := 89) rfl), lw_t4 (List.mem_of_getElem? (i := 113) rfl), lw_t4 (List.mem_of_getElem? (i := 114) rfl)⟩
theorem lw_p29 : lw_okq (⟨"SongThatStays", "ofHours", "(IIII)I"⟩, 10) := ⟨⟨by decide +kernel, by decide +kernel⟩, lw_t1 (List.mem_of_getElem? (i := 34) rfl), lw_t4 (List.mem_of_getElem? (i := 143) rfl), lw_t4 (List.mem_of_getElem? (i := 144) rfl)⟩
theorem lw_p30 : lw_okq (⟨"SongThatStays", "holdTold", "(III)I"⟩, 10) := ⟨⟨by decide +kernel, by decide +kernel⟩, lw_t1 (List.mem_of_getElem? (i := 34) rfl), lw_t4 (List.mem_of_getElem? (i := 147) rfl), lw_t4 (List.mem_of_getElem? (i := 148) rfl)⟩
theorem lw_p31 : lw_okq (⟨"SongThatStays", "openMind", "()LSongThatStays$Office;"⟩, 10) := ⟨⟨by decide +kernel, by decide +kernel⟩, lw_t1 (List.mem_of_getElem? (i := 34) rfl), lw_t4 (List.mem_of_getElem? (i := 158) rfl), lw_t4 (List.mem_of_getElem? (i := 159) rfl)⟩
def lw_privs_2 : List (MethodName × Nat) := [(⟨"SongThatStays", "mustBeSong", "(I)V"⟩, 10), (⟨"SongThatStays", "headTold", "(II)I"⟩, 10), (⟨"SongThatStays", "mustBeHead", "(I)V"⟩, 10), (⟨"SongThatStays", "nearTold", "(I)I"⟩, 10), (⟨"SongThatStays", "goIt", "(II)I"⟩, 10), (⟨"SongThatStays", "getIt", "(II)I"⟩, 10), (⟨"SongThatStays", "mustBeSongOrNone", "(I)V"⟩, 10), (⟨"SongThatStays", "ofOfficeToo", "(III)I"⟩, 10), (⟨"SongThatStays", "remedyIt", "(II)I"⟩, 10), (⟨"SongThatStays", "loudTold", "(I)I"⟩, 10), (⟨"SongThatStays$Office", "gotBy", "(I)I"⟩, 20), (⟨"SongThatStays$Office", "giverOf", "(I)I"⟩, 20), (⟨"SongThatStays$Office", "fade", "(I)V"⟩, 20), (⟨"SongThatStays", "ofHours", "(IIII)I"⟩, 10), (⟨"SongThatStays", "holdTold", "(III)I"⟩, 10), (⟨"SongThatStays", "openMind", "()LSongThatStays$Office;"⟩, 10)]
theorem lw_r2 : ∀ q ∈ lw_privs_2, lw_okq q := List.forall_mem_cons.mpr ⟨lw_p16, List.forall_mem_cons.mpr ⟨lw_p17, List.forall_mem_cons.mpr ⟨lw_p18, List.forall_mem_cons.mpr ⟨lw_p19, List.forall_mem_cons.mpr ⟨lw_p20, List.forall_mem_cons.mpr ⟨lw_p21, List.forall_mem_cons.mpr ⟨lw_p22, List.forall_mem_cons.mpr ⟨lw_p23, List.forall_mem_cons.mpr ⟨lw_p24, List.forall_mem_cons.mpr ⟨lw_p25, List.forall_mem_cons.mpr ⟨lw_p26, List.forall_mem_cons.mpr ⟨lw_p27, List.forall_mem_cons.mpr ⟨lw_p28, List.forall_mem_cons.mpr ⟨lw_p29, List.forall_mem_cons.mpr ⟨lw_p30, List.forall_mem_cons.mpr ⟨lw_p31, fun _ h => absurd h List.not_mem_nil⟩⟩⟩⟩⟩⟩⟩⟩⟩⟩⟩⟩⟩⟩⟩⟩
theorem lw_p32 : lw_okq (⟨"SongThatStays", "haveTold", "(II)I"⟩, 10) := ⟨⟨by decide +kernel, by decide +kernel⟩, lw_t1 (List.mem_of_getElem? (i := 34) rfl), lw_t4 (List.mem_of_getElem? (i := 167) rfl), lw_t4 (List.mem_of_getElem? (i := 168) rfl)⟩
theorem lw_p33 : lw_okq (⟨"SongThatStays", "takesTold", "(II)I"⟩, 10) := ⟨⟨by decide +kernel, by decide +kernel⟩, lw_t1 (List.mem_of_getElem? (i := 34) rfl), lw_t4 (List.mem_of_getElem? (i := 171) rfl), lw_t4 (List.mem_of_getElem? (i := 172) rfl)⟩
theorem lw_p34 : lw_okq (⟨"SongThatStays", "firstTaken", "(II)I"⟩, 10) := ⟨⟨by decide +kernel, by decide +kernel⟩, lw_t1 (List.mem_of_getElem? (i := 34) rfl), lw_t4 (List.mem_of_getElem? (i := 175) rfl), lw_t4 (List.mem_of_getElem? (i := 176) rfl)⟩
theorem lw_p35 : lw_okq (⟨"SongThatStays", "stillBehind", "()I"⟩, 10) := ⟨⟨by decide +kernel, by decide +kernel⟩, lw_t1 (List.mem_of_getElem? (i := 34) rfl), lw_t4 (List.mem_of_getElem? (i := 179) rfl), lw_t4 (List.mem_of_getElem? (i := 180) rfl)⟩
theorem lw_p36 : lw_okq (⟨"SongThatStays", "mostAsked", "(III)I"⟩, 10) := ⟨⟨by decide +kernel, by decide +kernel⟩, lw_t1 (List.mem_of_getElem? (i := 34) rfl), lw_t4 (List.mem_of_getElem? (i := 183) rfl), lw_t4 (List.mem_of_getElem? (i := 184) rfl)⟩
theorem lw_p37 : lw_okq (⟨"SongThatStays", "mostTold", "(III)I"⟩, 10) := ⟨⟨by decide +kernel, by decide +kernel⟩, lw_t1 (List.mem_of_getElem? (i := 34) rfl), lw_t4 (List.mem_of_getElem? (i := 187) rfl), lw_t4 (List.mem_of_getElem? (i := 188) rfl)⟩
theorem lw_p38 : lw_okq (⟨"SongThatStays", "lastsBehind", "(I)I"⟩, 10) := ⟨⟨by decide +kernel, by decide +kernel⟩, lw_t1 (List.mem_of_getElem? (i := 34) rfl), lw_t4 (List.mem_of_getElem? (i := 192) rfl), lw_t4 (List.mem_of_getElem? (i := 193) rfl)⟩
theorem lw_p39 : lw_okq (⟨"SongThatStays", "fromAsked", "(IIZ)I"⟩, 10) := ⟨⟨by decide +kernel, by decide +kernel⟩, lw_t1 (List.mem_of_getElem? (i := 34) rfl), lw_t4 (List.mem_of_getElem? (i := 196) rfl), lw_t4 (List.mem_of_getElem? (i := 197) rfl)⟩
theorem lw_p40 : lw_okq (⟨"SongThatStays", "fromTold", "(IIZ)I"⟩, 10) := ⟨⟨by decide +kernel, by decide +kernel⟩, lw_t1 (List.mem_of_getElem? (i := 34) rfl), lw_t4 (List.mem_of_getElem? (i := 200) rfl), lw_t4 (List.mem_of_getElem? (i := 201) rfl)⟩
theorem lw_p41 : lw_okq (⟨"SongThatStays", "ridAsked", "(II)I"⟩, 10) := ⟨⟨by decide +kernel, by decide +kernel⟩, lw_t1 (List.mem_of_getElem? (i := 34) rfl), lw_t4 (List.mem_of_getElem? (i := 208) rfl), lw_t4 (List.mem_of_getElem? (i := 209) rfl)⟩
theorem lw_p42 : lw_okq (⟨"SongThatStays", "mustHaveSong", "(I)V"⟩, 10) := ⟨⟨by decide +kernel, by decide +kernel⟩, lw_t1 (List.mem_of_getElem? (i := 34) rfl), lw_t4 (List.mem_of_getElem? (i := 212) rfl), lw_t4 (List.mem_of_getElem? (i := 213) rfl)⟩
theorem lw_p43 : lw_okq (⟨"SongThatStays", "ridTold", "(II)I"⟩, 10) := ⟨⟨by decide +kernel, by decide +kernel⟩, lw_t1 (List.mem_of_getElem? (i := 34) rfl), lw_t4 (List.mem_of_getElem? (i := 216) rfl), lw_t4 (List.mem_of_getElem? (i := 217) rfl)⟩
theorem lw_p44 : lw_okq (⟨"SongThatStays", "freeBy", "(II)I"⟩, 10) := ⟨⟨by decide +kernel, by decide +kernel⟩, lw_t1 (List.mem_of_getElem? (i := 34) rfl), lw_t4 (List.mem_of_getElem? (i := 220) rfl), lw_t4 (List.mem_of_getElem? (i := 221) rfl)⟩
theorem lw_p45 : lw_okq (⟨"SongThatStays", "insteadTold", "(I)I"⟩, 10) := ⟨⟨by decide +kernel, by decide +kernel⟩, lw_t1 (List.mem_of_getElem? (i := 34) rfl), lw_t4 (List.mem_of_getElem? (i := 228) rfl), lw_t4 (List.mem_of_getElem? (i := 229) rfl)⟩
theorem lw_p46 : lw_okq (⟨"SongThatStays", "songInstead", "(I)I"⟩, 10) := ⟨⟨by decide +kernel, by decide +kernel⟩, lw_t1 (List.mem_of_getElem? (i := 34) rfl), lw_t4 (List.mem_of_getElem? (i := 232) rfl), lw_t4 (List.mem_of_getElem? (i := 233) rfl)⟩
theorem lw_p47 : lw_okq (⟨"SongThatStays", "ofRest", "(IIII)I"⟩, 10) := ⟨⟨by decide +kernel, by decide +kernel⟩, lw_t1 (List.mem_of_getElem? (i := 34) rfl), lw_t4 (List.mem_of_getElem? (i := 236) rfl), lw_t4 (List.mem_of_getElem? (i := 237) rfl)⟩
def lw_privs_3 : List (MethodName × Nat) := [(⟨"SongThatStays", "haveTold", "(II)I"⟩, 10), (⟨"SongThatStays", "takesTold", "(II)I"⟩, 10), (⟨"SongThatStays", "firstTaken", "(II)I"⟩, 10), (⟨"SongThatStays", "stillBehind", "()I"⟩, 10), (⟨"SongThatStays", "mostAsked", "(III)I"⟩, 10), (⟨"SongThatStays", "mostTold", "(III)I"⟩, 10), (⟨"SongThatStays", "lastsBehind", "(I)I"⟩, 10), (⟨"SongThatStays", "fromAsked", "(IIZ)I"⟩, 10), (⟨"SongThatStays", "fromTold", "(IIZ)I"⟩, 10), (⟨"SongThatStays", "ridAsked", "(II)I"⟩, 10), (⟨"SongThatStays", "mustHaveSong", "(I)V"⟩, 10), (⟨"SongThatStays", "ridTold", "(II)I"⟩, 10), (⟨"SongThatStays", "freeBy", "(II)I"⟩, 10), (⟨"SongThatStays", "insteadTold", "(I)I"⟩, 10), (⟨"SongThatStays", "songInstead", "(I)I"⟩, 10), (⟨"SongThatStays", "ofRest", "(IIII)I"⟩, 10)]
theorem lw_r3 : ∀ q ∈ lw_privs_3, lw_okq q := List.forall_mem_cons.mpr ⟨lw_p32, List.forall_mem_cons.mpr ⟨lw_p33, List.forall_mem_cons.mpr ⟨lw_p34, List.forall_mem_cons.mpr ⟨lw_p35, List.forall_mem_cons.mpr ⟨lw_p36, List.forall_mem_cons.mpr ⟨lw_p37, List.forall_mem_cons.mpr ⟨lw_p38, List.forall_mem_cons.mpr ⟨lw_p39, List.forall_mem_cons.mpr ⟨lw_p40, List.forall_mem_cons.mpr ⟨lw_p41, List.forall_mem_cons.mpr ⟨lw_p42, List.forall_mem_cons.mpr ⟨lw_p43, List.forall_mem_cons.mpr ⟨lw_p44, List.forall_mem_cons.mpr ⟨lw_p45, List.forall_mem_cons.mpr ⟨lw_p46, List.forall_mem_cons.mpr ⟨lw_p47, fun _ h => absurd h List.not_mem_nil⟩⟩⟩⟩⟩⟩⟩⟩⟩⟩⟩⟩⟩⟩⟩⟩
theorem lw_p48 : lw_okq (⟨"SongThatStays", "bestShut", "(I)I"⟩, 10) := ⟨⟨by decide +kernel, by decide +kernel⟩, lw_t1 (List.mem_of_getElem? (i := 34) rfl), lw_t5 (List.mem_of_getElem? (i := 0) rfl), lw_t5 (List.mem_of_getElem? (i := 1) rfl)⟩
theorem lw_p49 : lw_okq (⟨"SongThatStays", "bestSeats", "(I)I"⟩, 10) := ⟨⟨by decide +kernel, by decide +kernel⟩, lw_t1 (List.mem_of_getElem? (i := 34) rfl), lw_t5 (List.mem_of_getElem? (i := 4) rfl), lw_t5 (List.mem_of_getElem? (i := 5) rfl)⟩
theorem lw_p50 : lw_okq (⟨"SongThatStays", "writeAsked", "(III)I"⟩, 10) := ⟨⟨by decide +kernel, by decide +kernel⟩, lw_t1 (List.mem_of_getElem? (i := 34) rfl), lw_t5 (List.mem_of_getElem? (i := 8) rfl), lw_t5 (List.mem_of_getElem? (i := 9) rfl)⟩
theorem lw_p51 : lw_okq (⟨"SongThatStays", "writeTold", "(III)I"⟩, 10) := ⟨⟨by decide +kernel, by decide +kernel⟩, lw_t1 (List.mem_of_getElem? (i := 34) rfl), lw_t5 (List.mem_of_getElem? (i := 12) rfl), lw_t5 (List.mem_of_getElem? (i := 13) rfl)⟩
theorem lw_p52 : lw_okq (⟨"SongThatStays", "otherwiseAsked", "(II)I"⟩, 10) := ⟨⟨by decide +kernel, by decide +kernel⟩, lw_t1 (List.mem_of_getElem? (i := 34) rfl), lw_t5 (List.mem_of_getElem? (i := 18) rfl), lw_t5 (List.mem_of_getElem? (i := 19) rfl)⟩
theorem lw_p53 : lw_okq (⟨"SongThatStays", "otherwiseTold", "(II)I"⟩, 10) := ⟨⟨by decide +kernel, by decide +kernel⟩, lw_t1 (List.mem_of_getElem? (i := 34) rfl), lw_t5 (List.mem_of_getElem? (i := 22) rfl), lw_t5 (List.mem_of_getElem? (i := 23) rfl)⟩
theorem lw_p54 : lw_okq (⟨"SongThatStays", "isAsTold", "(LSongThatStays$Office;)Z"⟩, 10) := ⟨⟨by decide +kernel, by decide +kernel⟩, lw_t1 (List.mem_of_getElem? (i := 34) rfl), lw_t5 (List.mem_of_getElem? (i := 26) rfl), lw_t5 (List.mem_of_getElem? (i := 27) rfl)⟩
theorem lw_p55 : lw_okq (⟨"SongThatStays", "judgeRow", "()I"⟩, 10) := ⟨⟨by decide +kernel, by decide +kernel⟩, lw_t1 (List.mem_of_getElem? (i := 34) rfl), lw_t5 (List.mem_of_getElem? (i := 30) rfl), lw_t5 (List.mem_of_getElem? (i := 31) rfl)⟩
theorem lw_p56 : lw_okq (⟨"SongThatStays", "ofLast", "(III)I"⟩, 10) := ⟨⟨by decide +kernel, by decide +kernel⟩, lw_t1 (List.mem_of_getElem? (i := 34) rfl), lw_t5 (List.mem_of_getElem? (i := 34) rfl), lw_t5 (List.mem_of_getElem? (i := 35) rfl)⟩
theorem lw_p57 : lw_okq (⟨"SongThatStays", "bySeeds", "(II)I"⟩, 10) := ⟨⟨by decide +kernel, by decide +kernel⟩, lw_t1 (List.mem_of_getElem? (i := 34) rfl), lw_t5 (List.mem_of_getElem? (i := 39) rfl), lw_t5 (List.mem_of_getElem? (i := 40) rfl)⟩
theorem lw_p58 : lw_okq (⟨"SongThatStays", "refuse", "(I)I"⟩, 10) := ⟨⟨by decide +kernel, by decide +kernel⟩, lw_t1 (List.mem_of_getElem? (i := 34) rfl), lw_t5 (List.mem_of_getElem? (i := 55) rfl), lw_t5 (List.mem_of_getElem? (i := 56) rfl)⟩
theorem lw_p59 : lw_okq (⟨"SongThatStays", "strengthOfAll", "()I"⟩, 10) := ⟨⟨by decide +kernel, by decide +kernel⟩, lw_t1 (List.mem_of_getElem? (i := 34) rfl), lw_t5 (List.mem_of_getElem? (i := 182) rfl), lw_t5 (List.mem_of_getElem? (i := 183) rfl)⟩
theorem lw_p60 : lw_okq (⟨"SongThatStaysModel", "refuse", "(I)I"⟩, 17) := ⟨⟨by decide +kernel, by decide +kernel⟩, lw_t5 (List.mem_of_getElem? (i := 188) rfl), lw_t6 (List.mem_of_getElem? (i := 13) rfl), lw_t6 (List.mem_of_getElem? (i := 14) rfl)⟩
theorem lw_p61 : lw_okq (⟨"SongThatStaysModel", "reads", "()I"⟩, 17) := ⟨⟨by decide +kernel, by decide +kernel⟩, lw_t5 (List.mem_of_getElem? (i := 188) rfl), lw_t6 (List.mem_of_getElem? (i := 21) rfl), lw_t6 (List.mem_of_getElem? (i := 22) rfl)⟩
theorem lw_p62 : lw_okq (⟨"SongThatStaysModel", "readsStatement", "()Z"⟩, 17) := ⟨⟨by decide +kernel, by decide +kernel⟩, lw_t5 (List.mem_of_getElem? (i := 188) rfl), lw_t6 (List.mem_of_getElem? (i := 25) rfl), lw_t6 (List.mem_of_getElem? (i := 26) rfl)⟩
theorem lw_p63 : lw_okq (⟨"SongThatStaysModel", "sign", "()I"⟩, 17) := ⟨⟨by decide +kernel, by decide +kernel⟩, lw_t5 (List.mem_of_getElem? (i := 188) rfl), lw_t6 (List.mem_of_getElem? (i := 29) rfl), lw_t6 (List.mem_of_getElem? (i := 30) rfl)⟩
def lw_privs_4 : List (MethodName × Nat) := [(⟨"SongThatStays", "bestShut", "(I)I"⟩, 10), (⟨"SongThatStays", "bestSeats", "(I)I"⟩, 10), (⟨"SongThatStays", "writeAsked", "(III)I"⟩, 10), (⟨"SongThatStays", "writeTold", "(III)I"⟩, 10), (⟨"SongThatStays", "otherwiseAsked", "(II)I"⟩, 10), (⟨"SongThatStays", "otherwiseTold", "(II)I"⟩, 10), (⟨"SongThatStays", "isAsTold", "(LSongThatStays$Office;)Z"⟩, 10), (⟨"SongThatStays", "judgeRow", "()I"⟩, 10), (⟨"SongThatStays", "ofLast", "(III)I"⟩, 10), (⟨"SongThatStays", "bySeeds", "(II)I"⟩, 10), (⟨"SongThatStays", "refuse", "(I)I"⟩, 10), (⟨"SongThatStays", "strengthOfAll", "()I"⟩, 10), (⟨"SongThatStaysModel", "refuse", "(I)I"⟩, 17), (⟨"SongThatStaysModel", "reads", "()I"⟩, 17), (⟨"SongThatStaysModel", "readsStatement", "()Z"⟩, 17), (⟨"SongThatStaysModel", "sign", "()I"⟩, 17)]
theorem lw_r4 : ∀ q ∈ lw_privs_4, lw_okq q := List.forall_mem_cons.mpr ⟨lw_p48, List.forall_mem_cons.mpr ⟨lw_p49, List.forall_mem_cons.mpr ⟨lw_p50, List.forall_mem_cons.mpr ⟨lw_p51, List.forall_mem_cons.mpr ⟨lw_p52, List.forall_mem_cons.mpr ⟨lw_p53, List.forall_mem_cons.mpr ⟨lw_p54, List.forall_mem_cons.mpr ⟨lw_p55, List.forall_mem_cons.mpr ⟨lw_p56, List.forall_mem_cons.mpr ⟨lw_p57, List.forall_mem_cons.mpr ⟨lw_p58, List.forall_mem_cons.mpr ⟨lw_p59, List.forall_mem_cons.mpr ⟨lw_p60, List.forall_mem_cons.mpr ⟨lw_p61, List.forall_mem_cons.mpr ⟨lw_p62, List.forall_mem_cons.mpr ⟨lw_p63, fun _ h => absurd h List.not_mem_nil⟩⟩⟩⟩⟩⟩⟩⟩⟩⟩⟩⟩⟩⟩⟩⟩
theorem lw_p64 : lw_okq (⟨"SongThatStaysModel", "readsNumber", "(II)Z"⟩, 17) := ⟨⟨by decide +kernel, by decide +kernel⟩, lw_t5 (List.mem_of_getElem? (i := 188) rfl), lw_t6 (List.mem_of_getElem? (i := 33) rfl), lw_t6 (List.mem_of_getElem? (i := 34) rfl)⟩
theorem lw_p65 : lw_okq (⟨"SongThatStaysModel", "readsKind", "(I)Z"⟩, 17) := ⟨⟨by decide +kernel, by decide +kernel⟩, lw_t5 (List.mem_of_getElem? (i := 188) rfl), lw_t6 (List.mem_of_getElem? (i := 43) rfl), lw_t6 (List.mem_of_getElem? (i := 44) rfl)⟩
theorem lw_p66 : lw_okq (⟨"SongThatStaysModel", "takes", "(I)Z"⟩, 17) := ⟨⟨by decide +kernel, by decide +kernel⟩, lw_t5 (List.mem_of_getElem? (i := 188) rfl), lw_t6 (List.mem_of_getElem? (i := 50) rfl), lw_t6 (List.mem_of_getElem? (i := 51) rfl)⟩
theorem lw_p67 : lw_okq (⟨"SongThatStaysModel", "comes", "(I)Z"⟩, 17) := ⟨⟨by decide +kernel, by decide +kernel⟩, lw_t5 (List.mem_of_getElem? (i := 188) rfl), lw_t6 (List.mem_of_getElem? (i := 57) rfl), lw_t6 (List.mem_of_getElem? (i := 58) rfl)⟩
theorem lw_p68 : lw_okq (⟨"SongThatStaysModel", "puts", "(III)V"⟩, 17) := ⟨⟨by decide +kernel, by decide +kernel⟩, lw_t5 (List.mem_of_getElem? (i := 188) rfl), lw_t6 (List.mem_of_getElem? (i := 61) rfl), lw_t6 (List.mem_of_getElem? (i := 62) rfl)⟩
theorem lw_p69 : lw_okq (⟨"SongThatStaysModel", "isHead", "(I)Z"⟩, 17) := ⟨⟨by decide +kernel, by decide +kernel⟩, lw_t5 (List.mem_of_getElem? (i := 188) rfl), lw_t6 (List.mem_of_getElem? (i := 65) rfl), lw_t6 (List.mem_of_getElem? (i := 66) rfl)⟩
theorem lw_p70 : lw_okq (⟨"SongThatStaysModel", "isSong", "(I)Z"⟩, 17) := ⟨⟨by decide +kernel, by decide +kernel⟩, lw_t5 (List.mem_of_getElem? (i := 188) rfl), lw_t6 (List.mem_of_getElem? (i := 69) rfl), lw_t6 (List.mem_of_getElem? (i := 70) rfl)⟩
theorem lw_p71 : lw_okq (⟨"SongThatStaysModel", "gets", "(II)V"⟩, 17) := ⟨⟨by decide +kernel, by decide +kernel⟩, lw_t5 (List.mem_of_getElem? (i := 188) rfl), lw_t6 (List.mem_of_getElem? (i := 73) rfl), lw_t6 (List.mem_of_getElem? (i := 74) rfl)⟩
theorem lw_p72 : lw_okq (⟨"SongThatStaysModel", "fresh", "(I)I"⟩, 17) := ⟨⟨by decide +kernel, by decide +kernel⟩, lw_t5 (List.mem_of_getElem? (i := 188) rfl), lw_t6 (List.mem_of_getElem? (i := 77) rfl), lw_t6 (List.mem_of_getElem? (i := 78) rfl)⟩
theorem lw_p73 : lw_okq (⟨"SongThatStaysModel", "of", "(II)I"⟩, 17) := ⟨⟨by decide +kernel, by decide +kernel⟩, lw_t5 (List.mem_of_getElem? (i := 188) rfl), lw_t6 (List.mem_of_getElem? (i := 81) rfl), lw_t6 (List.mem_of_getElem? (i := 82) rfl)⟩
theorem lw_p74 : lw_okq (⟨"SongThatStaysModel", "haveIt", "(I)I"⟩, 17) := ⟨⟨by decide +kernel, by decide +kernel⟩, lw_t5 (List.mem_of_getElem? (i := 188) rfl), lw_t6 (List.mem_of_getElem? (i := 89) rfl), lw_t6 (List.mem_of_getElem? (i := 90) rfl)⟩
theorem lw_p75 : lw_okq (⟨"SongThatStaysModel", "at", "(II)I"⟩, 17) := ⟨⟨by decide +kernel, by decide +kernel⟩, lw_t5 (List.mem_of_getElem? (i := 188) rfl), lw_t6 (List.mem_of_getElem? (i := 93) rfl), lw_t6 (List.mem_of_getElem? (i := 94) rfl)⟩
theorem lw_p76 : lw_okq (⟨"SongThatStaysModel", "bar", "(I)I"⟩, 17) := ⟨⟨by decide +kernel, by decide +kernel⟩, lw_t5 (List.mem_of_getElem? (i := 188) rfl), lw_t6 (List.mem_of_getElem? (i := 101) rfl), lw_t6 (List.mem_of_getElem? (i := 102) rfl)⟩
theorem lw_p77 : lw_okq (⟨"SongThatStaysModel", "hums", "(I)Z"⟩, 17) := ⟨⟨by decide +kernel, by decide +kernel⟩, lw_t5 (List.mem_of_getElem? (i := 188) rfl), lw_t6 (List.mem_of_getElem? (i := 105) rfl), lw_t6 (List.mem_of_getElem? (i := 106) rfl)⟩
theorem lw_p78 : lw_okq (⟨"SongThatStaysModel", "areNear", "(II)Z"⟩, 17) := ⟨⟨by decide +kernel, by decide +kernel⟩, lw_t5 (List.mem_of_getElem? (i := 188) rfl), lw_t6 (List.mem_of_getElem? (i := 113) rfl), lw_t6 (List.mem_of_getElem? (i := 114) rfl)⟩
theorem lw_p79 : lw_okq (⟨"SongThatStaysModel", "mends", "(II)V"⟩, 17) := ⟨⟨by decide +kernel, by decide +kernel⟩, lw_t5 (List.mem_of_getElem? (i := 188) rfl), lw_t6 (List.mem_of_getElem? (i := 133) rfl), lw_t6 (List.mem_of_getElem? (i := 134) rfl)⟩
def lw_privs_5 : List (MethodName × Nat) := [(⟨"SongThatStaysModel", "readsNumber", "(II)Z"⟩, 17), (⟨"SongThatStaysModel", "readsKind", "(I)Z"⟩, 17), (⟨"SongThatStaysModel", "takes", "(I)Z"⟩, 17), (⟨"SongThatStaysModel", "comes", "(I)Z"⟩, 17), (⟨"SongThatStaysModel", "puts", "(III)V"⟩, 17), (⟨"SongThatStaysModel", "isHead", "(I)Z"⟩, 17), (⟨"SongThatStaysModel", "isSong", "(I)Z"⟩, 17), (⟨"SongThatStaysModel", "gets", "(II)V"⟩, 17), (⟨"SongThatStaysModel", "fresh", "(I)I"⟩, 17), (⟨"SongThatStaysModel", "of", "(II)I"⟩, 17), (⟨"SongThatStaysModel", "haveIt", "(I)I"⟩, 17), (⟨"SongThatStaysModel", "at", "(II)I"⟩, 17), (⟨"SongThatStaysModel", "bar", "(I)I"⟩, 17), (⟨"SongThatStaysModel", "hums", "(I)Z"⟩, 17), (⟨"SongThatStaysModel", "areNear", "(II)Z"⟩, 17), (⟨"SongThatStaysModel", "mends", "(II)V"⟩, 17)]
theorem lw_r5 : ∀ q ∈ lw_privs_5, lw_okq q := List.forall_mem_cons.mpr ⟨lw_p64, List.forall_mem_cons.mpr ⟨lw_p65, List.forall_mem_cons.mpr ⟨lw_p66, List.forall_mem_cons.mpr ⟨lw_p67, List.forall_mem_cons.mpr ⟨lw_p68, List.forall_mem_cons.mpr ⟨lw_p69, List.forall_mem_cons.mpr ⟨lw_p70, List.forall_mem_cons.mpr ⟨lw_p71, List.forall_mem_cons.mpr ⟨lw_p72, List.forall_mem_cons.mpr ⟨lw_p73, List.forall_mem_cons.mpr ⟨lw_p74, List.forall_mem_cons.mpr ⟨lw_p75, List.forall_mem_cons.mpr ⟨lw_p76, List.forall_mem_cons.mpr ⟨lw_p77, List.forall_mem_cons.mpr ⟨lw_p78, List.forall_mem_cons.mpr ⟨lw_p79, fun _ h => absurd h List.not_mem_nil⟩⟩⟩⟩⟩⟩⟩⟩⟩⟩⟩⟩⟩⟩⟩⟩
theorem lw_p80 : lw_okq (⟨"SongThatStaysModel", "goes", "()I"⟩, 17) := ⟨⟨by decide +kernel, by decide +kernel⟩, lw_t5 (List.mem_of_getElem? (i := 188) rfl), lw_t6 (List.mem_of_getElem? (i := 145) rfl), lw_t6 (List.mem_of_getElem? (i := 146) rfl)⟩
theorem lw_p81 : lw_okq (⟨"SongThatStaysModel", "hears", "(II)V"⟩, 17) := ⟨⟨by decide +kernel, by decide +kernel⟩, lw_t5 (List.mem_of_getElem? (i := 188) rfl), lw_t6 (List.mem_of_getElem? (i := 149) rfl), lw_t6 (List.mem_of_getElem? (i := 150) rfl)⟩
theorem lw_p82 : lw_okq (⟨"SongThatStaysModel", "wanes", "(I)V"⟩, 17) := ⟨⟨by decide +kernel, by decide +kernel⟩, lw_t5 (List.mem_of_getElem? (i := 188) rfl), lw_t6 (List.mem_of_getElem? (i := 153) rfl), lw_t6 (List.mem_of_getElem? (i := 154) rfl)⟩
theorem lw_p83 : lw_okq (⟨"SongThatStaysModel", "fades", "(I)I"⟩, 17) := ⟨⟨by decide +kernel, by decide +kernel⟩, lw_t5 (List.mem_of_getElem? (i := 188) rfl), lw_t6 (List.mem_of_getElem? (i := 157) rfl), lw_t6 (List.mem_of_getElem? (i := 158) rfl)⟩
theorem lw_p84 : lw_okq (⟨"SongThatStaysModel", "wrong", "(ZI)I"⟩, 17) := ⟨⟨by decide +kernel, by decide +kernel⟩, lw_t5 (List.mem_of_getElem? (i := 188) rfl), lw_t6 (List.mem_of_getElem? (i := 165) rfl), lw_t6 (List.mem_of_getElem? (i := 166) rfl)⟩
theorem lw_p85 : lw_okq (⟨"SongThatStaysModel", "begins", "()V"⟩, 17) := ⟨⟨by decide +kernel, by decide +kernel⟩, lw_t5 (List.mem_of_getElem? (i := 188) rfl), lw_t6 (List.mem_of_getElem? (i := 169) rfl), lw_t6 (List.mem_of_getElem? (i := 170) rfl)⟩
theorem lw_p86 : lw_okq (⟨"SongThatStaysModel", "goesFor", "(I)V"⟩, 17) := ⟨⟨by decide +kernel, by decide +kernel⟩, lw_t5 (List.mem_of_getElem? (i := 188) rfl), lw_t6 (List.mem_of_getElem? (i := 173) rfl), lw_t6 (List.mem_of_getElem? (i := 174) rfl)⟩
theorem lw_p87 : lw_okq (⟨"SongThatStaysModel", "ends", "()V"⟩, 17) := ⟨⟨by decide +kernel, by decide +kernel⟩, lw_t5 (List.mem_of_getElem? (i := 188) rfl), lw_t6 (List.mem_of_getElem? (i := 177) rfl), lw_t6 (List.mem_of_getElem? (i := 178) rfl)⟩
theorem lw_p88 : lw_okq (⟨"SongThatStaysModel", "haveBehind", "(II)I"⟩, 17) := ⟨⟨by decide +kernel, by decide +kernel⟩, lw_t5 (List.mem_of_getElem? (i := 188) rfl), lw_t6 (List.mem_of_getElem? (i := 185) rfl), lw_t6 (List.mem_of_getElem? (i := 186) rfl)⟩
theorem lw_p89 : lw_okq (⟨"SongThatStaysModel", "wentBy", "(IIZ)I"⟩, 17) := ⟨⟨by decide +kernel, by decide +kernel⟩, lw_t5 (List.mem_of_getElem? (i := 188) rfl), lw_t6 (List.mem_of_getElem? (i := 209) rfl), lw_t6 (List.mem_of_getElem? (i := 210) rfl)⟩
theorem lw_p90 : lw_okq (⟨"SongThatStaysModel", "starts", "()V"⟩, 17) := ⟨⟨by decide +kernel, by decide +kernel⟩, lw_t5 (List.mem_of_getElem? (i := 188) rfl), lw_t6 (List.mem_of_getElem? (i := 213) rfl), lw_t6 (List.mem_of_getElem? (i := 214) rfl)⟩
theorem lw_p91 : lw_okq (⟨"SongThatStaysModel", "ridOf", "(I)I"⟩, 17) := ⟨⟨by decide +kernel, by decide +kernel⟩, lw_t5 (List.mem_of_getElem? (i := 188) rfl), lw_t6 (List.mem_of_getElem? (i := 225) rfl), lw_t6 (List.mem_of_getElem? (i := 226) rfl)⟩
theorem lw_p92 : lw_okq (⟨"SongThatStaysModel", "isAllTold", "()Z"⟩, 17) := ⟨⟨by decide +kernel, by decide +kernel⟩, lw_t5 (List.mem_of_getElem? (i := 188) rfl), lw_t7 (List.mem_of_getElem? (i := 13) rfl), lw_t7 (List.mem_of_getElem? (i := 14) rfl)⟩
theorem lw_p93 : lw_okq (⟨"SongThatStaysModel", "isTold", "(I)Z"⟩, 17) := ⟨⟨by decide +kernel, by decide +kernel⟩, lw_t5 (List.mem_of_getElem? (i := 188) rfl), lw_t7 (List.mem_of_getElem? (i := 17) rfl), lw_t7 (List.mem_of_getElem? (i := 18) rfl)⟩
def lw_privs_6 : List (MethodName × Nat) := [(⟨"SongThatStaysModel", "goes", "()I"⟩, 17), (⟨"SongThatStaysModel", "hears", "(II)V"⟩, 17), (⟨"SongThatStaysModel", "wanes", "(I)V"⟩, 17), (⟨"SongThatStaysModel", "fades", "(I)I"⟩, 17), (⟨"SongThatStaysModel", "wrong", "(ZI)I"⟩, 17), (⟨"SongThatStaysModel", "begins", "()V"⟩, 17), (⟨"SongThatStaysModel", "goesFor", "(I)V"⟩, 17), (⟨"SongThatStaysModel", "ends", "()V"⟩, 17), (⟨"SongThatStaysModel", "haveBehind", "(II)I"⟩, 17), (⟨"SongThatStaysModel", "wentBy", "(IIZ)I"⟩, 17), (⟨"SongThatStaysModel", "starts", "()V"⟩, 17), (⟨"SongThatStaysModel", "ridOf", "(I)I"⟩, 17), (⟨"SongThatStaysModel", "isAllTold", "()Z"⟩, 17), (⟨"SongThatStaysModel", "isTold", "(I)Z"⟩, 17)]
theorem lw_r6 : ∀ q ∈ lw_privs_6, lw_okq q := List.forall_mem_cons.mpr ⟨lw_p80, List.forall_mem_cons.mpr ⟨lw_p81, List.forall_mem_cons.mpr ⟨lw_p82, List.forall_mem_cons.mpr ⟨lw_p83, List.forall_mem_cons.mpr ⟨lw_p84, List.forall_mem_cons.mpr ⟨lw_p85, List.forall_mem_cons.mpr ⟨lw_p86, List.forall_mem_cons.mpr ⟨lw_p87, List.forall_mem_cons.mpr ⟨lw_p88, List.forall_mem_cons.mpr ⟨lw_p89, List.forall_mem_cons.mpr ⟨lw_p90, List.forall_mem_cons.mpr ⟨lw_p91, List.forall_mem_cons.mpr ⟨lw_p92, List.forall_mem_cons.mpr ⟨lw_p93, fun _ h => absurd h List.not_mem_nil⟩⟩⟩⟩⟩⟩⟩⟩⟩⟩⟩⟩⟩⟩
def lw_privs : List (MethodName × Nat) := lw_privs_1 ++ (lw_privs_2 ++ (lw_privs_3 ++ (lw_privs_4 ++ (lw_privs_5 ++ (lw_privs_6)))))
def lw_tbl : List Cond := k2_sels lw_privs ++ tables_1
theorem lw_privs_ok : ∀ q ∈ lw_privs, lw_okq q := by
  show ∀ q ∈ lw_privs_1 ++ (lw_privs_2 ++ (lw_privs_3 ++ (lw_privs_4 ++ (lw_privs_5 ++ (lw_privs_6))))), lw_okq q
  exact List.forall_mem_append.mpr ⟨lw_r1, List.forall_mem_append.mpr ⟨lw_r2, List.forall_mem_append.mpr ⟨lw_r3, List.forall_mem_append.mpr ⟨lw_r4, List.forall_mem_append.mpr ⟨lw_r5, lw_r6⟩⟩⟩⟩⟩
-- ===== ONE list of words for every method: the tables' words that hold all through a run =====
def lw_all : List Cond := lw_tbl.filter goodWord
/-- a word of the tables by its place: claim/WORDS.tsv -/
theorem lw_w {w : Cond} (i : Nat) (h : lw_tbl[i]? = some w) (g : goodWord w = true) : w ∈ lw_all := List.mem_filter.mpr ⟨List.mem_of_getElem? h, g⟩
theorem lw_all_tbl {w : Cond} (h : w ∈ lw_all) : w ∈ lw_tbl := (List.mem_filter.mp h).1
theorem lw_self : GoodIn lw_all lw_all := fun w h => ⟨h, good_of_word (List.mem_filter.mp h).2⟩
/-- a class's field words, by their places -/
theorem lw_in (ws : List Cond) (ps : List Nat) (hp : ws = ps.filterMap (fun i => lw_tbl[i]?)) (hg : ws.all goodWord = true) : ∀ w ∈ ws, w ∈ lw_all := by
  intro w h
  have h1 := List.all_eq_true.mp hg w h
  rw [hp] at h
  obtain ⟨i, -, hi⟩ := List.mem_filterMap.mp h
  exact lw_w i hi h1
/-- the words of a contract for the method y with code b, L locals, answer r -/
abbrev ws_ (y : MethodName) (b : ByteArray) (L : Nat) (r : Option FieldType) : List Cond := Cond.code y b L r :: lw_all
theorem lw_meth {y : MethodName} {b : ByteArray} {L : Nat} {r : Option FieldType} (h : Cond.code y b L r ∈ lw_all) : GoodIn lw_all (ws_ y b L r) := by
  intro w hw
  rcases List.mem_cons.mp hw with e | e
  · rw [e]
    exact lw_self _ h
  · exact lw_self _ e
theorem lw_app {a c : List Cond} (ha : ∀ w ∈ a, w ∈ lw_all) (hc : GoodIn lw_all c) : GoodIn lw_all (a ++ c) := by
  intro w hw
  rcases List.mem_append.mp hw with e | e
  · exact lw_self w (ha w e)
  · exact hc w e
/-- what a call through an object asks: cwV n hts (lw_V ..) -/
theorem lw_V {own : String} {idx : Nat} {C : String} {y : MethodName} {b : ByteArray} {L : Nat} {r : Option FieldType} (h1 : Cond.methodLink own idx y ∈ lw_all) (h2 : Cond.instanceMethod y ∈ lw_all) (h3 : Cond.selects C y y ∈ lw_all) (h4 : Cond.initialized C ∈ lw_all) (h5 : Cond.code y b L r ∈ lw_all) : GoodIn lw_all (wsV own idx C y (ws_ y b L r)) := by
  refine lw_app ?_ (lw_meth h5)
  intro w hw
  simp only [List.mem_cons, List.not_mem_nil, or_false] at hw
  rcases hw with e | e | e | e
  · rw [e]; exact h1
  · rw [e]; exact h2
  · rw [e]; exact h3
  · rw [e]; exact h4
/-- what a static call asks: va_cwS n hts (lw_S ..) -/
theorem lw_S {own : String} {idx : Nat} {y : MethodName} {b : ByteArray} {L : Nat} {r : Option FieldType} (h1 : Cond.methodLink own idx y ∈ lw_all) (h2 : Cond.static y ∈ lw_all) (h3 : Cond.initialized y.cls ∈ lw_all) (h4 : Cond.code y b L r ∈ lw_all) : GoodIn lw_all (va_wsS own idx y (ws_ y b L r)) := by
  refine lw_app ?_ (lw_meth h4)
  intro w hw
  simp only [List.mem_cons, List.not_mem_nil, or_false] at hw
  rcases hw with e | e | e
  · rw [e]; exact h1
  · rw [e]; exact h2
  · rw [e]; exact h3
/-- the words of a contract for a method WITH HANDLERS (hh: its table) -/
abbrev wsW_ (y : MethodName) (b : ByteArray) (L : Nat) (r : Option FieldType) (hh : List (Nat × Nat × Nat × Nat)) : List Cond := Cond.codeWith y b L r hh :: lw_all
theorem lw_methW {y : MethodName} {b : ByteArray} {L : Nat} {r : Option FieldType} {hh : List (Nat × Nat × Nat × Nat)} (h : Cond.codeWith y b L r hh ∈ lw_all) : GoodIn lw_all (wsW_ y b L r hh) := by
  intro w hw
  rcases List.mem_cons.mp hw with e | e
  · rw [e]
    exact lw_self _ h
  · exact lw_self _ e
/-- any list of words by their places (lw_in), good -/
theorem lw_good {ws : List Cond} (h : ∀ w ∈ ws, w ∈ lw_all) : GoodIn lw_all ws := fun w hw => lw_self w (h w hw)
/-- what a call of a method with handlers asks: vx_cwVW n hts (lw_VW ..), vx_cwSW n hts (lw_SW ..) -/
theorem lw_VW {own : String} {idx : Nat} {C : String} {y : MethodName} {b : ByteArray} {L : Nat} {r : Option FieldType} {hh : List (Nat × Nat × Nat × Nat)} (h1 : Cond.methodLink own idx y ∈ lw_all) (h2 : Cond.instanceMethod y ∈ lw_all) (h3 : Cond.selects C y y ∈ lw_all) (h4 : Cond.initialized C ∈ lw_all) (h5 : Cond.codeWith y b L r hh ∈ lw_all) : GoodIn lw_all (wsV own idx C y (wsW_ y b L r hh)) := by
  refine lw_app ?_ (lw_methW h5)
  intro w hw
  simp only [List.mem_cons, List.not_mem_nil, or_false] at hw
  rcases hw with e | e | e | e
  · rw [e]; exact h1
  · rw [e]; exact h2
  · rw [e]; exact h3
  · rw [e]; exact h4
theorem lw_SW {own : String} {idx : Nat} {y : MethodName} {b : ByteArray} {L : Nat} {r : Option FieldType} {hh : List (Nat × Nat × Nat × Nat)} (h1 : Cond.methodLink own idx y ∈ lw_all) (h2 : Cond.static y ∈ lw_all) (h3 : Cond.initialized y.cls ∈ lw_all) (h4 : Cond.codeWith y b L r hh ∈ lw_all) : GoodIn lw_all (va_wsS own idx y (wsW_ y b L r hh)) := by
  refine lw_app ?_ (lw_methW h4)
  intro w hw
  simp only [List.mem_cons, List.not_mem_nil, or_false] at hw
  rcases hw with e | e | e
  · rw [e]; exact h1
  · rw [e]; exact h2
  · rw [e]; exact h3
/-- a word by its place in its run of the tables -/
theorem lw_at {r : List Cond} (hr : ∀ w ∈ r, w ∈ lw_tbl) {w : Cond} (i : Nat) (h : r[i]? = some w) : w ∈ lw_tbl := hr w (List.mem_of_getElem? h)
theorem lw_g {w : Cond} (h : w ∈ lw_tbl) (g : goodWord w = true) : w ∈ lw_all := List.mem_filter.mpr ⟨h, g⟩
theorem lw_ms : ∀ w ∈ k2_sels lw_privs, w ∈ lw_tbl := fun w h => show w ∈ k2_sels lw_privs ++ tables_1 from List.mem_append_left _ h
theorem lw_m1 : ∀ w ∈ tables_1_1, w ∈ lw_tbl := fun w h => show w ∈ k2_sels lw_privs ++ tables_1 from List.mem_append_right (k2_sels lw_privs) (show w ∈ tables_1 from List.mem_append_left _ h)
theorem lw_m2 : ∀ w ∈ tables_1_2, w ∈ lw_tbl := fun w h => show w ∈ k2_sels lw_privs ++ tables_1 from List.mem_append_right (k2_sels lw_privs) (show w ∈ tables_1 from List.mem_append_right _ (List.mem_append_left _ h))
theorem lw_m3 : ∀ w ∈ tables_1_3, w ∈ lw_tbl := fun w h => show w ∈ k2_sels lw_privs ++ tables_1 from List.mem_append_right (k2_sels lw_privs) (show w ∈ tables_1 from List.mem_append_right _ (List.mem_append_right _ (List.mem_append_left _ h)))
theorem lw_m4 : ∀ w ∈ tables_1_4, w ∈ lw_tbl := fun w h => show w ∈ k2_sels lw_privs ++ tables_1 from List.mem_append_right (k2_sels lw_privs) (show w ∈ tables_1 from List.mem_append_right _ (List.mem_append_right _ (List.mem_append_right _ (List.mem_append_left _ h))))
theorem lw_m5 : ∀ w ∈ tables_1_5, w ∈ lw_tbl := fun w h => show w ∈ k2_sels lw_privs ++ tables_1 from List.mem_append_right (k2_sels lw_privs) (show w ∈ tables_1 from List.mem_append_right _ (List.mem_append_right _ (List.mem_append_right _ (List.mem_append_right _ (List.mem_append_left _ h)))))
theorem lw_m6 : ∀ w ∈ tables_1_6, w ∈ lw_tbl := fun w h => show w ∈ k2_sels lw_privs ++ tables_1 from List.mem_append_right (k2_sels lw_privs) (show w ∈ tables_1 from List.mem_append_right _ (List.mem_append_right _ (List.mem_append_right _ (List.mem_append_right _ (List.mem_append_right _ (List.mem_append_left _ h))))))
theorem lw_m7 : ∀ w ∈ tables_1_7, w ∈ lw_tbl := fun w h => show w ∈ k2_sels lw_privs ++ tables_1 from List.mem_append_right (k2_sels lw_privs) (show w ∈ tables_1 from List.mem_append_right _ (List.mem_append_right _ (List.mem_append_right _ (List.mem_append_right _ (List.mem_append_right _ (List.mem_append_right _ h))))))
theorem qs0 : (Cond.selects "SongThatStays" ⟨"SongThatStays", "act", "(IIII)I"⟩ ⟨"SongThatStays", "act", "(IIII)I"⟩) ∈ lw_all := lw_g (lw_at lw_ms 0 rfl) rfl
theorem qs1 : (Cond.selects "SongThatStays" ⟨"SongThatStays", "ofOffice", "(III)I"⟩ ⟨"SongThatStays", "ofOffice", "(III)I"⟩) ∈ lw_all := lw_g (lw_at lw_ms 1 rfl) rfl
theorem qs2 : (Cond.selects "SongThatStays" ⟨"SongThatStays", "letterIt", "(I)I"⟩ ⟨"SongThatStays", "letterIt", "(I)I"⟩) ∈ lw_all := lw_g (lw_at lw_ms 2 rfl) rfl
theorem qs3 : (Cond.selects "java/lang/Throwable" ⟨"java/lang/Throwable", "fillInStackTrace", "(I)Ljava/lang/Throwable;"⟩ ⟨"java/lang/Throwable", "fillInStackTrace", "(I)Ljava/lang/Throwable;"⟩) ∈ lw_all := lw_g (lw_at lw_ms 3 rfl) rfl
theorem qs4 : (Cond.selects "SongThatStays" ⟨"SongThatStays", "readOffice", "()I"⟩ ⟨"SongThatStays", "readOffice", "()I"⟩) ∈ lw_all := lw_g (lw_at lw_ms 4 rfl) rfl
theorem qs5 : (Cond.selects "SongThatStays$Reader" ⟨"SongThatStays$Reader", "here", "()I"⟩ ⟨"SongThatStays$Reader", "here", "()I"⟩) ∈ lw_all := lw_g (lw_at lw_ms 5 rfl) rfl
theorem qs6 : (Cond.selects "SongThatStays$Reader" ⟨"SongThatStays$Reader", "mustStand", "(Z)V"⟩ ⟨"SongThatStays$Reader", "mustStand", "(Z)V"⟩) ∈ lw_all := lw_g (lw_at lw_ms 6 rfl) rfl
theorem qs7 : (Cond.selects "SongThatStays$Reader" ⟨"SongThatStays$Reader", "told", "(II)LSongThatStays$Told;"⟩ ⟨"SongThatStays$Reader", "told", "(II)LSongThatStays$Told;"⟩) ∈ lw_all := lw_g (lw_at lw_ms 7 rfl) rfl
theorem qs8 : (Cond.selects "SongThatStays$Reader" ⟨"SongThatStays$Reader", "number", "()I"⟩ ⟨"SongThatStays$Reader", "number", "()I"⟩) ∈ lw_all := lw_g (lw_at lw_ms 8 rfl) rfl
theorem qs9 : (Cond.selects "SongThatStays$Reader" ⟨"SongThatStays$Reader", "digit", "()I"⟩ ⟨"SongThatStays$Reader", "digit", "()I"⟩) ∈ lw_all := lw_g (lw_at lw_ms 9 rfl) rfl
theorem qs10 : (Cond.selects "SongThatStays$Reader" ⟨"SongThatStays$Reader", "song", "(I)LSongThatStays$Told;"⟩ ⟨"SongThatStays$Reader", "song", "(I)LSongThatStays$Told;"⟩) ∈ lw_all := lw_g (lw_at lw_ms 10 rfl) rfl
theorem qs11 : (Cond.selects "SongThatStays$Reader" ⟨"SongThatStays$Reader", "songKindOf", "(I)I"⟩ ⟨"SongThatStays$Reader", "songKindOf", "(I)I"⟩) ∈ lw_all := lw_g (lw_at lw_ms 11 rfl) rfl
theorem qs12 : (Cond.selects "SongThatStays$Reader" ⟨"SongThatStays$Reader", "head", "(I)LSongThatStays$Told;"⟩ ⟨"SongThatStays$Reader", "head", "(I)LSongThatStays$Told;"⟩) ∈ lw_all := lw_g (lw_at lw_ms 12 rfl) rfl
theorem qs13 : (Cond.selects "SongThatStays$Reader" ⟨"SongThatStays$Reader", "kindOf", "(I)I"⟩ ⟨"SongThatStays$Reader", "kindOf", "(I)I"⟩) ∈ lw_all := lw_g (lw_at lw_ms 13 rfl) rfl
theorem qs14 : (Cond.selects "SongThatStays$Reader" ⟨"SongThatStays$Reader", "take", "(I)V"⟩ ⟨"SongThatStays$Reader", "take", "(I)V"⟩) ∈ lw_all := lw_g (lw_at lw_ms 14 rfl) rfl
theorem qs15 : (Cond.selects "SongThatStays" ⟨"SongThatStays", "songTold", "(II)I"⟩ ⟨"SongThatStays", "songTold", "(II)I"⟩) ∈ lw_all := lw_g (lw_at lw_ms 15 rfl) rfl
theorem qs16 : (Cond.selects "SongThatStays" ⟨"SongThatStays", "mustBeSong", "(I)V"⟩ ⟨"SongThatStays", "mustBeSong", "(I)V"⟩) ∈ lw_all := lw_g (lw_at lw_ms 16 rfl) rfl
theorem qs17 : (Cond.selects "SongThatStays" ⟨"SongThatStays", "headTold", "(II)I"⟩ ⟨"SongThatStays", "headTold", "(II)I"⟩) ∈ lw_all := lw_g (lw_at lw_ms 17 rfl) rfl
theorem qs18 : (Cond.selects "SongThatStays" ⟨"SongThatStays", "mustBeHead", "(I)V"⟩ ⟨"SongThatStays", "mustBeHead", "(I)V"⟩) ∈ lw_all := lw_g (lw_at lw_ms 18 rfl) rfl
theorem qs19 : (Cond.selects "SongThatStays" ⟨"SongThatStays", "nearTold", "(I)I"⟩ ⟨"SongThatStays", "nearTold", "(I)I"⟩) ∈ lw_all := lw_g (lw_at lw_ms 19 rfl) rfl
theorem qs20 : (Cond.selects "SongThatStays" ⟨"SongThatStays", "goIt", "(II)I"⟩ ⟨"SongThatStays", "goIt", "(II)I"⟩) ∈ lw_all := lw_g (lw_at lw_ms 20 rfl) rfl
theorem qs21 : (Cond.selects "SongThatStays" ⟨"SongThatStays", "getIt", "(II)I"⟩ ⟨"SongThatStays", "getIt", "(II)I"⟩) ∈ lw_all := lw_g (lw_at lw_ms 21 rfl) rfl
theorem qs22 : (Cond.selects "SongThatStays" ⟨"SongThatStays", "mustBeSongOrNone", "(I)V"⟩ ⟨"SongThatStays", "mustBeSongOrNone", "(I)V"⟩) ∈ lw_all := lw_g (lw_at lw_ms 22 rfl) rfl
theorem qs23 : (Cond.selects "SongThatStays" ⟨"SongThatStays", "ofOfficeToo", "(III)I"⟩ ⟨"SongThatStays", "ofOfficeToo", "(III)I"⟩) ∈ lw_all := lw_g (lw_at lw_ms 23 rfl) rfl
theorem qs24 : (Cond.selects "SongThatStays" ⟨"SongThatStays", "remedyIt", "(II)I"⟩ ⟨"SongThatStays", "remedyIt", "(II)I"⟩) ∈ lw_all := lw_g (lw_at lw_ms 24 rfl) rfl
theorem qs25 : (Cond.selects "SongThatStays" ⟨"SongThatStays", "loudTold", "(I)I"⟩ ⟨"SongThatStays", "loudTold", "(I)I"⟩) ∈ lw_all := lw_g (lw_at lw_ms 25 rfl) rfl
theorem qs26 : (Cond.selects "SongThatStays$Office" ⟨"SongThatStays$Office", "gotBy", "(I)I"⟩ ⟨"SongThatStays$Office", "gotBy", "(I)I"⟩) ∈ lw_all := lw_g (lw_at lw_ms 26 rfl) rfl
theorem qs27 : (Cond.selects "SongThatStays$Office" ⟨"SongThatStays$Office", "giverOf", "(I)I"⟩ ⟨"SongThatStays$Office", "giverOf", "(I)I"⟩) ∈ lw_all := lw_g (lw_at lw_ms 27 rfl) rfl
theorem qs28 : (Cond.selects "SongThatStays$Office" ⟨"SongThatStays$Office", "fade", "(I)V"⟩ ⟨"SongThatStays$Office", "fade", "(I)V"⟩) ∈ lw_all := lw_g (lw_at lw_ms 28 rfl) rfl
theorem qs29 : (Cond.selects "SongThatStays" ⟨"SongThatStays", "ofHours", "(IIII)I"⟩ ⟨"SongThatStays", "ofHours", "(IIII)I"⟩) ∈ lw_all := lw_g (lw_at lw_ms 29 rfl) rfl
theorem qs30 : (Cond.selects "SongThatStays" ⟨"SongThatStays", "holdTold", "(III)I"⟩ ⟨"SongThatStays", "holdTold", "(III)I"⟩) ∈ lw_all := lw_g (lw_at lw_ms 30 rfl) rfl
theorem qs31 : (Cond.selects "SongThatStays" ⟨"SongThatStays", "openMind", "()LSongThatStays$Office;"⟩ ⟨"SongThatStays", "openMind", "()LSongThatStays$Office;"⟩) ∈ lw_all := lw_g (lw_at lw_ms 31 rfl) rfl
theorem qs32 : (Cond.selects "SongThatStays" ⟨"SongThatStays", "haveTold", "(II)I"⟩ ⟨"SongThatStays", "haveTold", "(II)I"⟩) ∈ lw_all := lw_g (lw_at lw_ms 32 rfl) rfl
theorem qs33 : (Cond.selects "SongThatStays" ⟨"SongThatStays", "takesTold", "(II)I"⟩ ⟨"SongThatStays", "takesTold", "(II)I"⟩) ∈ lw_all := lw_g (lw_at lw_ms 33 rfl) rfl
theorem qs34 : (Cond.selects "SongThatStays" ⟨"SongThatStays", "firstTaken", "(II)I"⟩ ⟨"SongThatStays", "firstTaken", "(II)I"⟩) ∈ lw_all := lw_g (lw_at lw_ms 34 rfl) rfl
theorem qs35 : (Cond.selects "SongThatStays" ⟨"SongThatStays", "stillBehind", "()I"⟩ ⟨"SongThatStays", "stillBehind", "()I"⟩) ∈ lw_all := lw_g (lw_at lw_ms 35 rfl) rfl
theorem qs36 : (Cond.selects "SongThatStays" ⟨"SongThatStays", "mostAsked", "(III)I"⟩ ⟨"SongThatStays", "mostAsked", "(III)I"⟩) ∈ lw_all := lw_g (lw_at lw_ms 36 rfl) rfl
theorem qs37 : (Cond.selects "SongThatStays" ⟨"SongThatStays", "mostTold", "(III)I"⟩ ⟨"SongThatStays", "mostTold", "(III)I"⟩) ∈ lw_all := lw_g (lw_at lw_ms 37 rfl) rfl
theorem qs38 : (Cond.selects "SongThatStays" ⟨"SongThatStays", "lastsBehind", "(I)I"⟩ ⟨"SongThatStays", "lastsBehind", "(I)I"⟩) ∈ lw_all := lw_g (lw_at lw_ms 38 rfl) rfl
theorem qs39 : (Cond.selects "SongThatStays" ⟨"SongThatStays", "fromAsked", "(IIZ)I"⟩ ⟨"SongThatStays", "fromAsked", "(IIZ)I"⟩) ∈ lw_all := lw_g (lw_at lw_ms 39 rfl) rfl
theorem qs40 : (Cond.selects "SongThatStays" ⟨"SongThatStays", "fromTold", "(IIZ)I"⟩ ⟨"SongThatStays", "fromTold", "(IIZ)I"⟩) ∈ lw_all := lw_g (lw_at lw_ms 40 rfl) rfl
theorem qs41 : (Cond.selects "SongThatStays" ⟨"SongThatStays", "ridAsked", "(II)I"⟩ ⟨"SongThatStays", "ridAsked", "(II)I"⟩) ∈ lw_all := lw_g (lw_at lw_ms 41 rfl) rfl
theorem qs42 : (Cond.selects "SongThatStays" ⟨"SongThatStays", "mustHaveSong", "(I)V"⟩ ⟨"SongThatStays", "mustHaveSong", "(I)V"⟩) ∈ lw_all := lw_g (lw_at lw_ms 42 rfl) rfl
theorem qs43 : (Cond.selects "SongThatStays" ⟨"SongThatStays", "ridTold", "(II)I"⟩ ⟨"SongThatStays", "ridTold", "(II)I"⟩) ∈ lw_all := lw_g (lw_at lw_ms 43 rfl) rfl
theorem qs44 : (Cond.selects "SongThatStays" ⟨"SongThatStays", "freeBy", "(II)I"⟩ ⟨"SongThatStays", "freeBy", "(II)I"⟩) ∈ lw_all := lw_g (lw_at lw_ms 44 rfl) rfl
theorem qs45 : (Cond.selects "SongThatStays" ⟨"SongThatStays", "insteadTold", "(I)I"⟩ ⟨"SongThatStays", "insteadTold", "(I)I"⟩) ∈ lw_all := lw_g (lw_at lw_ms 45 rfl) rfl
theorem qs46 : (Cond.selects "SongThatStays" ⟨"SongThatStays", "songInstead", "(I)I"⟩ ⟨"SongThatStays", "songInstead", "(I)I"⟩) ∈ lw_all := lw_g (lw_at lw_ms 46 rfl) rfl
theorem qs47 : (Cond.selects "SongThatStays" ⟨"SongThatStays", "ofRest", "(IIII)I"⟩ ⟨"SongThatStays", "ofRest", "(IIII)I"⟩) ∈ lw_all := lw_g (lw_at lw_ms 47 rfl) rfl
theorem qs48 : (Cond.selects "SongThatStays" ⟨"SongThatStays", "bestShut", "(I)I"⟩ ⟨"SongThatStays", "bestShut", "(I)I"⟩) ∈ lw_all := lw_g (lw_at lw_ms 48 rfl) rfl
theorem qs49 : (Cond.selects "SongThatStays" ⟨"SongThatStays", "bestSeats", "(I)I"⟩ ⟨"SongThatStays", "bestSeats", "(I)I"⟩) ∈ lw_all := lw_g (lw_at lw_ms 49 rfl) rfl
theorem qs50 : (Cond.selects "SongThatStays" ⟨"SongThatStays", "writeAsked", "(III)I"⟩ ⟨"SongThatStays", "writeAsked", "(III)I"⟩) ∈ lw_all := lw_g (lw_at lw_ms 50 rfl) rfl
theorem qs51 : (Cond.selects "SongThatStays" ⟨"SongThatStays", "writeTold", "(III)I"⟩ ⟨"SongThatStays", "writeTold", "(III)I"⟩) ∈ lw_all := lw_g (lw_at lw_ms 51 rfl) rfl
theorem qs52 : (Cond.selects "SongThatStays" ⟨"SongThatStays", "otherwiseAsked", "(II)I"⟩ ⟨"SongThatStays", "otherwiseAsked", "(II)I"⟩) ∈ lw_all := lw_g (lw_at lw_ms 52 rfl) rfl
theorem qs53 : (Cond.selects "SongThatStays" ⟨"SongThatStays", "otherwiseTold", "(II)I"⟩ ⟨"SongThatStays", "otherwiseTold", "(II)I"⟩) ∈ lw_all := lw_g (lw_at lw_ms 53 rfl) rfl
theorem qs54 : (Cond.selects "SongThatStays" ⟨"SongThatStays", "isAsTold", "(LSongThatStays$Office;)Z"⟩ ⟨"SongThatStays", "isAsTold", "(LSongThatStays$Office;)Z"⟩) ∈ lw_all := lw_g (lw_at lw_ms 54 rfl) rfl
theorem qs55 : (Cond.selects "SongThatStays" ⟨"SongThatStays", "judgeRow", "()I"⟩ ⟨"SongThatStays", "judgeRow", "()I"⟩) ∈ lw_all := lw_g (lw_at lw_ms 55 rfl) rfl
theorem qs56 : (Cond.selects "SongThatStays" ⟨"SongThatStays", "ofLast", "(III)I"⟩ ⟨"SongThatStays", "ofLast", "(III)I"⟩) ∈ lw_all := lw_g (lw_at lw_ms 56 rfl) rfl
theorem qs57 : (Cond.selects "SongThatStays" ⟨"SongThatStays", "bySeeds", "(II)I"⟩ ⟨"SongThatStays", "bySeeds", "(II)I"⟩) ∈ lw_all := lw_g (lw_at lw_ms 57 rfl) rfl
theorem qs58 : (Cond.selects "SongThatStays" ⟨"SongThatStays", "refuse", "(I)I"⟩ ⟨"SongThatStays", "refuse", "(I)I"⟩) ∈ lw_all := lw_g (lw_at lw_ms 58 rfl) rfl
theorem qs59 : (Cond.selects "SongThatStays" ⟨"SongThatStays", "strengthOfAll", "()I"⟩ ⟨"SongThatStays", "strengthOfAll", "()I"⟩) ∈ lw_all := lw_g (lw_at lw_ms 59 rfl) rfl
theorem qs60 : (Cond.selects "SongThatStaysModel" ⟨"SongThatStaysModel", "refuse", "(I)I"⟩ ⟨"SongThatStaysModel", "refuse", "(I)I"⟩) ∈ lw_all := lw_g (lw_at lw_ms 60 rfl) rfl
theorem qs61 : (Cond.selects "SongThatStaysModel" ⟨"SongThatStaysModel", "reads", "()I"⟩ ⟨"SongThatStaysModel", "reads", "()I"⟩) ∈ lw_all := lw_g (lw_at lw_ms 61 rfl) rfl
theorem qs62 : (Cond.selects "SongThatStaysModel" ⟨"SongThatStaysModel", "readsStatement", "()Z"⟩ ⟨"SongThatStaysModel", "readsStatement", "()Z"⟩) ∈ lw_all := lw_g (lw_at lw_ms 62 rfl) rfl
theorem qs63 : (Cond.selects "SongThatStaysModel" ⟨"SongThatStaysModel", "sign", "()I"⟩ ⟨"SongThatStaysModel", "sign", "()I"⟩) ∈ lw_all := lw_g (lw_at lw_ms 63 rfl) rfl
theorem qs64 : (Cond.selects "SongThatStaysModel" ⟨"SongThatStaysModel", "readsNumber", "(II)Z"⟩ ⟨"SongThatStaysModel", "readsNumber", "(II)Z"⟩) ∈ lw_all := lw_g (lw_at lw_ms 64 rfl) rfl
theorem qs65 : (Cond.selects "SongThatStaysModel" ⟨"SongThatStaysModel", "readsKind", "(I)Z"⟩ ⟨"SongThatStaysModel", "readsKind", "(I)Z"⟩) ∈ lw_all := lw_g (lw_at lw_ms 65 rfl) rfl
theorem qs66 : (Cond.selects "SongThatStaysModel" ⟨"SongThatStaysModel", "takes", "(I)Z"⟩ ⟨"SongThatStaysModel", "takes", "(I)Z"⟩) ∈ lw_all := lw_g (lw_at lw_ms 66 rfl) rfl
theorem qs67 : (Cond.selects "SongThatStaysModel" ⟨"SongThatStaysModel", "comes", "(I)Z"⟩ ⟨"SongThatStaysModel", "comes", "(I)Z"⟩) ∈ lw_all := lw_g (lw_at lw_ms 67 rfl) rfl
theorem qs68 : (Cond.selects "SongThatStaysModel" ⟨"SongThatStaysModel", "puts", "(III)V"⟩ ⟨"SongThatStaysModel", "puts", "(III)V"⟩) ∈ lw_all := lw_g (lw_at lw_ms 68 rfl) rfl
theorem qs69 : (Cond.selects "SongThatStaysModel" ⟨"SongThatStaysModel", "isHead", "(I)Z"⟩ ⟨"SongThatStaysModel", "isHead", "(I)Z"⟩) ∈ lw_all := lw_g (lw_at lw_ms 69 rfl) rfl
theorem qs70 : (Cond.selects "SongThatStaysModel" ⟨"SongThatStaysModel", "isSong", "(I)Z"⟩ ⟨"SongThatStaysModel", "isSong", "(I)Z"⟩) ∈ lw_all := lw_g (lw_at lw_ms 70 rfl) rfl
theorem qs71 : (Cond.selects "SongThatStaysModel" ⟨"SongThatStaysModel", "gets", "(II)V"⟩ ⟨"SongThatStaysModel", "gets", "(II)V"⟩) ∈ lw_all := lw_g (lw_at lw_ms 71 rfl) rfl
theorem qs72 : (Cond.selects "SongThatStaysModel" ⟨"SongThatStaysModel", "fresh", "(I)I"⟩ ⟨"SongThatStaysModel", "fresh", "(I)I"⟩) ∈ lw_all := lw_g (lw_at lw_ms 72 rfl) rfl
theorem qs73 : (Cond.selects "SongThatStaysModel" ⟨"SongThatStaysModel", "of", "(II)I"⟩ ⟨"SongThatStaysModel", "of", "(II)I"⟩) ∈ lw_all := lw_g (lw_at lw_ms 73 rfl) rfl
theorem qs74 : (Cond.selects "SongThatStaysModel" ⟨"SongThatStaysModel", "haveIt", "(I)I"⟩ ⟨"SongThatStaysModel", "haveIt", "(I)I"⟩) ∈ lw_all := lw_g (lw_at lw_ms 74 rfl) rfl
theorem qs75 : (Cond.selects "SongThatStaysModel" ⟨"SongThatStaysModel", "at", "(II)I"⟩ ⟨"SongThatStaysModel", "at", "(II)I"⟩) ∈ lw_all := lw_g (lw_at lw_ms 75 rfl) rfl
theorem qs76 : (Cond.selects "SongThatStaysModel" ⟨"SongThatStaysModel", "bar", "(I)I"⟩ ⟨"SongThatStaysModel", "bar", "(I)I"⟩) ∈ lw_all := lw_g (lw_at lw_ms 76 rfl) rfl
theorem qs77 : (Cond.selects "SongThatStaysModel" ⟨"SongThatStaysModel", "hums", "(I)Z"⟩ ⟨"SongThatStaysModel", "hums", "(I)Z"⟩) ∈ lw_all := lw_g (lw_at lw_ms 77 rfl) rfl
theorem qs78 : (Cond.selects "SongThatStaysModel" ⟨"SongThatStaysModel", "areNear", "(II)Z"⟩ ⟨"SongThatStaysModel", "areNear", "(II)Z"⟩) ∈ lw_all := lw_g (lw_at lw_ms 78 rfl) rfl
theorem qs79 : (Cond.selects "SongThatStaysModel" ⟨"SongThatStaysModel", "mends", "(II)V"⟩ ⟨"SongThatStaysModel", "mends", "(II)V"⟩) ∈ lw_all := lw_g (lw_at lw_ms 79 rfl) rfl
theorem qs80 : (Cond.selects "SongThatStaysModel" ⟨"SongThatStaysModel", "goes", "()I"⟩ ⟨"SongThatStaysModel", "goes", "()I"⟩) ∈ lw_all := lw_g (lw_at lw_ms 80 rfl) rfl
theorem qs81 : (Cond.selects "SongThatStaysModel" ⟨"SongThatStaysModel", "hears", "(II)V"⟩ ⟨"SongThatStaysModel", "hears", "(II)V"⟩) ∈ lw_all := lw_g (lw_at lw_ms 81 rfl) rfl
theorem qs82 : (Cond.selects "SongThatStaysModel" ⟨"SongThatStaysModel", "wanes", "(I)V"⟩ ⟨"SongThatStaysModel", "wanes", "(I)V"⟩) ∈ lw_all := lw_g (lw_at lw_ms 82 rfl) rfl
theorem qs83 : (Cond.selects "SongThatStaysModel" ⟨"SongThatStaysModel", "fades", "(I)I"⟩ ⟨"SongThatStaysModel", "fades", "(I)I"⟩) ∈ lw_all := lw_g (lw_at lw_ms 83 rfl) rfl
theorem qs84 : (Cond.selects "SongThatStaysModel" ⟨"SongThatStaysModel", "wrong", "(ZI)I"⟩ ⟨"SongThatStaysModel", "wrong", "(ZI)I"⟩) ∈ lw_all := lw_g (lw_at lw_ms 84 rfl) rfl
theorem qs85 : (Cond.selects "SongThatStaysModel" ⟨"SongThatStaysModel", "begins", "()V"⟩ ⟨"SongThatStaysModel", "begins", "()V"⟩) ∈ lw_all := lw_g (lw_at lw_ms 85 rfl) rfl
theorem qs86 : (Cond.selects "SongThatStaysModel" ⟨"SongThatStaysModel", "goesFor", "(I)V"⟩ ⟨"SongThatStaysModel", "goesFor", "(I)V"⟩) ∈ lw_all := lw_g (lw_at lw_ms 86 rfl) rfl
theorem qs87 : (Cond.selects "SongThatStaysModel" ⟨"SongThatStaysModel", "ends", "()V"⟩ ⟨"SongThatStaysModel", "ends", "()V"⟩) ∈ lw_all := lw_g (lw_at lw_ms 87 rfl) rfl
theorem qs88 : (Cond.selects "SongThatStaysModel" ⟨"SongThatStaysModel", "haveBehind", "(II)I"⟩ ⟨"SongThatStaysModel", "haveBehind", "(II)I"⟩) ∈ lw_all := lw_g (lw_at lw_ms 88 rfl) rfl
theorem qs89 : (Cond.selects "SongThatStaysModel" ⟨"SongThatStaysModel", "wentBy", "(IIZ)I"⟩ ⟨"SongThatStaysModel", "wentBy", "(IIZ)I"⟩) ∈ lw_all := lw_g (lw_at lw_ms 89 rfl) rfl
theorem qs90 : (Cond.selects "SongThatStaysModel" ⟨"SongThatStaysModel", "starts", "()V"⟩ ⟨"SongThatStaysModel", "starts", "()V"⟩) ∈ lw_all := lw_g (lw_at lw_ms 90 rfl) rfl
theorem qs91 : (Cond.selects "SongThatStaysModel" ⟨"SongThatStaysModel", "ridOf", "(I)I"⟩ ⟨"SongThatStaysModel", "ridOf", "(I)I"⟩) ∈ lw_all := lw_g (lw_at lw_ms 91 rfl) rfl
theorem qs92 : (Cond.selects "SongThatStaysModel" ⟨"SongThatStaysModel", "isAllTold", "()Z"⟩ ⟨"SongThatStaysModel", "isAllTold", "()Z"⟩) ∈ lw_all := lw_g (lw_at lw_ms 92 rfl) rfl
theorem qs93 : (Cond.selects "SongThatStaysModel" ⟨"SongThatStaysModel", "isTold", "(I)Z"⟩ ⟨"SongThatStaysModel", "isTold", "(I)Z"⟩) ∈ lw_all := lw_g (lw_at lw_ms 93 rfl) rfl
