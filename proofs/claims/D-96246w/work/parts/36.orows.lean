/-! ROWS FOR AN OFFICE, and for calls -/
set_option maxRecDepth 100000
section OZ
variable {p : Program} {l : Launch} {e : Env} {R : Room} {s : State} {m : MethodId} {args : Array Value} {below : List Frame} {meth : Method} {c : Code} {H : Heap} {locs : List Loc} {cells slots : Nat} {Q : State → Prop} {cc : ByteArray} {pc : Nat} {ls : Array Slot} {rest : List Value} {D : va_G} {t : Nat → ClassId} {ob kb lo : Nat} {sg kd : GT} {O A : BT} {r : RT} {H0 : Heap} {A0 : Nat → Prop} {own : String} {index : Nat}
theorem o_get (hexec : p.tables.exec = Jvm.exec) (hb : c.code = cc) (hts : ∀ w ∈ lw_all, w.before args s = true) (hown : s.vm.findClass own = some m.cls) (hKK : KK D t s) (hP : OR D t ob O sg kd H) (k : Nat) (hk : k < 20) (hlink : (Cond.fieldLink own index "SongThatStays$Office" (TX8 k).2.1 (TX8 k).2.2.1) ∈ lw_all) (hT : (TX8 k).1 = "SongThatStays$Office") {v : Value} (hv : (oF ob O)[k]? = some v) (hdg : decode cc pc = .ok (.getfield index, 3))
    (kk : W p l e R s m args below meth c H locs cells slots Q (F0 m (pc + 3) ls (v :: rest))) : W p l e R s m args below meth c H locs cells slots Q (F0 m pc ls (.ref ob :: rest)) :=
  va_get (D := D) (ci := 2) (C := RX8) (T := TX8) (N := 20) hexec hb hts in_X8 hown hKK.1 hP 0 rfl rfl k hk (hts _ hlink) (fun _ h9 => by rw [hT] at h9; exact h9) hv hdg kk
theorem o_getN {host : String} (hexec : p.tables.exec = Jvm.exec) (hb : c.code = cc) (hts : ∀ w ∈ lw_all, w.before args s = true) (hown : s.vm.findClass own = some m.cls) (hKK : KK D t s) (hP : OR D t ob O sg kd H) (k : Nat) (hk : k < 20) (hlink : (Cond.fieldLinkNest own index "SongThatStays$Office" (TX8 k).2.1 (TX8 k).2.2.1 host) ∈ lw_tbl) (hT : (TX8 k).1 = "SongThatStays$Office") {v : Value} (hv : (oF ob O)[k]? = some v) (hdg : decode cc pc = .ok (.getfield index, 3))
    (kk : W p l e R s m args below meth c H locs cells slots Q (F0 m (pc + 3) ls (v :: rest))) : W p l e R s m args below meth c H locs cells slots Q (F0 m pc ls (.ref ob :: rest)) :=
  va_getN (D := D) (ci := 2) (C := RX8) (T := TX8) (N := 20) hexec hb hts in_X8 hown hKK.1 hP 0 rfl rfl k hk (va_Nw.use rfl (hKK.2.1 _ hlink rfl)) (fun _ h9 => by rw [hT] at h9; exact h9) hv hdg kk
theorem o_ald (hexec : p.tables.exec = Jvm.exec) (hb : c.code = cc) (hKK : KK D t s) (hP : OR D t ob O sg kd H) (q0 : Nat) {n : Nat} (ha : (oL t ob O sg kd)[q0]? = some (ob + q0, .inl (t 0, n, .inl (O q0)))) {i v : Int32} {k : Nat} (hi : i = nI k) (hk : k < n) (hn : n < 2 ^ 31) (hv : O q0 k = v) (hdg : decode cc pc = .ok (.iaload, 1))
    (kk : W p l e R s m args below meth c H locs cells slots Q (F0 m (pc + 1) ls (.int v :: rest))) : W p l e R s m args below meth c H locs cells slots Q (F0 m pc ls (.int i :: .ref (ob + q0) :: rest)) := by
  subst hv
  exact z_iald hexec hb hKK.1 hP q0 0 ha rfl hi hk hn hdg kk
theorem o_sald (hexec : p.tables.exec = Jvm.exec) (hb : c.code = cc) (hKK : KK D t s) (hP : OR D t ob O sg kd H) {i : Int32} {k a : Nat} (hi : i = nI k) (hk : k < 5) (hv : sg k = some a) (hdg : decode cc pc = .ok (.aaload, 1))
    (kk : W p l e R s m args below meth c H locs cells slots Q (F0 m (pc + 1) ls (.ref a :: rest))) : W p l e R s m args below meth c H locs cells slots Q (F0 m pc ls (.int i :: .ref (ob + 3) :: rest)) := by
  subst hi
  refine va_aldq hexec hb hKK.1 hP 3 3 rfl rfl (vp_in_nI hk (by decide)) hdg ?_
  rw [nI_clamp (by omega), hv]
  exact kk
theorem o_kald (hexec : p.tables.exec = Jvm.exec) (hb : c.code = cc) (hKK : KK D t s) (hP : OR D t ob O sg kd H) {i : Int32} {k a : Nat} (hi : i = nI k) (hk : k < 6) (hv : kd k = some a) (hdg : decode cc pc = .ok (.aaload, 1))
    (kk : W p l e R s m args below meth c H locs cells slots Q (F0 m (pc + 1) ls (.ref a :: rest))) : W p l e R s m args below meth c H locs cells slots Q (F0 m pc ls (.int i :: .ref (ob + 4) :: rest)) := by
  subst hi
  refine va_aldq hexec hb hKK.1 hP 4 4 rfl rfl (vp_in_nI hk (by decide)) hdg ?_
  rw [nI_clamp (by omega), hv]
  exact kk
/-- an int into one of its columns -/
theorem o_astr (hexec : p.tables.exec = Jvm.exec) (hb : c.code = cc) (hKK : KK D t s) (hP : OR D t ob O sg kd H) (hA : ∀ q, oA ob q → A0 q) (hS : va_S A0 H0 H locs) (q0 : Nat) {n : Nat} (ha : (oL t ob O sg kd)[q0]? = some (ob + q0, .inl (t 0, n, .inl (O q0)))) {i x : Int32} {k : Nat} (hi : i = nI k) (hk : k < n) (hn : n < 2 ^ 31) (hset : (oL t ob O sg kd).set q0 (ob + q0, .inl (t 0, n, .inl (upd (O q0) k x))) = oL t ob (up2 O q0 k x) sg kd) (hq0 : q0 < 15) (hdg : decode cc pc = .ok (.iastore, 1))
    (kk : ∀ (H1 : Heap) (locs1 : List Loc), OR D t ob (up2 O q0 k x) sg kd H1 → H1.size = H.size → (∀ q : Nat, ¬ oA ob q → H1[q]? = H[q]?) → va_S A0 H0 H1 locs1 → W p l e R s m args below meth c H1 locs1 cells slots Q (F0 m (pc + 1) ls rest)) : W p l e R s m args below meth c H locs cells slots Q (F0 m pc ls (.int x :: .int i :: .ref (ob + q0) :: rest)) :=
  z_iastq hexec hb hKK.1 hP (oL_D hA) hS q0 0 ha rfl hi hk hn hdg (fun H1 locs1 hP1 hz hq hS1 => kk H1 locs1 (by rw [hset] at hP1; exact hP1) hz (fun q hn => hq q (fun e => hn (by subst e; exact ⟨by omega, by omega⟩))) hS1)
theorem o_astH (hexec : p.tables.exec = Jvm.exec) (hb : c.code = cc) (hKK : KK D t s) (hV : OV D t ob kb lo sg kd r A H) (hkb : kb + 6 ≤ ob) (hlo : ob + 15 ≤ lo) (hA : ∀ q, oA ob q → A0 q) (hS : va_S A0 H0 H locs) (a0 : Nat) (h15 : 1 ≤ a0 ∧ a0 ≤ 5) (ha : (oL t ob (oC r A) sg kd)[4 + a0]? = some (ob + (4 + a0), .inl (t 0, 6, .inl (oC r A (4 + a0))))) {i x : Int32} {k : Nat} (hi : i = nI k) (hk : k < 6) (hset : (oL t ob (oC r A) sg kd).set (4 + a0) (ob + (4 + a0), .inl (t 0, 6, .inl (upd (oC r A (4 + a0)) k x))) = oL t ob (up2 (oC r A) (4 + a0) k x) sg kd) (hdg : decode cc pc = .ok (.iastore, 1))
    (kk : ∀ (H1 : Heap) (locs1 : List Loc), OV D t ob kb lo sg kd (upd r (37 + 6 * k + a0) x) A H1 → H1.size = H.size → (∀ q : Nat, ¬ oA ob q → H1[q]? = H[q]?) → va_S A0 H0 H1 locs1 → W p l e R s m args below meth c H1 locs1 cells slots Q (F0 m (pc + 1) ls rest)) : W p l e R s m args below meth c H locs cells slots Q (F0 m pc ls (.int x :: .int i :: .ref (ob + (4 + a0)) :: rest)) :=
  o_astr hexec hb hKK hV.1 hA hS (4 + a0) ha hi hk (by decide) hset (by omega) hdg (fun H1 locs1 hP1 hz hq hS1 => kk H1 locs1 (hV.put hkb hlo (OR_congr (oC_hd h15) hP1) (fun q _ h => hq q h) (SK_hd h15)) hz hq hS1)
theorem o_astA (hexec : p.tables.exec = Jvm.exec) (hb : c.code = cc) (hKK : KK D t s) (hV : OV D t ob kb lo sg kd r A H) (hkb : kb + 6 ≤ ob) (hlo : ob + 15 ≤ lo) (hA : ∀ q, oA ob q → A0 q) (hS : va_S A0 H0 H locs) (q0 : Nat) (h15 : 10 ≤ q0 ∧ q0 ≤ 14) (ha : (oL t ob (oC r A) sg kd)[q0]? = some (ob + q0, .inl (t 0, 6, .inl (oC r A q0)))) {i x : Int32} {k : Nat} (hi : i = nI k) (hk : k < 6) (hset : (oL t ob (oC r A) sg kd).set q0 (ob + q0, .inl (t 0, 6, .inl (upd (oC r A q0) k x))) = oL t ob (up2 (oC r A) q0 k x) sg kd) (hdg : decode cc pc = .ok (.iastore, 1))
    (kk : ∀ (H1 : Heap) (locs1 : List Loc), OV D t ob kb lo sg kd r (up2 A q0 k x) H1 → H1.size = H.size → (∀ q : Nat, ¬ oA ob q → H1[q]? = H[q]?) → va_S A0 H0 H1 locs1 → W p l e R s m args below meth c H1 locs1 cells slots Q (F0 m (pc + 1) ls rest)) : W p l e R s m args below meth c H locs cells slots Q (F0 m pc ls (.int x :: .int i :: .ref (ob + q0) :: rest)) :=
  o_astr hexec hb hKK hV.1 hA hS q0 ha hi hk (by decide) hset (by omega) hdg (fun H1 locs1 hP1 hz hq hS1 => kk H1 locs1 (hV.put hkb hlo (OR_congr (oC_aux h15) hP1) (fun q _ h => hq q h) (SK.rf r)) hz hq hS1)
/-- an int into one of its fields -/
theorem o_putr (hexec : p.tables.exec = Jvm.exec) (hb : c.code = cc) (hts : ∀ w ∈ lw_all, w.before args s = true) (hown : s.vm.findClass own = some m.cls) (hKK : KK D t s) (hP : OR D t ob O sg kd H) (hA : ∀ q, oA ob q → A0 q) (hS : va_S A0 H0 H locs) (k j : Nat) (hk : k < 20) (hlink : (Cond.fieldLink own index "SongThatStays$Office" (TX8 k).2.1 (TX8 k).2.2.1) ∈ lw_all ∨ ∃ host, (Cond.fieldLinkNest own index "SongThatStays$Office" (TX8 k).2.1 (TX8 k).2.2.1 host) ∈ lw_tbl) (hT : (TX8 k).1 = "SongThatStays$Office") (hfin : (TX8 k).2.2.2 = false) {x : Int32} (hd : parseFieldDescriptor (TX8 k).2.2.1 = some .int) (hset : (oF ob O).set k (.int x) = oF ob (up2 O 0 j x)) (hdg : decode cc pc = .ok (.putfield index, 3))
    (kk : ∀ (H1 : Heap) (locs1 : List Loc), OR D t ob (up2 O 0 j x) sg kd H1 → H1.size = H.size → (∀ q : Nat, ¬ oA ob q → H1[q]? = H[q]?) → va_S A0 H0 H1 locs1 → W p l e R s m args below meth c H1 locs1 cells slots Q (F0 m (pc + 3) ls rest)) : W p l e R s m args below meth c H locs cells slots Q (F0 m pc ls (.int x :: .ref ob :: rest)) := by
  refine z_putq (D := D) (ci := 2) (C := RX8) (T := TX8) (N := 20) hexec hb hts in_X8 tyX8 tyX8_ok nmX8 hown hKK.1 hP (oL_D hA) hS 0 rfl rfl k hk (hlink.imp (fun h => hts _ h) (fun ⟨host, h⟩ => ⟨host, va_Nw.use rfl (hKK.2.1 _ h rfl)⟩)) (fun _ h9 => by rw [hT] at h9; exact h9) hfin hd rfl rfl hk hdg (fun H1 locs1 hP1 hz hq hS1 => kk H1 locs1 ?_ hz (fun q hn => hq q (fun e => hn (by subst e; exact ⟨by omega, by omega⟩))) hS1)
  rw [hset] at hP1
  exact hP1
theorem OV.recv (hKK : KK D t s) (h : OV D t ob kb lo sg kd r A H) : ∃ cellB : Cell, H[ob]? = some cellB ∧ cellB.vm.isStatics = false ∧ s.vm.findClass RX8 = some cellB.cls := va_recv hKK.1 h.1 (ci := 2) (q0 := 0) rfl rfl
variable {y : MethodName} {bytes : ByteArray} {maxL nL n mc ms : Nat} {rm : Room} {As st0 : List Value} {ret : Option FieldType} {C : String} {b : Nat} {P : Heap → Prop} {Qc : Array Value → State → Outcome → State → Prop} {free : Addr → Prop}
/-- calls: through an object; static; static, of the nest's host -/
theorem g_runV (S : CallFix p m c cc nL s args lw_all own) (hKK : KK D t s) (hP : P H) (hrec : ∃ cellB : Cell, H[b]? = some cellB ∧ cellB.vm.isStatics = false ∧ s.vm.findClass C = some cellB.cls)
    (hM : Met l y (ws_ y bytes maxL ret) rm (zPc (.ref b :: As) P (KK D t)) Qc mc ms free) (cw : CallW R s args own C index y bytes maxL ret (ws_ y bytes maxL ret) rm mc ms n)
    (hn : As.length = n) (hl : ls.size = nL) (hst : st0 = As.reverse ++ .ref b :: rest) (hW : (rest.map fun v => v.category).sum ≤ 8) (hdg : decode cc pc = .ok (.invokevirtual index, 3)) (hf : cells + mc ≤ R.cells ∧ slots + ms ≤ R.slots) :
    va_Run p l e R s m args below meth c H locs cells slots mc ms (F0 m pc ls st0) rest (Qc (Value.ref b :: As).toArray) free := by
  subst hst
  exact va_runV (As := As) (rest := rest) S hM cw ⟨zBlind, hrec, fun U hU hW => ⟨rfl, by rw [hU]; exact hP, hKK.warm hW⟩⟩ rfl hn hl rfl (lv_room hW) hdg hf
theorem g_runS (S : CallFix p m c cc nL s args lw_all own) (hKK : KK D t s) (hP : P H)
    (hM : Met l y (ws_ y bytes maxL ret) rm (zPc As P (KK D t)) Qc mc ms free) (cw : CallB R s args own index y bytes maxL ret (ws_ y bytes maxL ret) rm mc ms n ∧ (Cond.static y).before args s = true)
    (hn : As.length = n) (hl : ls.size = nL) (hst : st0 = As.reverse ++ rest) (hW : (rest.map fun v => v.category).sum ≤ 8) (hdg : decode cc pc = .ok (.invokestatic index, 3)) (hf : cells + mc ≤ R.cells ∧ slots + ms ≤ R.slots) :
    va_Run p l e R s m args below meth c H locs cells slots mc ms (F0 m pc ls st0) rest (Qc As.toArray) free := by
  subst hst
  exact va_runS (As := As) (rest := rest) S hM cw ⟨zBlind, fun U hU hW => ⟨rfl, by rw [hU]; exact hP, hKK.warm hW⟩⟩ rfl hn hl rfl (lv_room hW) hdg hf
theorem g_runSN {host : String} (S : CallFix p m c cc nL s args lw_all own) (hKK : KK D t s) (hP : P H)
    (hM : Met l y (ws_ y bytes maxL ret) rm (zPc As P (KK D t)) Qc mc ms free) (cw : va_CN R s args own index y host bytes maxL ret (ws_ y bytes maxL ret) rm mc ms n ∧ (Cond.static y).before args s = true ∧ True)
    (hn : As.length = n) (hl : ls.size = nL) (hst : st0 = As.reverse ++ rest) (hW : (rest.map fun v => v.category).sum ≤ 8) (hdg : decode cc pc = .ok (.invokestatic index, 3)) (hf : cells + mc ≤ R.cells ∧ slots + ms ≤ R.slots) :
    va_Run p l e R s m args below meth c H locs cells slots mc ms (F0 m pc ls st0) rest (Qc As.toArray) free := by
  subst hst
  exact va_runSN (As := As) (rest := rest) S hM cw ⟨zBlind, fun U hU hW => ⟨rfl, by rw [hU]; exact hP, hKK.warm hW⟩⟩ rfl hn hl rfl (lv_room hW) hdg hf
/-- the ends of an office's method that writes -/
theorem o_iret {post : Int32 → RT × BT → Prop} {v : Int32} (hexec : p.tables.exec = Jvm.exec) (hb : c.code = cc) (hr : meth.sig.returnType = some .int) (hp : post v (r, A)) (hV : OV D t ob kb lo sg kd r A H) (hS : va_S (oA ob) s.heap H locs)
    (hdg : decode cc pc = .ok (.ireturn, 1)) (hlocks : meth.locks = false) : W p l e R s m args below meth c H locs cells slots (MQ below (va_Qi post (fun u U => OV D t ob kb lo sg kd u.1 u.2 U.heap) (oA ob)) args s cells slots (oA ob)) (F0 m pc ls [.int v]) :=
  W.iret (v := v) hexec hb hr (fun tt ht _ => ⟨⟨v, (r, A), rfl, hp, by show OV D t ob kb lo sg kd r A tt.heap; rw [ht]; exact hV⟩, hS.F ht⟩) hS.2.2 hdg hlocks
theorem o_vret {post : RT × BT → Prop} (hexec : p.tables.exec = Jvm.exec) (hb : c.code = cc) (hr : meth.sig.returnType = none) (hp : post (r, A)) (hV : OV D t ob kb lo sg kd r A H) (hS : va_S (oA ob) s.heap H locs)
    (hdg : decode cc pc = .ok (.return_, 1)) (hlocks : meth.locks = false) : W p l e R s m args below meth c H locs cells slots (MQ below (va_Qv post (fun u U => OV D t ob kb lo sg kd u.1 u.2 U.heap) (oA ob)) args s cells slots (oA ob)) (F0 m pc ls []) :=
  W.vret hexec hb hr (fun tt ht _ => ⟨⟨(r, A), rfl, hp, by show OV D t ob kb lo sg kd r A tt.heap; rw [ht]; exact hV⟩, hS.F ht⟩) hS.2.2 hdg hlocks
end OZ
theorem g_r {p : Program} {l : Launch} {e : Env} {R : Room} {s : State} {m : MethodId} {args : Array Value} {below : List Frame} {meth : Method} {c : Code} {H : Heap} {locs : List Loc} {cells slots : Nat} {Q : State → Prop} {pc : Nat} {ls : Array Slot} {rest st0 : List Value} {r : Int32} {a : Array Value} (hr : va_Run p l e R s m args below meth c H locs cells slots 0 0 (F0 m pc ls st0) rest (QcRead r a) (fun _ => False))
    (kk : W p l e R s m args below meth c H locs cells slots Q (F0 m (pc + 3) ls (.int r :: rest))) : W p l e R s m args below meth c H locs cells slots Q (F0 m pc ls st0) := W.callR (va_Run.run hr) kk
theorem o_aret {p : Program} {l : Launch} {e : Env} {R : Room} {s : State} {m : MethodId} {args : Array Value} {below : List Frame} {meth : Method} {c : Code} {H : Heap} {locs : List Loc} {cells slots : Nat} {cc : ByteArray} {pc : Nat} {ls : Array Slot} {D : va_G} {t : Nat → ClassId} {ob kb lo : Nat} {sg kd : GT} {A : BT} {r : RT} {post : RT × BT → Prop} {cn : String} (hexec : p.tables.exec = Jvm.exec) (hb : c.code = cc) (hr : meth.sig.returnType = some (.object cn)) (hp : post (r, A)) (hV : OV D t ob kb lo sg kd r A H) (hS : va_S (oA ob) s.heap H locs)
    (hdg : decode cc pc = .ok (.areturn, 1)) (hlocks : meth.locks = false) : W p l e R s m args below meth c H locs cells slots (MQ below (va_Qr post (fun u a U => a = ob ∧ OV D t ob kb lo sg kd u.1 u.2 U.heap) (oA ob)) args s cells slots (oA ob)) (F0 m pc ls [.ref ob]) :=
  W.aret (v := .ref ob) hexec hb hr (Or.inl ⟨_, rfl⟩) (Or.inr ⟨_, rfl⟩) (fun tt ht _ => ⟨⟨(r, A), ob, rfl, hp, rfl, by show OV D t ob kb lo sg kd r A tt.heap; rw [ht]; exact hV⟩, hS.F ht⟩) hS.2.2 hdg hlocks
