/-! THE MODEL's OBJECT: fourteen cells at mb .. mb + 13; B: its columns (0: isImage, taped, place, rowed; 1 refusals, 2 s, 3 image, 4 read, 5 mind, 6 heard, 7 by, 8 from, 9 origin, 10 kept, 11 tape, 12 told, 13 row) -/
set_option maxRecDepth 100000
abbrev BT : Type := Nat → Nat → Int32
def mF (mb : Nat) (B : BT) : List Value := [.ref (mb + 1), .ref (mb + 2), .ref (mb + 3), .ref (mb + 4), .ref (mb + 5), .int (B 0 0), .ref (mb + 6), .ref (mb + 7), .ref (mb + 8), .ref (mb + 9), .ref (mb + 10), .ref (mb + 11), .ref (mb + 12), .int (B 0 1), .int (B 0 2), .ref (mb + 13), .int (B 0 3)]
def mL (t : Nat → ClassId) (mb : Nat) (B : BT) : va_W := [(mb, .inr (1, mF mb B)), (mb + 1, .inl (t 0, 7, .inl (B 1))), (mb + 2, .inl (t 0, 73, .inl (B 2))), (mb + 3, .inl (t 0, 73, .inl (B 3))), (mb + 4, .inl (t 0, 73, .inl (B 4))), (mb + 5, .inl (t 0, 73, .inl (B 5))), (mb + 6, .inl (t 0, 6, .inl (B 6))), (mb + 7, .inl (t 0, 6, .inl (B 7))), (mb + 8, .inl (t 0, 6, .inl (B 8))), (mb + 9, .inl (t 0, 6, .inl (B 9))), (mb + 10, .inl (t 0, 6, .inl (B 10))), (mb + 11, .inl (t 0, 96, .inl (B 11))), (mb + 12, .inl (t 0, 3, .inl (B 12))), (mb + 13, .inl (t 0, 6, .inl (B 13)))]
def mA (mb : Nat) : Nat → Prop := fun q => mb ≤ q ∧ q < mb + 14
def MW (D : va_G) (t : Nat → ClassId) (mb : Nat) (B : BT) (H : Heap) : Prop := va_P D vwCl (mL t mb B) H
theorem mL_at {t : Nat → ClassId} {mb : Nat} {B : BT} {k : Nat} {q : Nat × va_E} (h : (mL t mb B)[k]? = some q) : q.1 = mb + k ∧ k < 14 := by
  have hk : k < 14 := (List.getElem?_eq_some_iff.mp h).1
  have : k = 0 ∨ k = 1 ∨ k = 2 ∨ k = 3 ∨ k = 4 ∨ k = 5 ∨ k = 6 ∨ k = 7 ∨ k = 8 ∨ k = 9 ∨ k = 10 ∨ k = 11 ∨ k = 12 ∨ k = 13 := by omega
  rcases this with rfl | rfl | rfl | rfl | rfl | rfl | rfl | rfl | rfl | rfl | rfl | rfl | rfl | rfl <;> (cases h; exact ⟨rfl, hk⟩)
theorem mL_D {t : Nat → ClassId} {mb : Nat} {B : BT} : va_D (mA mb) (mL t mb B) := by
  refine ⟨fun i j p q hi hj e => ?_, fun k q hk => ?_⟩
  · have h1 := (mL_at hi).1
    have h2 := (mL_at hj).1
    omega
  · have h1 := mL_at hk
    exact ⟨by omega, by omega⟩
section MZ
variable {p : Program} {l : Launch} {e : Env} {R : Room} {s : State} {m : MethodId} {args : Array Value} {below : List Frame} {meth : Method} {c : Code} {H : Heap} {locs : List Loc} {cells slots : Nat} {Q : State → Prop} {cc : ByteArray} {pc : Nat} {ls : Array Slot} {rest : List Value} {D : va_G} {t : Nat → ClassId} {mb : Nat} {B : BT} {H0 : Heap}
theorem m_get (hexec : p.tables.exec = Jvm.exec) (hb : c.code = cc) (hts : ∀ w ∈ lw_all, w.before args s = true) (hown : s.vm.findClass RX9 = some m.cls) (hKK : KK D t s) (hP : MW D t mb B H) (k : Nat) {index : Nat} (hk : k < 17) (hlink : (Cond.fieldLink RX9 index "SongThatStaysModel" (TX9 k).2.1 (TX9 k).2.2.1) ∈ lw_all) (hT : (TX9 k).1 = "SongThatStaysModel") {v : Value} (hv : (mF mb B)[k]? = some v) (hdg : decode cc pc = .ok (.getfield index, 3))
    (kk : W p l e R s m args below meth c H locs cells slots Q (F0 m (pc + 3) ls (v :: rest))) : W p l e R s m args below meth c H locs cells slots Q (F0 m pc ls (.ref mb :: rest)) :=
  va_get (D := D) (ci := 1) (C := RX9) (T := TX9) (N := 17) hexec hb hts in_X9 hown hKK.1 hP 0 rfl rfl k hk (hts _ hlink) (fun _ h9 => by rw [hT] at h9; exact h9) hv hdg kk
theorem m_ald (hexec : p.tables.exec = Jvm.exec) (hb : c.code = cc) (hKK : KK D t s) (hP : MW D t mb B H) (q0 : Nat) {n : Nat} (ha : (mL t mb B)[q0]? = some (mb + q0, .inl (t 0, n, .inl (B q0)))) {i v : Int32} {k : Nat} (hi : i = nI k) (hk : k < n) (hn : n < 2 ^ 31) (hv : B q0 k = v) (hdg : decode cc pc = .ok (.iaload, 1))
    (kk : W p l e R s m args below meth c H locs cells slots Q (F0 m (pc + 1) ls (.int v :: rest))) : W p l e R s m args below meth c H locs cells slots Q (F0 m pc ls (.int i :: .ref (mb + q0) :: rest)) := by
  subst hv
  exact z_iald hexec hb hKK.1 hP q0 0 ha rfl hi hk hn hdg kk
theorem m_ast (hexec : p.tables.exec = Jvm.exec) (hb : c.code = cc) (hKK : KK D t s) (hP : MW D t mb B H) (hS : va_S (mA mb) H0 H locs) (q0 : Nat) {n : Nat} (ha : (mL t mb B)[q0]? = some (mb + q0, .inl (t 0, n, .inl (B q0)))) {i x : Int32} {k : Nat} (hi : i = nI k) (hk : k < n) (hn : n < 2 ^ 31) (hset : (mL t mb B).set q0 (mb + q0, .inl (t 0, n, .inl (upd (B q0) k x))) = mL t mb (up2 B q0 k x)) (hdg : decode cc pc = .ok (.iastore, 1))
    (kk : ∀ (H1 : Heap) (locs1 : List Loc), MW D t mb (up2 B q0 k x) H1 → va_S (mA mb) H0 H1 locs1 → W p l e R s m args below meth c H1 locs1 cells slots Q (F0 m (pc + 1) ls rest)) : W p l e R s m args below meth c H locs cells slots Q (F0 m pc ls (.int x :: .int i :: .ref (mb + q0) :: rest)) :=
  z_iast hexec hb hKK.1 hP mL_D hS q0 0 ha rfl hi hk hn hdg (fun H1 locs1 hP1 hS1 => kk H1 locs1 (by rw [hset] at hP1; exact hP1) hS1)
theorem m_put (hexec : p.tables.exec = Jvm.exec) (hb : c.code = cc) (hts : ∀ w ∈ lw_all, w.before args s = true) (hown : s.vm.findClass RX9 = some m.cls) (hKK : KK D t s) (hP : MW D t mb B H) (hS : va_S (mA mb) H0 H locs) (k j : Nat) {index : Nat} (hk : k < 17) (hlink : (Cond.fieldLink RX9 index "SongThatStaysModel" (TX9 k).2.1 (TX9 k).2.2.1) ∈ lw_all) (hT : (TX9 k).1 = "SongThatStaysModel") (hfin : (TX9 k).2.2.2 = false) {ty : FieldType} {x : Int32} (hd : parseFieldDescriptor (TX9 k).2.2.1 = some ty) (hn : narrow ty (.int x) = .int x) (hfit : fits ty (.int x) = true) (hset : (mF mb B).set k (.int x) = mF mb (up2 B 0 j x)) (hdg : decode cc pc = .ok (.putfield index, 3))
    (kk : ∀ (H1 : Heap) (locs1 : List Loc), MW D t mb (up2 B 0 j x) H1 → va_S (mA mb) H0 H1 locs1 → W p l e R s m args below meth c H1 locs1 cells slots Q (F0 m (pc + 3) ls rest)) : W p l e R s m args below meth c H locs cells slots Q (F0 m pc ls (.int x :: .ref mb :: rest)) := by
  refine va_put (D := D) (ci := 1) (C := RX9) (T := TX9) (N := 17) hexec hb hts in_X9 tyX9 tyX9_ok nmX9 hown hKK.1 hP mL_D hS 0 rfl rfl k hk (hts _ hlink) (fun _ h9 => by rw [hT] at h9; exact h9) hfin hd hn hfit hk hdg (fun H1 locs1 hP1 _ hS1 => kk H1 locs1 ?_ hS1)
  rw [hset] at hP1
  exact hP1
theorem m_recv (hKK : KK D t s) (hP : MW D t mb B H) : ∃ cellB : Cell, H[mb]? = some cellB ∧ cellB.vm.isStatics = false ∧ s.vm.findClass RX9 = some cellB.cls :=
  va_recv hKK.1 hP (ci := 1) (q0 := 0) rfl rfl
variable {y : MethodName} {bytes : ByteArray} {maxL nL n index : Nat} {rm : Room} {As st0 : List Value} {ret : Option FieldType}
/-- the model calls a method of its own that reads alone -/
theorem m_callr {r : Int32} (S : CallFix p m c cc nL s args lw_all RX9) (hKK : KK D t s) (hP : MW D t mb B H)
    (hM : Met l y (ws_ y bytes maxL ret) rm (zPc (.ref mb :: As) (MW D t mb B) (KK D t)) (QcRead r) 0 0 (fun _ => False)) (cw : CallW R s args RX9 RX9 index y bytes maxL ret (ws_ y bytes maxL ret) rm 0 0 n)
    (hn : As.length = n) (hl : ls.size = nL) (hst : st0 = As.reverse ++ .ref mb :: rest) (hW : (rest.map fun v => v.category).sum ≤ 8) (hdg : decode cc pc = .ok (.invokevirtual index, 3)) (hf : cells ≤ R.cells ∧ slots ≤ R.slots)
    (kk : W p l e R s m args below meth c H locs cells slots Q (F0 m (pc + 3) ls (.int r :: rest))) : W p l e R s m args below meth c H locs cells slots Q (F0 m pc ls st0) := by
  subst hst
  exact W.callR (W.runV (As := As) (rest := rest) S hM cw ⟨zBlind, m_recv hKK hP, fun U hU hW => ⟨rfl, by rw [hU]; exact hP, hKK.warm hW⟩⟩ rfl hn hl rfl (lv_room hW) hdg hf) kk
theorem m_callS {r : Int32} {own : String} {P : Heap → Prop} (S : CallFix p m c cc nL s args lw_all own) (hKK : KK D t s) (hP : P H)
    (hM : Met l y (ws_ y bytes maxL ret) rm (zPc As P (KK D t)) (QcRead r) 0 0 (fun _ => False)) (cw : CallB R s args own index y bytes maxL ret (ws_ y bytes maxL ret) rm 0 0 n ∧ (Cond.static y).before args s = true)
    (hn : As.length = n) (hl : ls.size = nL) (hst : st0 = As.reverse ++ rest) (hW : (rest.map fun v => v.category).sum ≤ 8) (hdg : decode cc pc = .ok (.invokestatic index, 3)) (hf : cells ≤ R.cells ∧ slots ≤ R.slots)
    (kk : W p l e R s m args below meth c H locs cells slots Q (F0 m (pc + 3) ls (.int r :: rest))) : W p l e R s m args below meth c H locs cells slots Q (F0 m pc ls st0) := by
  subst hst
  exact W.callR (W.runS (As := As) (rest := rest) S hM cw ⟨zBlind, fun U hU hW => ⟨rfl, by rw [hU]; exact hP, hKK.warm hW⟩⟩ rfl hn hl rfl (lv_room hW) hdg hf) kk
/-- .. one that writes, and answers an int -/
theorem m_calli {post : Int32 → BT → Prop} (S : CallFix p m c cc nL s args lw_all RX9) (hKK : KK D t s) (hP : MW D t mb B H) (hS : va_S (mA mb) H0 H locs)
    (hM : Met l y (ws_ y bytes maxL ret) rm (zPc (.ref mb :: As) (MW D t mb B) (KK D t)) (va_Qi post (fun B' U => MW D t mb B' U.heap) (mA mb)) 0 0 (mA mb)) (cw : CallW R s args RX9 RX9 index y bytes maxL ret (ws_ y bytes maxL ret) rm 0 0 n)
    (hn : As.length = n) (hl : ls.size = nL) (hst : st0 = As.reverse ++ .ref mb :: rest) (hW : (rest.map fun v => v.category).sum ≤ 8) (hdg : decode cc pc = .ok (.invokevirtual index, 3)) (hf : cells ≤ R.cells ∧ slots ≤ R.slots)
    (kk : ∀ (r : Int32) (B' : BT) (H1 : Heap) (locs1 : List Loc), post r B' → MW D t mb B' H1 → va_S (mA mb) H0 H1 locs1 → W p l e R s m args below meth c H1 locs1 cells slots Q (F0 m (pc + 3) ls (.int r :: rest))) : W p l e R s m args below meth c H locs cells slots Q (F0 m pc ls st0) := by
  subst hst
  refine va_calli (va_runV (As := As) (rest := rest) S hM cw ⟨zBlind, m_recv hKK hP, fun U hU hW => ⟨rfl, by rw [hU]; exact hP, hKK.warm hW⟩⟩ rfl hn hl rfl (lv_room hW) hdg hf) hS (fun q _ h => h) (fun q h => h) (fun r u tt H1 locs1 ht _ hp hB _ _ hS1 => kk r u H1 locs1 hp (by rw [ht] at hB; exact hB) hS1)
/-- .. one that writes, and answers nothing -/
theorem m_callv {post : BT → Prop} (S : CallFix p m c cc nL s args lw_all RX9) (hKK : KK D t s) (hP : MW D t mb B H) (hS : va_S (mA mb) H0 H locs)
    (hM : Met l y (ws_ y bytes maxL none) rm (zPc (.ref mb :: As) (MW D t mb B) (KK D t)) (va_Qv post (fun B' U => MW D t mb B' U.heap) (mA mb)) 0 0 (mA mb)) (cw : CallW R s args RX9 RX9 index y bytes maxL none (ws_ y bytes maxL none) rm 0 0 n)
    (hn : As.length = n) (hl : ls.size = nL) (hst : st0 = As.reverse ++ .ref mb :: rest) (hW : (rest.map fun v => v.category).sum ≤ 8) (hdg : decode cc pc = .ok (.invokevirtual index, 3)) (hf : cells ≤ R.cells ∧ slots ≤ R.slots)
    (kk : ∀ (B' : BT) (H1 : Heap) (locs1 : List Loc), post B' → MW D t mb B' H1 → va_S (mA mb) H0 H1 locs1 → W p l e R s m args below meth c H1 locs1 cells slots Q (F0 m (pc + 3) ls rest)) : W p l e R s m args below meth c H locs cells slots Q (F0 m pc ls st0) := by
  subst hst
  refine va_callv (va_runV (As := As) (rest := rest) S hM cw ⟨zBlind, m_recv hKK hP, fun U hU hW => ⟨rfl, by rw [hU]; exact hP, hKK.warm hW⟩⟩ rfl hn hl rfl (lv_room hW) hdg hf) hS (fun q _ h => h) (fun q h => h) (fun u tt H1 locs1 ht _ hp hB _ _ hS1 => kk u H1 locs1 hp (by rw [ht] at hB; exact hB) hS1)
theorem m_callSv {post : BT → Prop} (S : CallFix p m c cc nL s args lw_all RX9) (hKK : KK D t s) (hP : MW D t mb B H) (hS : va_S (mA mb) H0 H locs)
    (hM : Met l y (ws_ y bytes maxL none) rm (zPc As (MW D t mb B) (KK D t)) (va_Qv post (fun B' U => MW D t mb B' U.heap) (mA mb)) 0 0 (mA mb)) (cw : CallB R s args RX9 index y bytes maxL none (ws_ y bytes maxL none) rm 0 0 n ∧ (Cond.static y).before args s = true)
    (hn : As.length = n) (hl : ls.size = nL) (hst : st0 = As.reverse ++ rest) (hW : (rest.map fun v => v.category).sum ≤ 8) (hdg : decode cc pc = .ok (.invokestatic index, 3)) (hf : cells ≤ R.cells ∧ slots ≤ R.slots)
    (kk : ∀ (B' : BT) (H1 : Heap) (locs1 : List Loc), post B' → MW D t mb B' H1 → va_S (mA mb) H0 H1 locs1 → W p l e R s m args below meth c H1 locs1 cells slots Q (F0 m (pc + 3) ls rest)) : W p l e R s m args below meth c H locs cells slots Q (F0 m pc ls st0) := by
  subst hst
  refine va_callv (va_runS (As := As) (rest := rest) S hM cw ⟨zBlind, fun U hU hW => ⟨rfl, by rw [hU]; exact hP, hKK.warm hW⟩⟩ rfl hn hl rfl (lv_room hW) hdg hf) hS (fun q _ h => h) (fun q h => h) (fun u tt H1 locs1 ht _ hp hB _ _ hS1 => kk u H1 locs1 hp (by rw [ht] at hB; exact hB) hS1)
end MZ
