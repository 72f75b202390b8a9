/-! THE CLASS's OWN WORLD: the object cb, its kinds' array cb + 1, the kinds cb + 2 .., the office cb + 8 .., the mind cb + 23 .., the image cb + 38 .., the told row cb + 53, the letters cb + 54, the refusals cb + 55; songs at cb + 70 or above -/
set_option maxRecDepth 100000
def cF (cb : Nat) (B : BT) : List Value := [.ref (cb + 1), .ref (cb + 8), .ref (cb + 23), .ref (cb + 38), .int (B 0 0), .ref (cb + 53), .int (B 0 3), .ref (cb + 54), .int (B 0 1), .ref (cb + 55)]
def kn (cb : Nat) : GT := fun j => some (cb + 2 + j)
def cL (t : Nat → ClassId) (cb : Nat) (B : BT) : va_W := [(cb, .inr (0, cF cb B)), (cb + 1, .inl (t 4, 6, .inr (.inr (.inr (.inr (kn cb)))))), (cb + 53, .inl (t 1, 6, .inl (B 13))), (cb + 54, .inl (t 2, 96, .inl (B 11))), (cb + 55, .inl (t 0, 7, .inl (B 1)))]
def cO (cb : Nat) : Nat → Prop := fun q => q = cb ∨ q = cb + 1 ∨ q = cb + 53 ∨ q = cb + 54 ∨ q = cb + 55
def cA (cb : Nat) : Nat → Prop := fun q => cb ≤ q ∧ q < cb + 56
def MR (D : va_G) (t : Nat → ClassId) (cb : Nat) (B : BT) (H : Heap) : Prop := va_P D vwCl (cL t cb B) H
theorem cL_at {t : Nat → ClassId} {cb : Nat} {B : BT} {k : Nat} {q : Nat × va_E} (h : (cL t cb B)[k]? = some q) : k < 5 ∧ ((k = 0 ∧ q.1 = cb) ∨ (k = 1 ∧ q.1 = cb + 1) ∨ (k = 2 ∧ q.1 = cb + 53) ∨ (k = 3 ∧ q.1 = cb + 54) ∨ (k = 4 ∧ q.1 = cb + 55)) := by
  have hk : k < 5 := (List.getElem?_eq_some_iff.mp h).1
  have : k = 0 ∨ k = 1 ∨ k = 2 ∨ k = 3 ∨ k = 4 := by omega
  rcases this with rfl | rfl | rfl | rfl | rfl <;> (cases h; simp)
theorem cL_O {t : Nat → ClassId} {cb : Nat} {B : BT} {k : Nat} {q : Nat × va_E} (h : (cL t cb B)[k]? = some q) : cO cb q.1 := by
  have h1 := cL_at h
  unfold cO
  omega
theorem cL_D {t : Nat → ClassId} {cb : Nat} {B : BT} {A : Nat → Prop} (hA : ∀ q, cO cb q → A q) : va_D A (cL t cb B) := by
  refine ⟨fun i j p q hi hj e => ?_, fun k q hk => hA _ (cL_O hk)⟩
  have h1 := cL_at hi
  have h2 := cL_at hj
  omega
def MO (D : va_G) (t : Nat → ClassId) (cb : Nat) (r : RT) (H : Heap) : Prop := ∃ sg kd A, OV D t (cb + 8) (cb + 2) (cb + 70) sg kd r A H
def MI (D : va_G) (t : Nat → ClassId) (cb : Nat) (B : BT) (H : Heap) : Prop := (∃ O sg kd, OR D t (cb + 38) O sg kd H) ∧ (¬ B 0 0 = 0 → ∃ sg kd A, OV D t (cb + 38) (cb + 2) (cb + 70) sg kd (B 3) A H)
def ND (D : va_G) (t : Nat → ClassId) (cb : Nat) (H : Heap) : Prop := ∃ O sg kd, OR D t (cb + 23) O sg kd H
def CM (D : va_G) (t : Nat → ClassId) (Z : Nat × Cell) (cb : Nat) (B : BT) (H : Heap) : Prop := (Z.1 < cb ∧ H[Z.1]? = some Z.2 ∧ ∃ x, H[cb + 69]? = some x) ∧ MR D t cb B H ∧ MO D t cb (B 2) H ∧ MI D t cb B H
def CW (D : va_G) (t : Nat → ClassId) (Z : Nat × Cell) (cb : Nat) (B : BT) (H : Heap) : Prop := CM D t Z cb B H ∧ ND D t cb H
section CK
variable {D : va_G} {t : Nat → ClassId} {Z : Nat × Cell} {cb : Nat} {B : BT} {H H1 : Heap}
theorem OR.kept {ob : Nat} {O : BT} {sg kd : GT} (h : OR D t ob O sg kd H) (hq : ∀ q, q < H.size → oA ob q → H1[q]? = H[q]?) : OR D t ob O sg kd H1 :=
  va_P.kept h (fun k q hk => hq _ (h k q hk).lt (by have := oL_at hk; exact ⟨by omega, by omega⟩))
theorem MR.kept (h : MR D t cb B H) (hq : ∀ q, q < H.size → cO cb q → H1[q]? = H[q]?) : MR D t cb B H1 :=
  va_P.kept h (fun k q hk => hq _ (h k q hk).lt (cL_O hk))
theorem MO.kept {r : RT} (h : MO D t cb r H) (hq : ∀ q, q < H.size → (oA (cb + 8) q ∨ cb + 70 ≤ q ∨ (cb + 2 ≤ q ∧ q < cb + 8)) → H1[q]? = H[q]?) : MO D t cb r H1 := by
  obtain ⟨sg, kd, A, hV⟩ := h
  exact ⟨sg, kd, A, hV.kept (fun q h1 h2 => hq q h1 (by omega))⟩
theorem MI.kept (h : MI D t cb B H) (hq : ∀ q, q < H.size → (oA (cb + 38) q ∨ cb + 70 ≤ q ∨ (cb + 2 ≤ q ∧ q < cb + 8)) → H1[q]? = H[q]?) : MI D t cb B H1 := by
  refine ⟨?_, fun hb => ?_⟩
  · obtain ⟨O, sg, kd, hR⟩ := h.1
    exact ⟨O, sg, kd, hR.kept (fun q h1 h2 => hq q h1 (Or.inl h2))⟩
  · obtain ⟨sg, kd, A, hV⟩ := h.2 hb
    exact ⟨sg, kd, A, hV.kept (fun q h1 h2 => hq q h1 (by omega))⟩
theorem ND.kept (h : ND D t cb H) (hq : ∀ q, q < H.size → oA (cb + 23) q → H1[q]? = H[q]?) : ND D t cb H1 := by
  obtain ⟨O, sg, kd, hR⟩ := h
  exact ⟨O, sg, kd, hR.kept hq⟩
theorem ct_Z (h : Z.1 < cb ∧ H[Z.1]? = some Z.2 ∧ ∃ x, H[cb + 69]? = some x) (hq : ∀ q, q < H.size → (q < cb ∨ q = cb + 69) → H1[q]? = H[q]?) : Z.1 < cb ∧ H1[Z.1]? = some Z.2 ∧ ∃ x, H1[cb + 69]? = some x := by
  obtain ⟨h1, h2, x, h3⟩ := h
  exact ⟨h1, by rw [hq _ (Array.getElem?_eq_some_iff.mp h2).1 (Or.inl h1)]; exact h2, x, by rw [hq _ (Array.getElem?_eq_some_iff.mp h3).1 (Or.inr rfl)]; exact h3⟩
theorem CM.big (h : CM D t Z cb B H) : cb + 70 ≤ H.size := by
  obtain ⟨x, h3⟩ := h.1.2.2
  exact (Array.getElem?_eq_some_iff.mp h3).1
/-- behind a change of the mind -/
theorem CM.kept (h : CM D t Z cb B H) (hq : ∀ q, q < H.size → ¬ oA (cb + 23) q → H1[q]? = H[q]?) : CM D t Z cb B H1 :=
  ⟨ct_Z h.1 (fun q h1 h2 => hq q h1 (fun z => by unfold oA at z; omega)), h.2.1.kept (fun q h1 h2 => hq q h1 (fun z => by unfold cO at h2; unfold oA at z; omega)), h.2.2.1.kept (fun q h1 h2 => hq q h1 (fun z => by unfold oA at h2 z; omega)), h.2.2.2.kept (fun q h1 h2 => hq q h1 (fun z => by unfold oA at h2 z; omega))⟩
/-- behind a change of new cells alone -/
theorem CW.kept (h : CW D t Z cb B H) (hq : ∀ q, q < H.size → H1[q]? = H[q]?) : CW D t Z cb B H1 := ⟨h.1.kept (fun q h1 _ => hq q h1), h.2.kept (fun q h1 _ => hq q h1)⟩
/-- behind a change of the office -/
theorem CM.off {sg kd : GT} {r : RT} {A : BT} (h : CM D t Z cb B H) (hV : OV D t (cb + 8) (cb + 2) (cb + 70) sg kd r A H1) (hq : ∀ q, q < H.size → ¬ oA (cb + 8) q → H1[q]? = H[q]?) : CM D t Z cb (upc B 2 r) H1 :=
  ⟨ct_Z h.1 (fun q h1 h2 => hq q h1 (fun z => by unfold oA at z; omega)), (show MR D t cb B H1 from h.2.1.kept (fun q h1 h2 => hq q h1 (fun z => by unfold cO at h2; unfold oA at z; omega))), ⟨sg, kd, A, hV⟩, (show MI D t cb B H1 from h.2.2.2.kept (fun q h1 h2 => hq q h1 (fun z => by unfold oA at h2 z; omega)))⟩
theorem CW.off {sg kd : GT} {r : RT} {A : BT} (h : CW D t Z cb B H) (hV : OV D t (cb + 8) (cb + 2) (cb + 70) sg kd r A H1) (hq : ∀ q, q < H.size → ¬ oA (cb + 8) q → H1[q]? = H[q]?) : CW D t Z cb (upc B 2 r) H1 :=
  ⟨h.1.off hV hq, h.2.kept (fun q h1 h2 => hq q h1 (fun z => by unfold oA at h2 z; omega))⟩
/-- behind a change of the object's own cells -/
theorem CW.own {B' : BT} (h : CW D t Z cb B H) (h2 : B' 2 = B 2) (h3 : B' 3 = B 3) (h0 : B' 0 0 = B 0 0) (hM : MR D t cb B' H1) (hq : ∀ q, q < H.size → ¬ cO cb q → H1[q]? = H[q]?) : CW D t Z cb B' H1 :=
  ⟨⟨ct_Z h.1.1 (fun q h1 h2 => hq q h1 (fun z => by unfold cO at z; omega)), hM, by rw [h2]; exact h.1.2.2.1.kept (fun q h1 h2 => hq q h1 (fun z => by unfold oA at h2; unfold cO at z; omega)), (show MI D t cb B' H1 by
      have := h.1.2.2.2.kept (H1 := H1) (fun q h1 h2 => hq q h1 (fun z => by unfold oA at h2; unfold cO at z; omega))
      unfold MI; rw [h0, h3]; exact this)⟩, h.2.kept (fun q h1 h2 => hq q h1 (fun z => by unfold oA at h2; unfold cO at z; omega))⟩
theorem CM.recv {s : State} (hKK : KK D t s) (h : CM D t Z cb B H) : ∃ cellB : Cell, H[cb]? = some cellB ∧ cellB.vm.isStatics = false ∧ s.vm.findClass RX0 = some cellB.cls := va_recv hKK.1 h.2.1 (ci := 0) (q0 := 0) rfl rfl
end CK
/-- what a call answers: a number's refusal thrown, or the answer and the columns behind it -/
def QX (D : va_G) (t : Nat → ClassId) (Z : Nat × Cell) (cb : Nat) (N : Int32) (u : OT) (v : BT) : Array Value → State → Outcome → State → Prop := fun _ st o tt => ((N = 0 ∧ o = .returned (some (.int u.1)) ∧ CW D t Z cb u.2 tt.heap) ∨ (¬ N = 0 ∧ ∃ x, o = .threw x ∧ RF D x N tt.heap ∧ CW D t Z cb v tt.heap)) ∧ va_F (cA cb) st tt
section CX
variable {p : Program} {l : Launch} {e : Env} {R : Room} {s : State} {m : MethodId} {args : Array Value} {below : List Frame} {meth : Method} {c : Code} {H : Heap} {locs : List Loc} {cells slots : Nat} {Q : State → Prop} {cc : ByteArray} {pc : Nat} {ls : Array Slot} {rest : List Value} {D : va_G} {t : Nat → ClassId} {Z : Nat × Cell} {cb : Nat} {B : BT} {H0 : Heap} {A0 : Nat → Prop} {own : String} {index : Nat}
/-- a field of the office, whatever else it keeps -/
theorem c_oget (hexec : p.tables.exec = Jvm.exec) (hb : c.code = cc) (hts : ∀ w ∈ lw_all, w.before args s = true) (hown : s.vm.findClass own = some m.cls) (hKK : KK D t s) (hC : CM D t Z cb B H) (k : Nat) (hk : k < 20) (hlink : (Cond.fieldLink own index "SongThatStays$Office" (TX8 k).2.1 (TX8 k).2.2.1) ∈ lw_all ∨ ∃ host, (Cond.fieldLinkNest own index "SongThatStays$Office" (TX8 k).2.1 (TX8 k).2.2.1 host) ∈ lw_tbl) (hT : (TX8 k).1 = "SongThatStays$Office") {v : Value} (hv : ∀ A, (oF (cb + 8) (oC (B 2) A))[k]? = some v) (hdg : decode cc pc = .ok (.getfield index, 3))
    (kk : W p l e R s m args below meth c H locs cells slots Q (F0 m (pc + 3) ls (v :: rest))) : W p l e R s m args below meth c H locs cells slots Q (F0 m pc ls (.ref (cb + 8) :: rest)) := by
  obtain ⟨sg, kd, A, hV⟩ := hC.2.2.1
  rcases hlink with h | ⟨host, h⟩
  · exact o_get hexec hb hts hown hKK hV.1 k hk h hT (hv A) hdg kk
  · exact o_getN hexec hb hts hown hKK hV.1 k hk h hT (hv A) hdg kk
theorem n_get {ob : Nat} {O : BT} {sg kd : GT} (hexec : p.tables.exec = Jvm.exec) (hb : c.code = cc) (hts : ∀ w ∈ lw_all, w.before args s = true) (hown : s.vm.findClass own = some m.cls) (hKK : KK D t s) (hP : OR D t ob O sg kd H) (k : Nat) (hk : k < 20) (hlink : (Cond.fieldLink own index "SongThatStays$Office" (TX8 k).2.1 (TX8 k).2.2.1) ∈ lw_all ∨ ∃ host, (Cond.fieldLinkNest own index "SongThatStays$Office" (TX8 k).2.1 (TX8 k).2.2.1 host) ∈ lw_tbl) (hT : (TX8 k).1 = "SongThatStays$Office") {v : Value} (hv : (oF ob O)[k]? = some v) (hdg : decode cc pc = .ok (.getfield index, 3))
    (kk : W p l e R s m args below meth c H locs cells slots Q (F0 m (pc + 3) ls (v :: rest))) : W p l e R s m args below meth c H locs cells slots Q (F0 m pc ls (.ref ob :: rest)) := by
  rcases hlink with h | ⟨host, h⟩
  · exact o_get hexec hb hts hown hKK hP k hk h hT hv hdg kk
  · exact o_getN hexec hb hts hown hKK hP k hk h hT hv hdg kk
theorem c_oald (hexec : p.tables.exec = Jvm.exec) (hb : c.code = cc) (hKK : KK D t s) (hC : CM D t Z cb B H) (q0 : Nat) {n : Nat} (ha : ∀ sg kd A, (oL t (cb + 8) (oC (B 2) A) sg kd)[q0]? = some (cb + 8 + q0, .inl (t 0, n, .inl (oC (B 2) A q0)))) {i v : Int32} {k : Nat} (hi : i = nI k) (hk : k < n) (hn : n < 2 ^ 31) (hv : ∀ A, oC (B 2) A q0 k = v) (hdg : decode cc pc = .ok (.iaload, 1))
    (kk : W p l e R s m args below meth c H locs cells slots Q (F0 m (pc + 1) ls (.int v :: rest))) : W p l e R s m args below meth c H locs cells slots Q (F0 m pc ls (.int i :: .ref (cb + 8 + q0) :: rest)) := by
  obtain ⟨sg, kd, A, hV⟩ := hC.2.2.1
  exact o_ald hexec hb hKK hV.1 q0 (ha sg kd A) hi hk hn (hv A) hdg kk
/-- the object's own fields -/
theorem c_xget (hexec : p.tables.exec = Jvm.exec) (hb : c.code = cc) (hts : ∀ w ∈ lw_all, w.before args s = true) (hown : s.vm.findClass own = some m.cls) (hKK : KK D t s) (hC : CM D t Z cb B H) (k : Nat) (hk : k < 10) (hlink : (Cond.fieldLink own index "SongThatStays" (TX0 k).2.1 (TX0 k).2.2.1) ∈ lw_all ∨ ∃ host, (Cond.fieldLinkNest own index "SongThatStays" (TX0 k).2.1 (TX0 k).2.2.1 host) ∈ lw_tbl) (hT : (TX0 k).1 = "SongThatStays") {v : Value} (hv : (cF cb B)[k]? = some v) (hdg : decode cc pc = .ok (.getfield index, 3))
    (kk : W p l e R s m args below meth c H locs cells slots Q (F0 m (pc + 3) ls (v :: rest))) : W p l e R s m args below meth c H locs cells slots Q (F0 m pc ls (.ref cb :: rest)) := by
  rcases hlink with h | ⟨host, h⟩
  · exact va_get (D := D) (ci := 0) (C := RX0) (T := TX0) (N := 10) hexec hb hts in_X0 hown hKK.1 hC.2.1 0 rfl rfl k hk (hts _ h) (fun _ h9 => by rw [hT] at h9; exact h9) hv hdg kk
  · exact va_getN (D := D) (ci := 0) (C := RX0) (T := TX0) (N := 10) hexec hb hts in_X0 hown hKK.1 hC.2.1 0 rfl rfl k hk (va_Nw.use rfl (hKK.2.1 _ h rfl)) (fun _ h9 => by rw [hT] at h9; exact h9) hv hdg kk
theorem c_xput (hexec : p.tables.exec = Jvm.exec) (hb : c.code = cc) (hts : ∀ w ∈ lw_all, w.before args s = true) (hown : s.vm.findClass own = some m.cls) (hKK : KK D t s) (hC : CW D t Z cb B H) (hA : ∀ q, cO cb q → A0 q) (hS : va_S A0 H0 H locs) (k j : Nat) (hk : k < 10) (hj : j = 1 ∨ j = 3) (hlink : (Cond.fieldLink own index "SongThatStays" (TX0 k).2.1 (TX0 k).2.2.1) ∈ lw_all ∨ ∃ host, (Cond.fieldLinkNest own index "SongThatStays" (TX0 k).2.1 (TX0 k).2.2.1 host) ∈ lw_tbl) (hT : (TX0 k).1 = "SongThatStays") (hfin : (TX0 k).2.2.2 = false) {x : Int32} (hd : parseFieldDescriptor (TX0 k).2.2.1 = some .int) (hset : (cF cb B).set k (.int x) = cF cb (up2 B 0 j x)) (hdg : decode cc pc = .ok (.putfield index, 3))
    (kk : ∀ (H1 : Heap) (locs1 : List Loc), CW D t Z cb (up2 B 0 j x) H1 → H1.size = H.size → (∀ q : Nat, ¬ cO cb q → H1[q]? = H[q]?) → va_S A0 H0 H1 locs1 → W p l e R s m args below meth c H1 locs1 cells slots Q (F0 m (pc + 3) ls rest)) : W p l e R s m args below meth c H locs cells slots Q (F0 m pc ls (.int x :: .ref cb :: rest)) := by
  refine z_putq (D := D) (ci := 0) (C := RX0) (T := TX0) (N := 10) hexec hb hts in_X0 tyX0 tyX0_ok nmX0 hown hKK.1 hC.1.2.1 (cL_D hA) hS 0 rfl rfl k hk (hlink.imp (fun h => hts _ h) (fun ⟨host, h⟩ => ⟨host, va_Nw.use rfl (hKK.2.1 _ h rfl)⟩)) (fun _ h9 => by rw [hT] at h9; exact h9) hfin hd rfl rfl hk hdg (fun H1 locs1 hP1 hz hq hS1 => ?_)
  rw [hset] at hP1
  have hq1 : ∀ q : Nat, ¬ cO cb q → H1[q]? = H[q]? := fun q hn => hq q (fun e => hn (Or.inl e))
  have hM : MR D t cb (up2 B 0 j x) H1 := hP1
  exact kk H1 locs1 (hC.own (up2_ne _ _ _ (by decide)) (up2_ne _ _ _ (by decide)) (by rw [up2_same, upd_ne _ _ (by omega)]) hM (fun q _ h => hq1 q h)) hz hq1 hS1
/-! runs of calls: contracts over the world; such as may throw -/
variable {y : MethodName} {bytes : ByteArray} {maxL nL n mc ms : Nat} {rm : Room} {As st0 : List Value} {ret : Option FieldType} {C : String} {b : Nat} {P : Heap → Prop} {Qc Qd : Array Value → State → Outcome → State → Prop} {free : Addr → Prop} {MC MS : Nat} {A : Nat → Prop}
theorem gx_runV (S : CallFix p m c cc nL s args lw_all own) (hK : KX D t Z s) (hP : P H) (hrec : ∃ cellB : Cell, H[b]? = some cellB ∧ cellB.vm.isStatics = false ∧ s.vm.findClass C = some cellB.cls)
    (hM : Met l y (ws_ y bytes maxL ret) rm (zPc (.ref b :: As) P (KX D t Z)) Qc mc ms free) (cw : CallW R s args own C index y bytes maxL ret (ws_ y bytes maxL ret) rm mc ms n)
    (hn : As.length = n) (hl : ls.size = nL) (hst : st0 = As.reverse ++ .ref b :: rest) (hW : (rest.map fun v => v.category).sum ≤ 8) (hdg : decode cc pc = .ok (.invokevirtual index, 3)) (hf : cells + mc ≤ R.cells ∧ slots + ms ≤ R.slots) :
    va_Run p l e R s m args below meth c H locs cells slots mc ms (F0 m pc ls st0) rest (Qc (Value.ref b :: As).toArray) free := by
  subst hst
  exact va_runV (As := As) (rest := rest) S hM cw ⟨zBlindX, hrec, fun U hU hW => ⟨rfl, by rw [hU]; exact hP, hK.warm hW⟩⟩ rfl hn hl rfl (lv_room hW) hdg hf
theorem gx_runS (S : CallFix p m c cc nL s args lw_all own) (hK : KX D t Z s) (hP : P H)
    (hM : Met l y (ws_ y bytes maxL ret) rm (zPc As P (KX D t Z)) Qc mc ms free) (cw : CallB R s args own index y bytes maxL ret (ws_ y bytes maxL ret) rm mc ms n ∧ (Cond.static y).before args s = true)
    (hn : As.length = n) (hl : ls.size = nL) (hst : st0 = As.reverse ++ rest) (hW : (rest.map fun v => v.category).sum ≤ 8) (hdg : decode cc pc = .ok (.invokestatic index, 3)) (hf : cells + mc ≤ R.cells ∧ slots + ms ≤ R.slots) :
    va_Run p l e R s m args below meth c H locs cells slots mc ms (F0 m pc ls st0) rest (Qc As.toArray) free := by
  subst hst
  exact va_runS (As := As) (rest := rest) S hM cw ⟨zBlindX, fun U hU hW => ⟨rfl, by rw [hU]; exact hP, hK.warm hW⟩⟩ rfl hn hl rfl (lv_room hW) hdg hf
theorem xx_runV (S : CallFix p m c cc nL s args lw_all own) (hK : KX D t Z s) (hP : P H) (hrec : ∃ cellB : Cell, H[b]? = some cellB ∧ cellB.vm.isStatics = false ∧ s.vm.findClass C = some cellB.cls)
    (hM : MetX l y (ws_ y bytes maxL ret) rm (zPc (.ref b :: As) P (KX D t Z)) Qc mc ms free) (cw : CallW R s args own C index y bytes maxL ret (ws_ y bytes maxL ret) rm mc ms n)
    (hn : As.length = n) (hl : ls.size = nL) (hst : st0 = As.reverse ++ .ref b :: rest) (hW : (rest.map fun v => v.category).sum ≤ 8) (hdg : decode cc pc = .ok (.invokevirtual index, 3)) (hf : cells + mc ≤ R.cells ∧ slots + ms ≤ R.slots) :
    XRun p l e R s m args below meth c H locs cells slots mc ms (F0 m pc ls st0) rest (Qc (Value.ref b :: As).toArray) free := by
  subst hst
  exact xrunV (As := As) (rest := rest) S hM cw ⟨zBlindX, hrec, fun U hU hW => ⟨rfl, by rw [hU]; exact hP, hK.warm hW⟩⟩ rfl hn hl rfl (lv_room hW) hdg hf
theorem xx_runS (S : CallFix p m c cc nL s args lw_all own) (hK : KX D t Z s) (hP : P H)
    (hM : MetX l y (ws_ y bytes maxL ret) rm (zPc As P (KX D t Z)) Qc mc ms free) (cw : CallB R s args own index y bytes maxL ret (ws_ y bytes maxL ret) rm mc ms n ∧ (Cond.static y).before args s = true)
    (hn : As.length = n) (hl : ls.size = nL) (hst : st0 = As.reverse ++ rest) (hW : (rest.map fun v => v.category).sum ≤ 8) (hdg : decode cc pc = .ok (.invokestatic index, 3)) (hf : cells + mc ≤ R.cells ∧ slots + ms ≤ R.slots) :
    XRun p l e R s m args below meth c H locs cells slots mc ms (F0 m pc ls st0) rest (Qc As.toArray) free := by
  subst hst
  exact xrunS (As := As) (rest := rest) S hM cw ⟨zBlindX, fun U hU hW => ⟨rfl, by rw [hU]; exact hP, hK.warm hW⟩⟩ rfl hn hl rfl (lv_room hW) hdg hf
/-- a 'must' -/
theorem x_must {N : Int32} {a : Array Value} (hr : XRun p l e R s m args below meth c H locs cells slots mc ms (F0 m pc ls st0) rest (QM D N a) (fun _ => False)) (hS : va_S (fA A s) s.heap H locs) (hnh : c.exceptionTable.toList = []) (hlk : meth.locks = false) (hMC : cells + mc ≤ MC) (hMS : slots + ms ≤ MS)
    (kt : ¬ N = 0 → ∀ (x : Addr) (t' : State), RF D x N t'.heap → (∀ q, q < H.size → t'.heap[q]? = H[q]?) → va_F A s t' → Qd args s (.threw x) t')
    (kk : N = 0 → ∀ locs1 : List Loc, va_S (fA A s) s.heap H locs1 → W p l e R s m args below meth c H locs1 (cells + mc) (slots + ms) (MQX below Qd args s MC MS A) (F0 m (pc + 3) ls rest)) :
    W p l e R s m args below meth c H locs cells slots (MQX below Qd args s MC MS A) (F0 m pc ls st0) := by
  refine x_call (A1 := fun _ => False) hr hS (fun q h => h.elim) (fun st o tt h => h.2) (fun q h => h.elim) hnh hlk hMC hMS (fun v st₀ tt H1 locs1 h0 ht _ hq hS1 => ?_) (fun x st₀ tt t' h0 ht _ hq hF => ?_)
  · rcases hq.1 with ⟨h1, h2, h3⟩ | ⟨h1, x, h2, -⟩
    · cases h2
      have : H1 = H := by rw [← ht, h3, h0]
      subst this
      exact kk h1 locs1 hS1
    · cases h2
  · rcases hq.1 with ⟨h1, h2, h3⟩ | ⟨h1, x', h2, h3⟩
    · cases h2
    · cases h2
      exact kt h1 x t' (by rw [ht]; exact h3) (fun q hlt => by rw [ht, hq.2.2 q (by rw [h0]; exact hlt) (fun z => z), h0]) hF
theorem xm_M {N N' : Int32} {a : Array Value} (hr : XRun p l e R s m args below meth c H locs cells slots mc ms (F0 m pc ls st0) rest (QM D N a) (fun _ => False)) (hS : va_S (fA (fun _ => False) s) s.heap H locs) (hnh : c.exceptionTable.toList = []) (hlk : meth.locks = false) (hMC : cells + mc ≤ MC) (hMS : slots + ms ≤ MS) (hN : ¬ N = 0 → N' = N)
    (kk : N = 0 → ∀ locs1 : List Loc, va_S (fA (fun _ => False) s) s.heap H locs1 → W p l e R s m args below meth c H locs1 (cells + mc) (slots + ms) (MQX below (QM D N') args s MC MS (fun _ => False)) (F0 m (pc + 3) ls rest)) :
    W p l e R s m args below meth c H locs cells slots (MQX below (QM D N') args s MC MS (fun _ => False)) (F0 m pc ls st0) :=
  x_must hr hS hnh hlk hMC hMS (fun h x t' hR _ hF => ⟨Or.inr ⟨by rw [hN h]; exact h, x, rfl, by rw [hN h]; exact hR⟩, hF⟩) kk
theorem xm_X {N N' : Int32} {a : Array Value} {u : OT} {v : BT} (hr : XRun p l e R s m args below meth c H locs cells slots mc ms (F0 m pc ls st0) rest (QM D N a) (fun _ => False)) (hS : va_S (fA (cA cb) s) s.heap H locs) (hnh : c.exceptionTable.toList = []) (hlk : meth.locks = false) (hMC : cells + mc ≤ MC) (hMS : slots + ms ≤ MS) (hC : CW D t Z cb v H) (hN : ¬ N = 0 → N' = N)
    (kk : N = 0 → ∀ locs1 : List Loc, va_S (fA (cA cb) s) s.heap H locs1 → W p l e R s m args below meth c H locs1 (cells + mc) (slots + ms) (MQX below (QX D t Z cb N' u v) args s MC MS (cA cb)) (F0 m (pc + 3) ls rest)) :
    W p l e R s m args below meth c H locs cells slots (MQX below (QX D t Z cb N' u v) args s MC MS (cA cb)) (F0 m pc ls st0) :=
  x_must hr hS hnh hlk hMC hMS (fun h x t' hR hq hF => ⟨Or.inr ⟨by rw [hN h]; exact h, x, rfl, by rw [hN h]; exact hR, hC.kept hq⟩, hF⟩) kk
/-- a call whose answer, or whose throw, is the method's own -/
theorem xx_X {N N' : Int32} {a : Array Value} {u u' : OT} {v v' : BT} (hr : XRun p l e R s m args below meth c H locs cells slots mc ms (F0 m pc ls st0) rest (QX D t Z cb N u v a) (cA cb)) (hS : va_S (fA (cA cb) s) s.heap H locs) (hnh : c.exceptionTable.toList = []) (hlk : meth.locks = false) (hMC : cells + mc ≤ MC) (hMS : slots + ms ≤ MS) (hN : ¬ N = 0 → N' = N ∧ v' = v)
    (kk : N = 0 → ∀ (H1 : Heap) (locs1 : List Loc), CW D t Z cb u.2 H1 → va_S (fA (cA cb) s) s.heap H1 locs1 → W p l e R s m args below meth c H1 locs1 (cells + mc) (slots + ms) (MQX below (QX D t Z cb N' u' v') args s MC MS (cA cb)) (F0 m (pc + 3) ls (.int u.1 :: rest))) :
    W p l e R s m args below meth c H locs cells slots (MQX below (QX D t Z cb N' u' v') args s MC MS (cA cb)) (F0 m pc ls st0) := by
  refine x_call (A1 := cA cb) hr hS (fun q h => Or.inl h) (fun st o tt h => h.2) (fun q h => Or.inl h) hnh hlk hMC hMS (fun v st₀ tt H1 locs1 h0 ht _ hq hS1 => ?_) (fun x st₀ tt t' h0 ht _ hq hF => ?_)
  · rcases hq.1 with ⟨h1, h2, h3⟩ | ⟨h1, x, h2, -⟩
    · cases h2
      exact kk h1 H1 locs1 (by rw [← ht]; exact h3) hS1
    · cases h2
  · rcases hq.1 with ⟨h1, h2, h3⟩ | ⟨h1, x', h2, h3, h4⟩
    · cases h2
    · cases h2
      obtain ⟨e1, e2⟩ := hN h1
      exact ⟨Or.inr ⟨by rw [e1]; exact h1, x, rfl, by rw [e1, ht]; exact h3, by rw [e2, ht]; exact h4⟩, hF⟩
/-- ends -/
theorem x_iretX {N : Int32} {u : OT} {v : BT} {x : Int32} (hexec : p.tables.exec = Jvm.exec) (hb : c.code = cc) (hr : meth.sig.returnType = some .int) (hN : N = 0) (hu : u = (x, B)) (hC : CW D t Z cb B H) (hS : va_S (fA (cA cb) s) s.heap H locs) (hMC : cells ≤ MC) (hMS : slots ≤ MS) (hdg : decode cc pc = .ok (.ireturn, 1)) (hlk : meth.locks = false) :
    W p l e R s m args below meth c H locs cells slots (MQX below (QX D t Z cb N u v) args s MC MS (cA cb)) (F0 m pc ls [.int x]) :=
  W.fit hMC hMS (W.toX (W.iret hexec hb hr (fun tt ht _ => ⟨Or.inl ⟨hN, by rw [hu], by rw [hu, ht]; exact hC⟩, fA.F hS ht⟩) (fA.trim hS) hdg hlk))
theorem x_iretC {post : Int32 → BT → Prop} {x : Int32} (hexec : p.tables.exec = Jvm.exec) (hb : c.code = cc) (hr : meth.sig.returnType = some .int) (hp : post x B) (hC : CW D t Z cb B H) (hS : va_S (fA (cA cb) s) s.heap H locs) (hMC : cells ≤ MC) (hMS : slots ≤ MS) (hdg : decode cc pc = .ok (.ireturn, 1)) (hlk : meth.locks = false) :
    W p l e R s m args below meth c H locs cells slots (MQ below (va_Qi post (fun B' U => CW D t Z cb B' U.heap) (cA cb)) args s MC MS (cA cb)) (F0 m pc ls [.int x]) :=
  W.fit hMC hMS (W.iret hexec hb hr (fun tt ht _ => ⟨⟨x, B, rfl, hp, by show CW D t Z cb B tt.heap; rw [ht]; exact hC⟩, fA.F hS ht⟩) (fA.trim hS) hdg hlk)
end CX
