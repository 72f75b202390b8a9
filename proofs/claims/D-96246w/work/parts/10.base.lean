/-! OWN BASE: what every walk of this proof stands on: the classes, the words beside lw_all, contracts' starts and ends, joins and loops -/
set_option maxRecDepth 100000
def T_none : u_T := fun _ => ("", "", "", false)
/-- the classes whose objects are pictured, by number -/
abbrev vwCl : List vw_C := [(RX0, TX0, 10), (RX9, TX9, 17), (RX8, TX8, 20), (RX2, T_none, 0), (RX3, T_none, 0), (RX4, T_none, 0), (RX5, T_none, 0), (RX6, T_none, 0), (RX7, T_none, 0), (RX21, TX21, 2), (RX22, TX22, 2), (RX23, TX23, 2), (RX24, TX24, 2), (RX25, TX25, 2), (RX26, TX26, 2), (RX11, TX11, 7), (RX13, TX13, 7), (RX12, TX12, 3), (RX15, TX15, 3), (RX16, TX16, 4), (RX17, TX17, 4), (RX18, TX18, 3), (RX19, TX19, 3)]
/-- array classes: int, byte, char, Song, Kind, Told -/
abbrev tyL (t : Nat → ClassId) : List (ClassId × FieldType) := [(t 0, .int), (t 1, .byte), (t 2, .char), (t 3, .object "SongThatStays$Song"), (t 4, .object "SongThatStays$Kind"), (t 5, .object "SongThatStays$Told")]
/-- words of the tables that don't ride in lw_all, but last -/
def nwOk : Cond → Bool
  | .fieldLinkNest .. => true
  | .methodLinkNest .. => true
  | .castable .. => true
  | .declares .. => true
  | _ => false
theorem nw_on {w : Cond} (h : nwOk w = true) : w.onTables = true := by
  cases w <;> first | rfl | cases h
theorem nw_warm {w : Cond} (h : nwOk w = true) {s U : State} (hW : s.WarmedH U.vm) (hZ : va_Nw w s) : va_Nw w U := by
  cases w <;> first | exact va_Nw.warmF hW hZ | exact va_Nw.warmM hW hZ | exact va_Nw.warmC hW hZ | exact va_Nw.warmD hW hZ | cases h
def NW (U : State) : Prop := ∀ w ∈ lw_tbl, nwOk w = true → va_Nw w U
/-- what of classes and words every contract takes along -/
def KK (D : va_G) (t : Nat → ClassId) (U : State) : Prop := va_K D vwCl (tyL t) U ∧ NW U ∧ va_AO "SongThatStays$Song" U ∧ va_AO "SongThatStays$Kind" U ∧ va_AO "SongThatStays$Told" U
theorem KK.warm {D : va_G} {t : Nat → ClassId} {s U : State} (hW : s.WarmedH U.vm) (h : KK D t s) : KK D t U :=
  ⟨va_K.moved hW.alike h.1, fun w hw ho => nw_warm ho hW (h.2.1 w hw ho), va_AO.moved hW.alike h.2.2.1, va_AO.moved hW.alike h.2.2.2.1, va_AO.moved hW.alike h.2.2.2.2⟩
theorem KK.same {D : va_G} {t : Nat → ClassId} {s U : State} (hv : s.vm = U.vm) (h : KK D t s) : KK D t U := by
  have ha : s.vm.Alike U.vm := by rw [hv]; exact Vm.Alike.refl _
  exact ⟨va_K.moved ha h.1, fun w hw ho => va_Nw.same (nw_on ho) hv (h.2.1 w hw ho), va_AO.moved ha h.2.2.1, va_AO.moved ha h.2.2.2.1, va_AO.moved ha h.2.2.2.2⟩
/-- a contract's start: the arguments, the heap's picture, the classes -/
def zPc (av : List Value) (P : Heap → Prop) (Ks : State → Prop) : Array Value → State → Prop := fun v U => v = av.toArray ∧ P U.heap ∧ Ks U
theorem zBlind {av : List Value} {P : Heap → Prop} {D : va_G} {t : Nat → ClassId} : FrameBlind (zPc av P (KK D t)) := by
  intro a U g mk h
  obtain ⟨h1, h2, h3⟩ := h
  exact ⟨h1, h2, KK.same (s := U) (U := U.calling g mk a) rfl h3⟩
/-- what holds all through a walk of one method -/
def zFix (p : Program) (s : State) (m : MethodId) (meth : Method) (c : Code) (cc : ByteArray) (nL : Nat) (ret : Option FieldType) (own : String) (args : Array Value) : Prop :=
  p.tables.exec = Jvm.exec ∧ c.code = cc ∧ c.maxLocals = nL ∧ s.vm.findClass own = some m.cls ∧ (∀ w ∈ lw_all, w.before args s = true) ∧ meth.sig.returnType = ret ∧ meth.locks = false
theorem zOf {l : Launch} {y : MethodName} {cc : ByteArray} {maxL : Nat} {ret : Option FieldType} {rm : Room} {av : List Value} {P : Heap → Prop} {Ks : State → Prop} {Qc : Array Value → State → Outcome → State → Prop} {mc ms : Nat} {free : Addr → Prop}
    (hy : plainName y.cls = true) (hn : (lg_sl av).length ≤ maxL)
    (body : ∀ (p : Program) (e : Env) (s : State) (m : MethodId) (below : List Frame) (meth : Method) (c : Code) (ls : Array Slot), zFix p s m meth c cc maxL ret y.cls av.toArray → P s.heap → Ks s → lv_has ls maxL (lv_args 0 av) → meth.name = y.name →
      W p l e rm s m av.toArray below meth c s.heap [] 0 0 (MQ below Qc av.toArray s mc ms free) (F0 m 0 ls [])) : Met l y (ws_ y cc maxL ret) rm (zPc av P Ks) Qc mc ms free := by
  refine Met.ofW (cc := cc) (maxL := maxL) (ret := ret) hy rfl ?_
  intro p e s m args below meth c s₁ B hml hv
  obtain ⟨rfl, hP, hK⟩ := hv
  have hts := atoms_spec (ws := ws_ y cc maxL ret) B.pre
  have hts : ∀ w ∈ lw_all, w.before _ s = true := fun w h => hts w (List.mem_cons_of_mem _ h)
  have hown : s.vm.findClass y.cls = some m.cls := findClass_of_methodNamed B.named
  have hl := lv_entry av (n := maxL) hn
  rw [lg_entry_eq]
  exact body p e s m below meth c _ ⟨B.exec, B.bytes, hml, hown, hts, B.returns, B.notSynchronized⟩ hP hK hl (name_of_methodNamed B.named B.method).1
section ZW
variable {p : Program} {l : Launch} {e : Env} {R : Room} {s : State} {m : MethodId} {args : Array Value} {below : List Frame} {meth : Method} {c : Code} {H : Heap} {locs : List Loc} {cells slots : Nat} {Q : State → Prop} {g0 : JFrame}
/-- roads that meet: what is behind the meeting point is walked once -/
theorem W.join {α : Type} (g : α → JFrame) (P : α → Prop) (J : ∀ v, P v → W p l e R s m args below meth c H locs cells slots Q (g v)) (K : (∀ v, P v → W p l e R s m args below meth c H locs cells slots Q (g v)) → W p l e R s m args below meth c H locs cells slots Q g0) : W p l e R s m args below meth c H locs cells slots Q g0 := K J
/-- a loop that leaves the heap as it is -/
theorem W.loopR {σ : Type} {pc : Nat} {st : List Value} (I : σ → Array Slot → Prop) (μ : σ → Nat)
    (step : ∀ x ls, I x ls → (∀ y ls', μ y < μ x → I y ls' → W p l e R s m args below meth c H locs cells slots Q (F0 m pc ls' st)) → W p l e R s m args below meth c H locs cells slots Q (F0 m pc ls st))
    (x : σ) {ls : Array Slot} (h : I x ls) : W p l e R s m args below meth c H locs cells slots Q (F0 m pc ls st) := by
  have key : ∀ (n : Nat) (x : σ) (ls : Array Slot), μ x < n → I x ls → W p l e R s m args below meth c H locs cells slots Q (F0 m pc ls st) := by
    intro n
    induction n with
    | zero => intro x ls h0; omega
    | succ n ih => intro x ls h0 h1; exact step x ls h1 (fun y ls' h2 h3 => ih y ls' (by omega) h3)
  exact key (μ x + 1) x ls (by omega) h
/-- a loop that may change the heap -/
theorem W.loop {σ : Type} {pc : Nat} {st : List Value} (I : σ → Heap → List Loc → Array Slot → Prop) (μ : σ → Nat)
    (step : ∀ x H locs ls, I x H locs ls → (∀ y H' locs' ls', μ y < μ x → I y H' locs' ls' → W p l e R s m args below meth c H' locs' cells slots Q (F0 m pc ls' st)) → W p l e R s m args below meth c H locs cells slots Q (F0 m pc ls st))
    (x : σ) {H : Heap} {locs : List Loc} {ls : Array Slot} (h : I x H locs ls) : W p l e R s m args below meth c H locs cells slots Q (F0 m pc ls st) := by
  have key : ∀ (n : Nat) (x : σ) (H : Heap) (locs : List Loc) (ls : Array Slot), μ x < n → I x H locs ls → W p l e R s m args below meth c H locs cells slots Q (F0 m pc ls st) := by
    intro n
    induction n with
    | zero => intro x H locs ls h0; omega
    | succ n ih => intro x H locs ls h0 h1; exact step x H locs ls h1 (fun y H' locs' ls' h2 h3 => ih y H' locs' ls' (by omega) h3)
  exact key (μ x + 1) x H locs ls (by omega) h
/-- a truth as an int -/
def bI (b : Bool) : Int32 := if b = true then 1 else 0
theorem bI_t : bI true = 1 := rfl
theorem bI_f : bI false = 0 := rfl
theorem bI_eq0 {b : Bool} : bI b = 0 ↔ b = false := by cases b <;> decide
theorem bI_ne0 {b : Bool} : ¬ bI b = 0 ↔ b = true := by cases b <;> decide
variable {cc : ByteArray} {pc : Nat} {ls : Array Slot} {rest : List Value}
theorem z_ifeq (hexec : p.tables.exec = Jvm.exec) (hb : c.code = cc) {b : Bool} {off : Int} {tgt : Nat} (hdg : decode cc pc = .ok (.ifCond .eq off, 3)) (ht : (pc : Int) + off = (tgt : Int))
    (kt : b = false → W p l e R s m args below meth c H locs cells slots Q (F0 m tgt ls rest)) (kf : b = true → W p l e R s m args below meth c H locs cells slots Q (F0 m (pc + 3) ls rest)) : W p l e R s m args below meth c H locs cells slots Q (F0 m pc ls (.int (bI b) :: rest)) :=
  lv_if_eq hexec hb hdg ht (fun h => kt (bI_eq0.mp h)) (fun h => kf (bI_ne0.mp h))
theorem z_ifne (hexec : p.tables.exec = Jvm.exec) (hb : c.code = cc) {b : Bool} {off : Int} {tgt : Nat} (hdg : decode cc pc = .ok (.ifCond .ne off, 3)) (ht : (pc : Int) + off = (tgt : Int))
    (kt : b = true → W p l e R s m args below meth c H locs cells slots Q (F0 m tgt ls rest)) (kf : b = false → W p l e R s m args below meth c H locs cells slots Q (F0 m (pc + 3) ls rest)) : W p l e R s m args below meth c H locs cells slots Q (F0 m pc ls (.int (bI b) :: rest)) :=
  lv_if_ne hexec hb hdg ht (fun h => kt (bI_ne0.mp h)) (fun h => kf (bI_eq0.mp h))
variable {D : va_G} {cl : List vw_C} {A : Nat → Prop} {a : Nat} {tys : List (ClassId × FieldType)} {ws : va_W} {H0 : Heap}
theorem z_iald (hexec : p.tables.exec = Jvm.exec) (hb : c.code = cc) (hK : va_K D cl tys s) (hP : va_P D cl ws H) (q0 t0 : Nat) {cA : ClassId} {n : Nat} {f : Nat → Int32} (ha : ws[q0]? = some (a, .inl (cA, n, .inl f))) (ht : tys[t0]? = some (cA, .int)) {i : Int32} {k : Nat} (hi : i = nI k) (hk : k < n) (hn : n < 2 ^ 31) (hdg : decode cc pc = .ok (.iaload, 1))
    (kk : W p l e R s m args below meth c H locs cells slots Q (F0 m (pc + 1) ls (.int (f k) :: rest))) : W p l e R s m args below meth c H locs cells slots Q (F0 m pc ls (.int i :: .ref a :: rest)) := by
  subst hi
  refine va_iald hexec hb hK hP q0 t0 ha ht (vp_in_nI hk hn) hdg ?_
  rw [nI_clamp (Nat.lt_trans hk hn)]
  exact kk
theorem z_iast (hexec : p.tables.exec = Jvm.exec) (hb : c.code = cc) (hK : va_K D cl tys s) (hP : va_P D cl ws H) (hD : va_D A ws) (hS : va_S A H0 H locs) (q0 t0 : Nat) {cA : ClassId} {n : Nat} {f : Nat → Int32} (ha : ws[q0]? = some (a, .inl (cA, n, .inl f))) (ht : tys[t0]? = some (cA, .int)) {i x : Int32} {k : Nat} (hi : i = nI k) (hk : k < n) (hn : n < 2 ^ 31) (hdg : decode cc pc = .ok (.iastore, 1))
    (kk : ∀ (H1 : Heap) (locs1 : List Loc), va_P D cl (ws.set q0 (a, .inl (cA, n, .inl (upd f k x)))) H1 → va_S A H0 H1 locs1 → W p l e R s m args below meth c H1 locs1 cells slots Q (F0 m (pc + 1) ls rest)) : W p l e R s m args below meth c H locs cells slots Q (F0 m pc ls (.int x :: .int i :: .ref a :: rest)) := by
  subst hi
  refine va_iast hexec hb hK hP hD hS q0 t0 ha ht (vp_in_nI hk hn) hdg (fun H1 locs1 hP1 _ hS1 => ?_)
  rw [nI_clamp (Nat.lt_trans hk hn)] at hP1
  exact kk H1 locs1 hP1 hS1
end ZW
/-- one place of a table of columns is changed -/
def up2 (B : Nat → Nat → Int32) (c j : Nat) (v : Int32) : Nat → Nat → Int32 := fun c' => if c' = c then upd (B c) j v else B c'
theorem up2_same (B : Nat → Nat → Int32) (c j : Nat) (v : Int32) : up2 B c j v c = upd (B c) j v := by simp [up2]
theorem up2_ne (B : Nat → Nat → Int32) {c c' : Nat} (j : Nat) (v : Int32) (h : c' ≠ c) : up2 B c j v c' = B c' := by simp [up2, h]
