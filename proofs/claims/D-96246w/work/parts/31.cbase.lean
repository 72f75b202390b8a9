/-! THE OTHER CLASS (1): an object by itself; calls through an abstract class, calls of the class above -/
set_option maxRecDepth 100000
theorem lw_U {own : String} {idx : Nat} {C owner : String} {x y : MethodName} {b : ByteArray} {L : Nat} {r : Option FieldType} (h1 : Cond.methodLink own idx x ∈ lw_all) (h2 : Cond.sameMethod x.cls owner x.name x.desc ∈ lw_all) (h3 : Cond.selects C x y ∈ lw_all) (h4 : Cond.instanceMethod y ∈ lw_all) (h5 : Cond.initialized y.cls ∈ lw_all) (h6 : Cond.code y b L r ∈ lw_all) : GoodIn lw_all (va_wsU own idx C owner x y (ws_ y b L r)) := by
  refine lw_app ?_ (lw_meth h6)
  intro w hw
  simp only [List.mem_cons, List.not_mem_nil, or_false] at hw
  rcases hw with e | e | e | e | e
  · rw [e]; exact h1
  · rw [e]; exact h2
  · rw [e]; exact h3
  · rw [e]; exact h4
  · rw [e]; exact h5
theorem lw_SU {own : String} {idx : Nat} {y : MethodName} {b : ByteArray} {L : Nat} {r : Option FieldType} (h1 : Cond.methodLink own idx y ∈ lw_all) (h2 : Cond.sameMethod y.cls y.cls y.name y.desc ∈ lw_all) (h3 : Cond.superclass own y.cls ∈ lw_all) (h4 : Cond.instanceMethod y ∈ lw_all) (h5 : Cond.initialized y.cls ∈ lw_all) (h6 : Cond.code y b L r ∈ lw_all) : GoodIn lw_all (va_wsSU own idx y (ws_ y b L r)) := by
  refine lw_app ?_ (lw_meth h6)
  intro w hw
  simp only [List.mem_cons, List.not_mem_nil, or_false] at hw
  rcases hw with e | e | e | e | e
  · rw [e]; exact h1
  · rw [e]; exact h2
  · rw [e]; exact h3
  · rw [e]; exact h4
  · rw [e]; exact h5
/-- an object by itself -/
def OB (D : va_G) (a ci : Nat) (fs : List Value) (H : Heap) : Prop := va_P D vwCl [(a, .inr (ci, fs))] H
theorem OB.of {D : va_G} {a ci : Nat} {fs : List Value} {H : Heap} (h : va_at D vwCl (a, .inr (ci, fs)) H) : OB D a ci fs H := by
  intro k q hk
  cases k with
  | zero => cases hk; exact h
  | succ k => cases hk
theorem OB.at {D : va_G} {a ci : Nat} {fs : List Value} {H : Heap} (h : OB D a ci fs H) : va_at D vwCl (a, .inr (ci, fs)) H := h 0 _ rfl
theorem OB.kept {D : va_G} {a ci : Nat} {fs : List Value} {H H1 : Heap} (h : OB D a ci fs H) (hq : H1[a]? = H[a]?) : OB D a ci fs H1 := OB.of (h.at.kept hq)
theorem OB.lt {D : va_G} {a ci : Nat} {fs : List Value} {H : Heap} (h : OB D a ci fs H) : a < H.size := h.at.lt
section CZ
variable {p : Program} {l : Launch} {e : Env} {R : Room} {s : State} {m : MethodId} {args : Array Value} {below : List Frame} {meth : Method} {c : Code} {H : Heap} {locs : List Loc} {cells slots : Nat} {Q : State → Prop} {cc : ByteArray} {pc : Nat} {ls : Array Slot} {rest : List Value} {D : va_G} {t : Nat → ClassId} {a ci : Nat} {fs : List Value}
theorem OB.recv (hKK : KK D t s) (h : OB D a ci fs H) {q : vw_C} (hc : vwCl[ci]? = some q) : ∃ cellB : Cell, H[a]? = some cellB ∧ cellB.vm.isStatics = false ∧ s.vm.findClass q.1 = some cellB.cls :=
  va_recv hKK.1 h (ci := ci) (q0 := 0) hc rfl
variable {x y : MethodName} {bytes : ByteArray} {maxL nL n index : Nat} {rm : Room} {As st0 : List Value} {ret : Option FieldType} {own C owner : String} {T : u_T} {N : Nat}
/-- a call of the class above's method, that reads alone -/
theorem c_callU {r : Int32} {P : Heap → Prop} (S : CallFix p m c cc nL s args lw_all own) (hKK : KK D t s) (hP : P H) (hO : OB D a ci fs H) (hc : vwCl[ci]? = some (C, T, N))
    (hM : Met l y (ws_ y bytes maxL ret) rm (zPc (.ref a :: As) P (KK D t)) (QcRead r) 0 0 (fun _ => False)) (cw : va_CS R s args own index y bytes maxL ret (ws_ y bytes maxL ret) rm 0 0 n)
    (hn : As.length = n) (hl : ls.size = nL) (hst : st0 = As.reverse ++ .ref a :: rest) (hW : (rest.map fun v => v.category).sum ≤ 8) (hdg : decode cc pc = .ok (.invokespecial index, 3)) (hf : cells ≤ R.cells ∧ slots ≤ R.slots)
    (kk : W p l e R s m args below meth c H locs cells slots Q (F0 m (pc + 3) ls (.int r :: rest))) : W p l e R s m args below meth c H locs cells slots Q (F0 m pc ls st0) := by
  subst hst
  exact W.callR (va_Run.run (va_runSU (As := As) (rest := rest) (hKK.1.1 ci _ hc).2 S hM cw ⟨zBlind, hO.recv hKK hc, fun U hU hW => ⟨rfl, by rw [hU]; exact hP, hKK.warm hW⟩⟩ rfl hn hl rfl (lv_room hW) hdg hf)) kk
/-- a call through an abstract class, of a method that reads alone -/
theorem c_callA {r : Int32} {P : Heap → Prop} (S : CallFix p m c cc nL s args lw_all own) (hKK : KK D t s) (hP : P H) (hO : OB D a ci fs H) (hc : vwCl[ci]? = some (C, T, N))
    (hM : Met l y (ws_ y bytes maxL ret) rm (zPc (.ref a :: As) P (KK D t)) (QcRead r) 0 0 (fun _ => False)) (cw : va_CU R s args own C owner index x y bytes maxL ret (ws_ y bytes maxL ret) rm 0 0 n)
    (hn : As.length = n) (hl : ls.size = nL) (hst : st0 = As.reverse ++ .ref a :: rest) (hW : (rest.map fun v => v.category).sum ≤ 8) (hdg : decode cc pc = .ok (.invokevirtual index, 3)) (hf : cells ≤ R.cells ∧ slots ≤ R.slots)
    (kk : W p l e R s m args below meth c H locs cells slots Q (F0 m (pc + 3) ls (.int r :: rest))) : W p l e R s m args below meth c H locs cells slots Q (F0 m pc ls st0) := by
  subst hst
  exact W.callR (va_Run.run (va_runU (As := As) (rest := rest) S hM cw ⟨zBlind, hO.recv hKK hc, fun U hU hW => ⟨rfl, by rw [hU]; exact hP, hKK.warm hW⟩⟩ rfl hn hl rfl (lv_room hW) hdg hf)) kk
/-- a field of an object by itself -/
theorem c_get {ref : String} (hexec : p.tables.exec = Jvm.exec) (hb : c.code = cc) (hts : ∀ w ∈ lw_all, w.before args s = true) (hin : ∀ w ∈ u_ws C T N, w ∈ lw_all) (hown : s.vm.findClass own = some m.cls) (hKK : KK D t s) (hO : OB D a ci fs H) (hc : vwCl[ci]? = some (C, T, N)) (k : Nat) (hk : k < N) (hlink : (Cond.fieldLink own index ref (T k).2.1 (T k).2.2.1) ∈ lw_all) (hsame : (T k).1 = ref ∨ Cond.sameField ref (T k).1 (T k).2.1 (T k).2.2.1 ∈ lw_all) {v : Value} (hv : fs[k]? = some v) (hdg : decode cc pc = .ok (.getfield index, 3))
    (kk : W p l e R s m args below meth c H locs cells slots Q (F0 m (pc + 3) ls (v :: rest))) : W p l e R s m args below meth c H locs cells slots Q (F0 m pc ls (.ref a :: rest)) :=
  va_get (D := D) (ci := ci) (C := C) (T := T) (N := N) hexec hb hts hin hown hKK.1 hO 0 rfl hc k hk (hts _ hlink) (fun z h => by rcases hsame with e | e; rw [e] at h; exact h; exact u_same (hts _ e) z h) hv hdg kk
end CZ
