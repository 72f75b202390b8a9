/-! AN EXCEPTION IS CAUGHT where the table has one entry, its class's pool entry resolved or not -/
set_option maxRecDepth 100000
section CC
variable {p : Program} {l : Launch} {e : Env} {R : Room} {s : State} {m : MethodId} {args : Array Value} {below : List Frame} {meth : Method} {c : Code} {H : Heap} {locs : List Loc} {cells slots : Nat} {Q : State → Prop}
theorem a_catch {T : State} (X : Stand p l e R s m args below meth c T locs cells slots) {x : Addr} {g : JFrame} (hg : g.method = m) {en : ClassFile.ExceptionTableEntry} (htab : c.exceptionTable.toList = [en]) (hlo : en.startPc ≤ g.pc) (hhi : g.pc < en.endPc) (h0 : en.catchType ≠ 0)
    {own nm : String} (hown : s.vm.findClass own = some m.cls) (hlink : (Cond.classLink own en.catchType nm).before args s = true) {cT : ClassId} (hcT : s.vm.findClass nm = some cT) {cell : Cell} (hcell : T.heap[x]? = some cell) (hobj : ∀ k, cell.vm ≠ .statics k) (hfit : s.vm.assignable cell.cls cT = true) :
    ∃ T' : State, T'.heap = T.heap ∧ Stand p l e R s m args below meth c T' locs cells slots ∧ ∀ tg, Steps p.tables e below (T'.setTop { g with pc := en.handlerPc, stack := [.ref x] }) tg → Steps p.tables e below ((T.setTop g).pushFrame (.throwing x)) tg := by
  subst hg
  have hpl : e.platform.magicAccessors = ({} : Platform).magicAccessors := by rw [X.admits.platform]
  obtain ⟨cL, hcL, hlk⟩ := Cond.classLink_spec hown hlink e.platform hpl
  have ecL : cT = cL := Option.some.inj (hcT.symm.trans hcL)
  subst ecL
  have hal := X.warmed.alike
  have hlT : T.vm.ClassLinks e.platform g.method.cls en.catchType cT := X.warmed.classLinks hlk
  obtain ⟨dk, _, _, kt, hdk, _, _, _, _, hkt, _, hopen⟩ := hlk.here
  have hW : s.WarmedH (T.vm.noted g.method.cls en.catchType (.cls cT)) := X.warmed.noted hdk hopen (State.rightAt_cls hlk)
  have hn : T.vm.Alike (T.vm.noted g.method.cls en.catchType (.cls cT)) := (Vm.Alike.refl T.vm).noted _ _ _
  obtain ⟨k1, hk1, -⟩ := hal.2.2 _ _ hkt
  have hfT : T.vm.assignable cell.cls cT = true := by rw [hal.assignable]; exact hfit
  obtain ⟨k2, hk2⟩ := Vm.classAt_of_assignable hfT ⟨k1, hk1⟩
  obtain ⟨k3, hk3, -⟩ := hn.2.2 _ _ hk1
  obtain ⟨k4, hk4, -⟩ := hn.2.2 _ _ hk2
  have hfN : (T.vm.noted g.method.cls en.catchType (.cls cT)).assignable cell.cls cT = true := by rw [hn.assignable]; exact hfT
  have hcov : (decide (en.startPc ≤ g.pc) && decide (g.pc < en.endPc)) = true := by rw [decide_eq_true hlo, decide_eq_true hhi]; rfl
  have hsearch : ∀ (Q' : Handler → Pre) (E : CtlPost) (d : Bool) (acts : List Action), wp (findHandler g x) Q' E e d acts ((T.setTop g).pushFrame (.throwing x)) ↔ Q' (.found en.handlerPc) d acts (((T.setTop g).pushFrame (.throwing x)).setVm (T.vm.noted g.method.cls en.catchType (.cls cT))) := by
    intro Q' E d acts
    have key : ∀ st : State, st.vm = T.vm → st.heap = T.heap → (wp (findHandler g x) Q' E e d acts st ↔ Q' (.found en.handlerPc) d acts (st.setVm (T.vm.noted g.method.cls en.catchType (.cls cT)))) := by
      intro st hv hh
      rw [← hv] at hlT hk3 hk4 hfN ⊢
      have hm' : st.vm.method? g.method = some meth := by rw [hv]; exact X.method'
      have hc' : st.heap[x]? = some cell := by rw [hh]; exact hcell
      obtain ⟨hr1, hr2⟩ := (resolveClass_links e.toSetting hlT).op (op := VmOp.resolveClass g.method.cls en.catchType) rfl
      rw [W.findHandler_eq hm' X.code, htab]
      simp [findHandler.go, hcov, h0, hr1, hr2, hc', hobj, hk3, hk4, hfN, VmOp.dirties, VmOp.acts]
    exact key _ rfl rfl
  refine ⟨T.setVm (T.vm.noted g.method.cls en.catchType (.cls cT)), rfl, X.noted hW, fun tg htg => ?_⟩
  obtain ⟨hgo, hw⟩ := X.here.throwing x
  refine Steps.head hgo hw ?_
  rw [stepThread_throwing (frames_entered X.here.top _)]
  have hstep : (stepThrowing e ((T.setTop g).pushFrame (.throwing x)) x (.java g :: T.frames.tail)).1 = (((T.setTop g).pushFrame (.throwing x)).setVm (T.vm.noted g.method.cls en.catchType (.cls cT))).setFrames (.java { g with pc := en.handlerPc, stack := [.ref x] } :: T.frames.tail) := by
    simp only [stepThrowing, searchFrame, vmDo]
    generalize hr : Sem.go _ e false [] ((T.setTop g).pushFrame (.throwing x)) = res
    obtain ⟨as, rfl, ha⟩ := Sem.eq_ok_of hr (a := Handler.found en.handlerPc) (s' := ((T.setTop g).pushFrame (.throwing x)).setVm (T.vm.noted g.method.cls en.catchType (.cls cT))) (acts' := []) (by simp [hsearch _ _ _ _])
    rfl
  rw [hstep]
  obtain ⟨g₀, hg0⟩ := Option.isSome_iff_exists.mp X.here.top
  obtain ⟨r, hr⟩ := State.topJava?_eq_some.mp hg0
  have hr2 : (T.setVm (T.vm.noted g.method.cls en.catchType (.cls cT))).frames = .java g₀ :: r := hr
  rw [State.setTop_of_frames _ hr2] at htg
  have e1 : ((((T.setTop g).pushFrame (.throwing x)).setVm (T.vm.noted g.method.cls en.catchType (.cls cT))).setFrames (.java { g with pc := en.handlerPc, stack := [.ref x] } :: T.frames.tail)) = (T.setVm (T.vm.noted g.method.cls en.catchType (.cls cT))).setFrames (.java { g with pc := en.handlerPc, stack := [.ref x] } :: r) := by
    rw [State.pushFrame, State.setTop_of_frames _ hr, State.setFrames_setFrames, hr, List.tail_cons]
    exact State.setFrames_setFrames (T.setVm (T.vm.noted g.method.cls en.catchType (.cls cT))) _ _
  rw [e1]
  exact htg
end CC
