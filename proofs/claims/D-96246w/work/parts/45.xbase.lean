/-! METHODS THAT MAY THROW: contracts with either outcome, their calls, their ends -/
set_option maxRecDepth 100000
def EndX (st t : State) (L : List Loc) (mc ms : Nat) : Prop := st.WarmedH t.vm ∧ st.sameButNew ({ t with vm := st.vm } : State) L mc ms
def RT2 (o : Outcome) : Prop := (∃ v, o = .returned v) ∨ ∃ x, o = .threw x
def MetX (l : Launch) (y : MethodName) (ws : List Cond) (rm : Room) (Pc : Array Value → State → Prop) (Qc : Array Value → State → Outcome → State → Prop) (mc ms : Nat) (free : Addr → Prop) : Prop :=
  MetFree l y (headSpec ws rm) Pc (fun _ _ _ _ _ => True) (fun a st o t => Qc a st o t ∧ RT2 o ∧ ∃ L, EndX st t L mc ms ∧ ∀ q ∈ L, free q.base)
def MQX (below : List Frame) (Qc : Array Value → State → Outcome → State → Prop) (a : Array Value) (s : State) (mc ms : Nat) (free : Addr → Prop) : State → Prop := fun t =>
  ∃ o, t.status = .running ∧ Ended t below o ∧ Qc a s o t ∧ RT2 o ∧ ∃ L, EndX s t L mc ms ∧ ∀ q ∈ L, free q.base
def BackX (l : Launch) (R : Room) (p : Program) (e : Env) (below : List Frame) (s : State) (sargs : Array Value) (y : MethodName) (W : Nat) (Pre : Pt → Array Value → Prop) (Post : Pt → Array Value → Outcome → Pt → Prop) : Prop :=
  ∀ (m : MethodId) (meth : Method) (c : Code) (A : Pt) (g : JFrame) (ig : Instr) (mk : MethodId) (a : Array Value),
    Stand p l e R s m sargs below meth c A.U A.locs A.cells A.slots → g.method = m → g.locals.size = c.maxLocals → decode c.code g.pc = .ok (ig, 3) →
    2 * g.monitorRoom + (g.stack.map fun v => v.category).sum ≤ W → A.U.methodNamed? y = some mk → Pre A a →
    ∃ (o : Outcome) (B : Pt), Stand p l e R s m sargs below meth c B.U B.locs B.cells B.slots ∧ Post A a o B ∧
      ((∃ v, o = .returned v ∧ Steps p.tables e below (doInvoke e (A.U.setTop g) [] mk a).1 (B.U.setTop { g with pc := g.pc + 3, stack := v.toList ++ g.stack })) ∨
        ∃ x, o = .threw x ∧ Steps p.tables e below (doInvoke e (A.U.setTop g) [] mk a).1 ((B.U.setTop g).pushFrame (.throwing x)))
def PostX (Qc : Array Value → State → Outcome → State → Prop) (mc ms : Nat) (free : Addr → Prop) : Pt → Array Value → Outcome → Pt → Prop := fun A a o B =>
  ∃ (g : JFrame) (mk : MethodId) (t : State) (L : List Loc), B.U.heap = t.heap ∧ B.U.vm = t.vm ∧ Qc a (A.U.calling g mk a) o t ∧ B.locs = A.locs ++ L ∧ (∀ q ∈ L, free q.base) ∧ B.cells = A.cells + mc ∧ B.slots = A.slots + ms
theorem backX_of {l : Launch} {R : Room} {p : Program} {e : Env} {below : List Frame} {s : State} {sargs : Array Value} {y : MethodName} {W : Nat} {ws : List Cond} {rm : Room} {Pc : Array Value → State → Prop} {Qc : Array Value → State → Outcome → State → Prop} {mc ms : Nat} {free : Addr → Prop} {bytes : ByteArray} {maxL : Nat} {ret : Option FieldType}
    (hM : MetX l y ws rm Pc Qc mc ms free) (hblind : FrameBlind Pc) (hrc : rm.cells = mc) (hrs : rm.slots = ms)
    (hframes : rm.frames + 1 ≤ R.frames) (hlocals : W + (maxL + 11) + rm.locals ≤ R.locals)
    (hws : ∀ w ∈ ws, ∀ a' U, s.WarmedH U.vm → w.before a' U = true) (hcode : Cond.code y bytes maxL ret ∈ ws) (hinit : ∀ a' U, s.WarmedH U.vm → (Cond.initialized y.cls).before a' U = true) :
    BackX l R p e below s sargs y W (PreOf R mc ms Pc) (PostX Qc mc ms free) := by
  intro m meth c A g ig mk a X hg hsize hdg hW hn hp
  have h1 : (headSpec ws rm).pre.before a A.U = true := atoms_intro fun w hw => hws w hw _ _ X.warmed
  have h2 : (Cond.code y bytes maxL ret).before a A.U = true := hws _ hcode _ _ X.warmed
  have h3 : (Cond.initialized y.cls).before a A.U = true := hinit _ _ X.warmed
  have h4 : A.cells + (headSpec ws rm).room.cells ≤ R.cells := by rw [show (headSpec ws rm).room.cells = mc from hrc]; exact hp.1
  have h5 : A.slots + (headSpec ws rm).room.slots ≤ R.slots := by rw [show (headSpec ws rm).room.slots = ms from hrs]; exact hp.2.1
  have hpc := hp.2.2
  obtain ⟨U, Ls, c0, s0⟩ := A
  dsimp only [Pt.U, Pt.locs, Pt.cells, Pt.slots] at h1 h2 h3 h4 h5 X hn hpc ⊢
  obtain ⟨methY, cY, hmY, hcY, -, hlY, -, -, -, -⟩ := Cond.code_spec hn h2
  obtain ⟨kY, hkY, -⟩ := className_of_methodNamed hn
  have hinitY : kY.init = .initialized := Cond.initialized_spec (findClass_of_methodNamed hn) hkY h3
  have h : At U g.method c below := by rw [hg]; exact X.here
  have happ : (headSpec ws rm).appliesLoose y e.platform (U.calling g mk a) = true :=
    Spec.appliesLoose_calling (g := g) h hdg hn hkY hinitY
      (X.room_calling (g := g) (R' := (headSpec ws rm).room) hsize hmY hcY hframes (by rw [hlY]; show _ + rm.locals ≤ _; omega) h4 h5) h1
  obtain ⟨mid, hmid⟩ := h.above
  have hfr : (U.setTop g).frames = (.java g :: mid) ++ below := by rw [State.frames_setTop' g h.top, hmid]; rfl
  obtain ⟨o, s₂, hsteps, -, hend, hq⟩ := Steps.callFree hM p X.admits X.cas X.clock (acts := []) hfr happ (hblind _ _ _ _ hpc) trivial
  rw [State.frames_setTop' g h.top] at hend
  obtain ⟨hqt, ho, L, ⟨hWm, hsame⟩, hL⟩ := hq
  rcases ho with ⟨v, rfl⟩ | ⟨x, rfl⟩
  · have hsame : (U.calling g mk a).sameButNew ({ s₂ with vm := (U.calling g mk a).vm } : State) L mc ms := hsame
    obtain ⟨e2, q2, q3, q4, q5, q6⟩ := id hsame
    have e3 : s₂ = ({ (U.calling g mk a).setFrames s₂.frames with heap := s₂.heap, slotsUsed := s₂.slotsUsed } : State).setVm s₂.vm := by
      have : s₂ = ({ s₂ with vm := (U.calling g mk a).vm } : State).setVm s₂.vm := rfl
      rw [e2] at this
      exact this
    obtain ⟨c₂, i₂, len₂, hc₂, hd₂, hf₂⟩ := hend
    have hW' : U.WarmedH s₂.vm := hWm
    have hcc : c₂ = c := by
      have h1 : s₂.code? g.method = U.code? g.method := by
        rw [State.code?_eq, State.code?_eq, hW'.alike.method?]
      exact Option.some.inj (hc₂.symm.trans (h1.trans h.code))
    subst hcc
    have hlen : len₂ = 3 := by rw [hdg] at hd₂; cases hd₂; rfl
    subst hlen
    obtain ⟨g₀, hg0⟩ := Option.isSome_iff_exists.mp h.top
    obtain ⟨r, hr⟩ := State.topJava?_eq_some.mp hg0
    have hs₂ : s₂ = (({ U with heap := s₂.heap, slotsUsed := s₂.slotsUsed } : State).setVm s₂.vm).setTop { g with pc := g.pc + 3, stack := v.toList ++ g.stack } := by
      have hr' : (({ U with heap := s₂.heap, slotsUsed := s₂.slotsUsed } : State).setVm s₂.vm).frames = .java g₀ :: r := hr
      refine e3.trans ?_
      rw [hf₂, State.calling_eq h.top, State.setFrames_setFrames, State.setTop_of_frames _ hr', hr]
      rfl
    have hsame2 : U.sameButNew ({ U with heap := s₂.heap, slotsUsed := s₂.slotsUsed } : State) L mc ms := by
      refine ⟨?_, q2, q3, q4, q5, q6⟩
      obtain ⟨t, ht, -⟩ := State.frames_cons hr
      show ({ U with heap := s₂.heap, slotsUsed := s₂.slotsUsed } : State) = { U.setFrames U.frames with heap := s₂.heap, slotsUsed := s₂.slotsUsed }
      rw [State.setFrames_self ht]
    subst hg
    refine ⟨.returned v, ⟨(({ U with heap := s₂.heap, slotsUsed := s₂.slotsUsed } : State).setVm s₂.vm), Ls ++ L, c0 + mc, s0 + ms⟩,
      ⟨X.admits, X.cas, X.clock, X.frames, X.room, X.hears, X.method, X.code, (X.here.setHeapUsed s₂.heap s₂.slotsUsed).setVm hW'.alike, X.tail, State.WarmedH.trans X.warmed hW', X.limits, X.bytes, X.same.trans (hsame2.setVm s.vm)⟩,
      ⟨g, mk, s₂, L, rfl, rfl, hqt, rfl, hL, rfl, rfl⟩, Or.inl ⟨v, rfl, ?_⟩⟩
    show Steps p.tables e below _ ((({ U with heap := s₂.heap, slotsUsed := s₂.slotsUsed } : State).setVm s₂.vm).setTop { g with pc := g.pc + 3, stack := v.toList ++ g.stack })
    rw [← hs₂]
    exact hsteps
  · obtain ⟨T', X', hW', hS', e1⟩ := X.outOfThrown hg (t := s₂) (x := x) (by rw [X.tail] at hend; exact hend) hWm hsame
    exact ⟨.threw x, ⟨T', Ls ++ L, c0 + mc, s0 + ms⟩, X', ⟨g, mk, s₂, L, by rw [e1]; rfl, by rw [e1]; rfl, hqt, rfl, hL, rfl, rfl⟩, Or.inr ⟨x, rfl, by rw [← e1]; exact hsteps⟩⟩
def XRun (p : Program) (l : Launch) (e : Env) (R : Room) (s : State) (m : MethodId) (args : Array Value) (below : List Frame) (meth : Method) (c : Code) (H : Heap) (locs : List Loc) (cells slots mc ms : Nat) (g : JFrame) (rest : List Value) (Qa : State → Outcome → State → Prop) (free : Addr → Prop) : Prop :=
  ∀ T : State, T.heap = H → Stand p l e R s m args below meth c T locs cells slots → ∃ (o : Outcome) (st₀ t T' : State) (L : List Loc), st₀.heap = H ∧ Stand p l e R s m args below meth c T' (locs ++ L) (cells + mc) (slots + ms) ∧ (∀ q ∈ L, free q.base) ∧ T'.heap = t.heap ∧ T'.vm = t.vm ∧ Qa st₀ o t ∧
    ((∃ v, o = .returned v ∧ Goes p e below T g T' { g with pc := g.pc + 3, stack := v.toList ++ rest }) ∨ ∃ x, o = .threw x ∧ Steps p.tables e below (T.setTop g) ((T'.setTop { g with stack := rest }).pushFrame (.throwing x)))
section XR
variable {p : Program} {l : Launch} {e : Env} {R : Room} {s : State} {m : MethodId} {args : Array Value} {below : List Frame} {meth : Method} {c : Code} {H : Heap} {locs : List Loc} {cells slots : Nat} {Q : State → Prop}
variable {y : MethodName} {bytes cc : ByteArray} {maxL nL mc ms n index : Nat} {ret : Option FieldType} {ws : List Cond} {rm : Room} {Pc : Array Value → State → Prop} {Qc : Array Value → State → Outcome → State → Prop} {free : Addr → Prop} {Ts : List Cond} {own C : String} {b : Addr} {As rest : List Value} {g : JFrame}
theorem backXB (cb : CallB R s args own index y bytes maxL ret ws rm mc ms n) (hM : MetX l y ws rm Pc Qc mc ms free) (hbl : FrameBlind Pc) : BackX l R p e below s args y 8 (PreOf R mc ms Pc) (PostX Qc mc ms free) := by
  obtain ⟨hrc, hrs, hfr, hlo, hws, hcw, -, hini, -⟩ := cb
  exact backX_of (bytes := bytes) (maxL := maxL) (ret := ret) hM hbl hrc hrs hfr hlo hws hcw (fun a' U hW => word_at hW (Or.inl (by first | rfl | simp [Cond.onTables, Cond.keeps, Cond.steady])) hini)
theorem xrunV (S : CallFix p m c cc nL s args Ts own) (hM : MetX l y ws rm Pc Qc mc ms free) (cw : CallW R s args own C index y bytes maxL ret ws rm mc ms n) (hp : PreV s H C b Pc As)
    (hg : g.method = m) (hn : As.length = n) (hsize : g.locals.size = nL) (hstack : g.stack = As.reverse ++ .ref b :: rest) (hW : 2 * g.monitorRoom + (rest.map fun v => v.category).sum ≤ 8) (hdg : decode cc g.pc = .ok (.invokevirtual index, 3)) (hf : cells + mc ≤ R.cells ∧ slots + ms ≤ R.slots) :
    XRun p l e R s m args below meth c H locs cells slots mc ms g rest (Qc (Value.ref b :: As).toArray) free := by
  have hK : BackX l R p e below s args y 8 (PreOf R mc ms Pc) (PostX Qc mc ms free) := backXB cw.1 hM hp.1
  obtain ⟨⟨-, -, -, -, -, -, hcode, -, hy, hlen, hl⟩, hinst, hsel⟩ := cw
  obtain ⟨hexec, hb, hml, hown, -⟩ := S
  obtain ⟨-, ⟨cellB, hcell, hobj, hcls⟩, hPc⟩ := hp
  intro T hT X
  have hcell : T.heap[b]? = some cellB := by rw [hT]; exact hcell
  have hdg : decode c.code g.pc = .ok (.invokevirtual index, 3) := by rw [hb]; exact hdg
  obtain ⟨mk, methM, hnamed, hmethM, hstM, habM⟩ := Cond.instanceMethod_spec hinst
  obtain ⟨methM', cM, hmethM', -, -, -, -, -, -, hsigM⟩ := Cond.code_spec hnamed hcode
  cases hmethM.symm.trans hmethM'
  obtain ⟨c2, r2, m2, q1, q2, q3, q4, kP, hkP, hkPi⟩ := Cond.selects_spec hsel
  cases hcls.symm.trans q1
  cases (State.methodFound?_of_named hnamed hy).symm.trans q2
  cases hnamed.symm.trans q3
  have hselP : selectMethod e.platform s.vm cellB.cls mk = .method mk := by rw [Launch.admits_selectMethod X.admits]; exact q4
  obtain ⟨vm₁, X₁, hstep₁⟩ := X.invokevirtual hexec hown hl hnamed hmethM hstM hkP hkPi hy (a := b) (cell := cellB) hcell
    (fun z h => by rw [h] at hobj; cases hobj) hselP hmethM habM hkP hkPi (g := g) hg (argsL := As) (rest := rest) (hn.trans (hlen _ hsigM)) hstack hdg
  obtain ⟨o, ⟨U', l2, c2, s2⟩, X', ⟨g', mk', t, L, e1, e2, hq, h1, hL, h2, h3⟩, hst⟩ := hK m meth c ⟨T.setVm vm₁, locs, cells, slots⟩ { g with stack := rest } (.invokevirtual index) mk (Value.ref b :: As).toArray X₁ hg (hsize.trans hml.symm) hdg hW (X₁.named hnamed) ⟨hf.1, hf.2, hPc (T.setVm vm₁) hT X₁.warmed⟩
  dsimp only [Pt.U, Pt.locs, Pt.cells, Pt.slots] at X' e1 e2 h1 h2 h3 hst hq
  subst h1; subst h2; subst h3
  refine ⟨o, (T.setVm vm₁).calling g' mk' (Value.ref b :: As).toArray, t, U', L, hT, X', hL, e1, e2, hq, ?_⟩
  rcases hst with ⟨v, rfl, st⟩ | ⟨x, rfl, st⟩
  · exact Or.inl ⟨v, rfl, fun target h => hstep₁ _ fun acts => by rw [doInvoke_state]; exact st.trans h⟩
  · exact Or.inr ⟨x, rfl, hstep₁ _ fun acts => by rw [doInvoke_state]; exact st⟩
theorem xrunS (S : CallFix p m c cc nL s args Ts own) (hM : MetX l y ws rm Pc Qc mc ms free) (cw : CallB R s args own index y bytes maxL ret ws rm mc ms n ∧ (Cond.static y).before args s = true) (hp : PreS s H Pc As)
    (hg : g.method = m) (hn : As.length = n) (hsize : g.locals.size = nL) (hstack : g.stack = As.reverse ++ rest) (hW : 2 * g.monitorRoom + (rest.map fun v => v.category).sum ≤ 8) (hdg : decode cc g.pc = .ok (.invokestatic index, 3)) (hf : cells + mc ≤ R.cells ∧ slots + ms ≤ R.slots) :
    XRun p l e R s m args below meth c H locs cells slots mc ms g rest (Qc As.toArray) free := by
  have hK : BackX l R p e below s args y 8 (PreOf R mc ms Pc) (PostX Qc mc ms free) := backXB cw.1 hM hp.1
  obtain ⟨⟨-, -, -, -, -, -, hcode, hinit, hy, hlen, hl⟩, hstat⟩ := cw
  obtain ⟨hexec, hb, hml, hown, -⟩ := S
  intro T hT X
  have hdg : decode c.code g.pc = .ok (.invokestatic index, 3) := by rw [hb]; exact hdg
  obtain ⟨mk, hnamed⟩ := Cond.code_named hcode
  obtain ⟨methM, cM, hmethM, -, -, -, -, -, -, hsigM⟩ := Cond.code_spec hnamed hcode
  have hstatic : methM.isStatic = true := Cond.static_spec hnamed hmethM hstat
  obtain ⟨kP, hkP, -⟩ := className_of_methodNamed hnamed
  have hinitP : kP.init = .initialized := Cond.initialized_spec (findClass_of_methodNamed hnamed) hkP hinit
  obtain ⟨vm₁, X₁, hstep₁⟩ := X.invokestatic hexec hown hl hnamed hmethM hstatic hkP hinitP hy (g := g) hg (argsL := As) (rest := rest) (hn.trans (hlen _ hsigM)) hstack hdg
  obtain ⟨o, ⟨U', l2, c2, s2⟩, X', ⟨g', mk', t, L, e1, e2, hq, h1, hL, h2, h3⟩, hst⟩ := hK m meth c ⟨T.setVm vm₁, locs, cells, slots⟩ { g with stack := rest } (.invokestatic index) mk As.toArray X₁ hg (hsize.trans hml.symm) hdg hW (X₁.named hnamed) ⟨hf.1, hf.2, hp.2 (T.setVm vm₁) hT X₁.warmed⟩
  dsimp only [Pt.U, Pt.locs, Pt.cells, Pt.slots] at X' e1 e2 h1 h2 h3 hst hq
  subst h1; subst h2; subst h3
  refine ⟨o, (T.setVm vm₁).calling g' mk' As.toArray, t, U', L, hT, X', hL, e1, e2, hq, ?_⟩
  rcases hst with ⟨v, rfl, st⟩ | ⟨x, rfl, st⟩
  · exact Or.inl ⟨v, rfl, fun target h => hstep₁ _ fun acts => by rw [doInvoke_state]; exact st.trans h⟩
  · exact Or.inr ⟨x, rfl, hstep₁ _ fun acts => by rw [doInvoke_state]; exact st⟩
variable {MC MS : Nat} {pc : Nat} {ls : Array Slot} {st0 : List Value}
/-- slots of new cells needn't be named; more may be booked than was made -/
theorem W.wk {locs' : List Loc} {cells' slots' : Nat} {g : JFrame} (hl : ∀ y ∈ locs, y.base < s.heap.size → y ∈ locs') (hc : cells ≤ cells') (hs : slots ≤ slots') (k : W p l e R s m args below meth c H locs' cells' slots' Q g) : W p l e R s m args below meth c H locs cells slots Q g :=
  fun T hT X => k T hT { X with same := X.same.weaken hl hc hs }
theorem W.mono {Q' : State → Prop} {g : JFrame} (h : ∀ t, Q t → Q' t) (k : W p l e R s m args below meth c H locs cells slots Q g) : W p l e R s m args below meth c H locs cells slots Q' g := fun T hT X => by
  obtain ⟨t, a, b⟩ := k T hT X
  exact ⟨t, a, h t b⟩
theorem W.toX {a : Array Value} {g : JFrame} (k : W p l e R s m args below meth c H locs cells slots (MQ below Qc a s MC MS free) g) : W p l e R s m args below meth c H locs cells slots (MQX below Qc a s MC MS free) g :=
  k.mono fun t ⟨o, h1, h2, h3, L, ⟨h4, h5⟩, h6⟩ => ⟨o, h1, h2, h3, Or.inl h4, L, h5, h6⟩
/-- the free places of a walk: those of the contract, and the new ones -/
def fA (A : Nat → Prop) (s : State) : Nat → Prop := fun q => A q ∨ s.heap.size ≤ q
theorem fA.trim {A : Nat → Prop} {H0 : Heap} (hS : va_S (fA A s) H0 H locs) : ∀ q ∈ locs.filter (fun y => decide (y.base < s.heap.size)), A q.base := fun q hq => by
  obtain ⟨h1, h2⟩ := List.mem_filter.mp hq
  rcases hS.2.2 q h1 with h | h
  · exact h
  · exact absurd (of_decide_eq_true h2) (Nat.not_lt.mpr h)
theorem fA.F {A : Nat → Prop} {t : State} (hS : va_S (fA A s) s.heap H locs) (ht : t.heap = H) : va_F A s t := ⟨by rw [ht]; exact hS.1, fun q h1 h2 => by rw [ht]; exact hS.2.1 q h1 (fun z => z.elim h2 (fun h => absurd h1 (Nat.not_lt.mpr h)))⟩
/-- a call in a method without handlers: what it returns goes on, what it throws is the method's own throw -/
theorem x_call {Qa : State → Outcome → State → Prop} {A : Nat → Prop} {A1 : Nat → Prop} {fr1 : Addr → Prop} (hr : XRun p l e R s m args below meth c H locs cells slots mc ms (F0 m pc ls st0) rest Qa fr1) (hS : va_S (fA A s) s.heap H locs) (hfr : ∀ q, fr1 q → fA A s q)
    (hF : ∀ st o t, Qa st o t → va_F A1 st t) (hA1 : ∀ q, A1 q → fA A s q) (hnh : c.exceptionTable.toList = []) (hlk : meth.locks = false) (hMC : cells + mc ≤ MC) (hMS : slots + ms ≤ MS)
    (kr : ∀ (v : Option Value) (st₀ t : State) (H1 : Heap) (locs1 : List Loc), st₀.heap = H → t.heap = H1 → s.vm.Alike t.vm → Qa st₀ (.returned v) t → va_S (fA A s) s.heap H1 locs1 → W p l e R s m args below meth c H1 locs1 (cells + mc) (slots + ms) (MQX below Qc args s MC MS A) (F0 m (pc + 3) ls (v.toList ++ rest)))
    (kt : ∀ (x : Addr) (st₀ t t' : State), st₀.heap = H → t'.heap = t.heap → s.vm.Alike t.vm → Qa st₀ (.threw x) t → va_F A s t' → Qc args s (.threw x) t') :
    W p l e R s m args below meth c H locs cells slots (MQX below Qc args s MC MS A) (F0 m pc ls st0) := by
  intro T hT X
  obtain ⟨o, st₀, t, T', L, h0, X', hL, e1, e2, hq, hst⟩ := hr T hT X
  have hz := hF _ _ _ hq
  have hS1 : va_S (fA A s) s.heap T'.heap (locs ++ L) := ⟨Nat.le_trans hS.1 (by rw [e1, ← h0]; exact hz.1), fun q h1 h2 => by
    have h3 : q < st₀.heap.size := by rw [h0]; exact Nat.lt_of_lt_of_le h1 hS.1
    rw [e1, hz.2 q h3 (fun z => h2 (hA1 q z)), h0]; exact hS.2.1 q h1 h2, fun q hq => by
      rcases List.mem_append.mp hq with h | h
      · exact hS.2.2 q h
      · exact hfr _ (hL q h)⟩
  rcases hst with ⟨v, rfl, st⟩ | ⟨x, rfl, st⟩
  · obtain ⟨t2, a1, b1⟩ := kr v st₀ t T'.heap (locs ++ L) h0 e1.symm (by rw [← e2]; exact X'.warmed.alike) hq hS1 T' rfl X'
    exact ⟨t2, st t2 a1, b1⟩
  · obtain ⟨w1, w2, w3, w4, w5⟩ := X'.leaveThrown x (g := { (F0 m pc ls st0) with stack := rest }) rfl rfl rfl (by rw [hnh]; intro z hz; cases hz) hlk
    refine ⟨_, st.trans w1, .threw x, w2, w3, kt x st₀ t _ h0 (by show T'.heap = t.heap; exact e1) (by rw [← e2]; exact X'.warmed.alike) hq (fA.F hS1 rfl), Or.inr ⟨x, rfl⟩, _, ⟨w4, w5.weaken (l' := (locs ++ L).filter (fun y => decide (y.base < s.heap.size))) (fun y hy hlt => List.mem_filter.mpr ⟨hy, decide_eq_true hlt⟩) hMC hMS⟩, fA.trim hS1⟩
end XR
