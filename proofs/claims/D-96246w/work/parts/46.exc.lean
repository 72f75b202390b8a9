/-! THE EXCEPTIONS' CONSTRUCTORS: Throwable's statics as they must be; the way up to Throwable -/
set_option maxRecDepth 100000
/-- a static of Throwable's: Z is where its statics lie, and the cell -/
def SF (Z : Nat × Cell) (nm d : String) (U : State) : Prop := ∃ c k i f, U.vm.findClass Bundle.tN = some c ∧ U.fieldFound? Bundle.tN nm d = some (c, k, i, f) ∧ f.isStatic = true ∧ k.statics = some Z.1 ∧ Z.2.cls = c ∧ f.slot < Z.2.slots.size ∧ k.staticTypes[f.slot]? = some f.type ∧ ∃ v : RefV, Z.2.slots[f.slot]? = some v.v
theorem SF.moved {Z : Nat × Cell} {nm d : String} {u U : State} (hvm : u.vm.Alike U.vm) (h : SF Z nm d u) : SF Z nm d U := by
  obtain ⟨c, k, i, f, h1, h2, h3, h4, h5, h6, h7, h8⟩ := h
  obtain ⟨k', h2', hek⟩ := State.fieldFound?_setVm (s := u) hvm h2
  exact ⟨c, k', i, f, by first | (rw [← hvm.findClass]; exact h1) | (rw [hvm.findClass]; exact h1), by simpa only [State.fieldFound?, State.vm_setVm] using h2', h3, by rw [hek]; exact h4, h5, h6, by rw [hek]; exact h7, h8⟩
theorem SF.lays {Z : Nat × Cell} {nm d : String} {s : State} {args : Array Value} (h : SF Z nm d s) (hc : s.heap[Z.1]? = some Z.2) (hs : Z.2.vm.isStatics = true) : (Cond.laysStatic Bundle.tN nm d).before args s = true := by
  obtain ⟨c, k, i, f, h1, h2, h3, h4, h5, h6, h7, h8⟩ := h
  exact Cond.laysStatic_of h1 h2 h3 h4 hc hs h5 h6 h7
def STZ (Z : Nat × Cell) (U : State) : Prop := Z.2.vm.isStatics = true ∧ SF Z "UNASSIGNED_STACK" Bundle.steD U ∧ SF Z "SUPPRESSED_SENTINEL" Bundle.listD U
theorem STZ.moved {Z : Nat × Cell} {u U : State} (hvm : u.vm.Alike U.vm) (h : STZ Z u) : STZ Z U := ⟨h.1, h.2.1.moved hvm, h.2.2.moved hvm⟩
def KX (D : va_G) (t : Nat → ClassId) (Z : Nat × Cell) (U : State) : Prop := KK D t U ∧ STZ Z U
theorem KX.warm {D : va_G} {t : Nat → ClassId} {Z : Nat × Cell} {s U : State} (hW : s.WarmedH U.vm) (h : KX D t Z s) : KX D t Z U := ⟨h.1.warm hW, h.2.moved hW.alike⟩
theorem KX.same {D : va_G} {t : Nat → ClassId} {Z : Nat × Cell} {s U : State} (hv : s.vm = U.vm) (h : KX D t Z s) : KX D t Z U := ⟨h.1.same hv, h.2.moved (by rw [hv]; exact Vm.Alike.refl _)⟩
theorem zBlindX {av : List Value} {P : Heap → Prop} {D : va_G} {t : Nat → ClassId} {Z : Nat × Cell} : FrameBlind (zPc av P (KX D t Z)) := by
  intro a U g mk h
  obtain ⟨h1, h2, h3⟩ := h
  exact ⟨h1, h2, KX.same (s := U) (U := U.calling g mk a) rfl h3⟩
theorem ex_b0 : prog_33_method_1_code = LibCode.Throwable.Init0.code := by decide +kernel
theorem ex_b1 : prog_33_method_18_code = LibCode.Throwable.Fill.code := by decide +kernel
theorem ex_b2 : object_method_1_code = (⟨#[0xb1]⟩ : ByteArray) := by decide +kernel
theorem ex_b3 : prog_31_method_1_code = Bundle.five := by decide +kernel
theorem ex_b4 : prog_29_method_1_code = Bundle.five := by decide +kernel
theorem ex_at {D : va_G} {t : Nat → ClassId} {Z : Nat × Cell} {s : State} {args : Array Value} (hts : ∀ w ∈ lw_all, w.before args s = true) (hK : KX D t Z s) (hZ : s.heap[Z.1]? = some Z.2) : ∀ c ∈ Bundle.throwableAtoms, c.before args s = true := by
  intro c hc
  simp only [Bundle.throwableAtoms, List.mem_cons, List.not_mem_nil, or_false] at hc
  rcases hc with rfl | rfl | rfl | rfl | rfl | rfl | rfl | rfl | rfl | rfl | rfl | rfl | rfl | rfl | rfl | rfl | rfl | rfl | rfl | rfl | rfl | rfl | rfl | rfl
  · exact hts _ q105
  · exact hts _ q365
  · exact hts _ q374
  · rw [← ex_b1]; exact hts _ q377
  · exact hts _ q380
  · exact hts _ q382
  · exact hts _ q366
  · rw [← ex_b0]; exact hts _ q367
  · exact hts _ q133
  · rw [← ex_b2]; exact hts _ q134
  · exact hts _ q368
  · exact hts _ q373
  · exact hts _ q378
  · exact hts _ q398
  · exact hts _ q355
  · exact hts _ q399
  · exact hts _ q357
  · exact hts _ q400
  · exact hts _ q359
  · exact hts _ q369
  · exact hK.2.2.1.lays hZ hK.2.1
  · exact hts _ q371
  · exact hK.2.2.2.lays hZ hK.2.1
  · exact hts _ q361
theorem ex_ch {D : va_G} {t : Nat → ClassId} {Z : Nat × Cell} {s : State} {args : Array Value} (hts : ∀ w ∈ lw_all, w.before args s = true) (hK : KX D t Z s) : ∀ c ∈ Bundle.chain0Atoms "java/lang/RuntimeException" ["java/lang/Exception"], c.before args s = true := by
  intro c hc
  simp only [Bundle.chain0Atoms, Bundle.passAtoms, Bundle.init0, List.mem_append, List.mem_cons, List.not_mem_nil, or_false] at hc
  rcases hc with (rfl | rfl | rfl | rfl | rfl) | (rfl | rfl | rfl | rfl | rfl)
  · exact hts _ q390
  · rw [← ex_b3]; exact hts _ q391
  · exact hts _ q392
  · exact hts _ q393
  · exact va_Nw.use rfl (hK.1.2.1 _ q348 rfl)
  · exact hts _ q393
  · rw [← ex_b4]; exact hts _ q394
  · exact hts _ q395
  · exact hts _ q366
  · exact va_Nw.use rfl (hK.1.2.1 _ q350 rfl)
/-- an exception's fields: cause, stack, suppressed, the message, the trace, the depth, its number -/
def eF (a b c : Value) (v : Value) : List Value := [a, b, c, .null, .null, .int 0, v]
/-- an object of whose monitor nobody is the owner -/
def MF (x : Nat) (H : Heap) : Prop := ∃ cell : Cell, H[x]? = some cell ∧ cell.monitor.owner = none ∧ cell.monitor.count = 0
section EX
variable {p : Program} {l : Launch} {e : Env} {R : Room} {s : State} {m : MethodId} {args : Array Value} {below : List Frame} {meth : Method} {c : Code} {H : Heap} {locs : List Loc} {cells slots : Nat} {Q : State → Prop} {ls : Array Slot} {D : va_G} {t : Nat → ClassId} {Z : Nat × Cell} {x ci : Nat} {v6 : Value}
set_option maxHeartbeats 4000000 in
theorem e_sup {cls : String} {T : u_T} (htr : l.stackTraces = false) (hexec : p.tables.exec = Jvm.exec) (hb : c.code = cX10_init) (hml : c.maxLocals = ls.size) (hts : ∀ w ∈ lw_all, w.before args s = true) (hown : s.vm.findClass RX10 = some m.cls) (hK : KX D t Z s) (hZ : s.heap[Z.1]? = some Z.2) (hZH : H[Z.1]? = some Z.2) (hx : x ≠ Z.1)
    (hc : vwCl[ci]? = some (cls, T, 7)) (hin : ∀ w ∈ u_ws cls T 7, w ∈ lw_all) (ty : Nat → FieldType) (hty : ∀ k, k < 7 → parseFieldDescriptor (T k).2.2.1 = some (ty k)) (hnm : ∀ a, a < 7 → ∀ b, b < 7 → a ≠ b → (T a).2.1 ≠ (T b).2.1) (hT : ∀ k, k < 5 → T k = TX11 k)
    (hs0 : Cond.selects cls Bundle.tFill0 Bundle.tFill0 ∈ lw_all) (hsF : Cond.selects cls Bundle.tFill Bundle.tFill ∈ lw_all) (hl0 : Cond.lays cls Bundle.tN "cause" "Ljava/lang/Throwable;" ∈ lw_all) (hl1 : Cond.lays cls Bundle.tN "stackTrace" Bundle.steD ∈ lw_all) (hl2 : Cond.lays cls Bundle.tN "suppressedExceptions" Bundle.listD ∈ lw_all)
    (hO : OB D x ci (eF .null .null .null v6) H) (hM : MF x H) (hRf : 5 ≤ R.frames) (hRl : 80 ≤ R.locals)
    (kk : ∀ (H1 : Heap) (L : List Loc) (u0 sen : Value), OB D x ci (eF (.ref x) u0 sen v6) H1 → H1.size = H.size → (∀ q : Nat, q ≠ x → H1[q]? = H[q]?) → (∀ q ∈ L, q.base = x) → W p l e R s m args below meth c H1 (locs ++ L) cells slots Q (F0 m 4 ls [])) : W p l e R s m args below meth c H locs cells slots Q (F0 m 1 ls [.ref x]) := by
  intro S0 hS0 X
  have hplt := X.admits.platform
  have htr' : e.platform.stackTraces = false := by rw [hplt]; exact htr
  have howns : e.platform.frameOwnsMonitors = true := by rw [hplt]
  have hfin : e.platform.finalization = false := by rw [hplt]
  have hpl : e.platform.magicAccessors = ({} : Platform).magicAccessors := by rw [hplt]
  obtain ⟨Th, Zi, L, LZ, Y⟩ := ThrowableC.of_atoms (args := args) howns hfin hpl (ex_at hts hK hZ)
  obtain ⟨P1, Ps, hlen, L1, hL, hP1m, hlink1, hlink⟩ := Bundle.chain0 (args := args) hpl Y.init0 ["java/lang/Exception"] "java/lang/RuntimeException" (by decide) (by decide) (ex_ch hts hK)
  have hap := va_apart (own := RX10) (args := args) hts hin ty hty hnm hK.1.1 hc
  obtain ⟨hSl, hfound, kC, hk, hord⟩ := hK.1.1.1 ci _ hc
  obtain ⟨r, hr, cell, hcell, hccls, hcvm, hslots⟩ := hO.at
  have hr : r = (cls, T, 7) := Option.some.inj (hr.symm.trans hc)
  subst hr
  have hcell : H[x]? = some cell := hcell
  have hccls : cell.cls = D.1 ci := hccls
  have hslots : ∀ k, k < 7 → cell.slots[D.2 ci k]? = some (vp_V (eF .null .null .null v6) k) := hslots
  obtain ⟨cell2, hcell2, hmo, hmc⟩ := hM
  cases hcell.symm.trans hcell2
  have hsl : ∀ k, k < 5 → ∃ cf kf fi fd, s.fieldFound? (TX11 k).1 (TX11 k).2.1 (TX11 k).2.2.1 = some (cf, kf, fi, fd) ∧ fd.slot = D.2 ci k := fun k hk5 => by
    have h : SlotIs s (T k).1 (T k).2.1 (T k).2.2.1 (D.2 ci k) := hSl k (Nat.lt_trans hk5 (Nat.lt_add_of_pos_right (k := 2) (by decide)))
    rw [hT k hk5] at h
    exact h
  have hslC : Th.fCause.slot = D.2 ci 0 := by
    obtain ⟨cf, kf, fi, fd, h1, h2⟩ := hsl 0 (by decide)
    have h3 := Option.some.inj (h1.symm.trans Y.cause)
    simp only [Prod.mk.injEq] at h3
    rw [← h3.2.2.2]; exact h2
  have hslS : Th.fStack.slot = D.2 ci 1 := by
    obtain ⟨cf, kf, fi, fd, h1, h2⟩ := hsl 1 (by decide)
    have h3 := Option.some.inj (h1.symm.trans Y.stack)
    simp only [Prod.mk.injEq] at h3
    rw [← h3.2.2.2]; exact h2
  have hslP : Th.fSupp.slot = D.2 ci 2 := by
    obtain ⟨cf, kf, fi, fd, h1, h2⟩ := hsl 2 (by decide)
    have h3 := Option.some.inj (h1.symm.trans Y.supp)
    simp only [Prod.mk.injEq] at h3
    rw [← h3.2.2.2]; exact h2
  obtain ⟨ci198, i198, fB, hk198, hg198, ha198, hsB, -, hnB, htB, hffB⟩ := Cond.ownField (t := .object "java/lang/Object") Y.found L.cls (by decide +kernel) (hts _ q364) (hts _ q363) e.platform hpl
  have hslB : fB.slot = D.2 ci 4 := by
    obtain ⟨cf, kf, fi, fd, h1, h2⟩ := hsl 4 (by decide)
    have h3 := Option.some.inj (h1.symm.trans hffB)
    simp only [Prod.mk.injEq] at h3
    rw [← h3.2.2.2]; exact h2
  obtain ⟨c1, k1, i1, f1, g1, g2, g3, g4, g5, g6, g7, u0, hu0⟩ := hK.2.2.1
  have z1 := Option.some.inj (g2.symm.trans Y.unassigned)
  simp only [Prod.mk.injEq] at z1
  obtain ⟨-, z12, -, z14⟩ := z1
  subst z12; subst z14
  obtain ⟨c2, k2, i2, f2, h1, h2, h3, h4, h5, h6, h7, sen, hsen⟩ := hK.2.2.2
  have z2 := Option.some.inj (h2.symm.trans Y.sentinel)
  simp only [Prod.mk.injEq] at z2
  obtain ⟨-, z22, -, z24⟩ := z2
  subst z24
  have haS : Th.aS = Z.1 := Option.some.inj (L.statics.symm.trans g4)
  have hV := t_set (V := vp_V (eF .null .null .null v6)) (cell := cell) hslots hap (k := 0) (by decide) (.ref x)
  have hV := t_set hV hap (k := 1) (by decide) u0.v
  have hV := t_set hV hap (k := 2) (by decide) sen.v
  have hskip : SkipFacts Th e.platform s (fun u => u) u0 ((preparedCellV Th.toThrowableT cell x u0 sen).withEntry S0.cur) :=
    ⟨{ ci198 := ci198, i198 := i198, fBack := fB }, ⟨hk198, hg198, ha198, hsB⟩, by
      show (preparedCellV Th.toThrowableT cell x u0 sen).slots[fB.slot]? = some .null
      show (((cell.setSlot Th.fCause.slot (.ref x)).setSlot Th.fStack.slot u0.v).setSlot Th.fSupp.slot sen.v).slots[fB.slot]? = some .null
      rw [hslC, hslS, hslP, hslB]
      exact hV 4 (by decide), fun _ _ => rfl⟩
  have hslt : ∀ k, k < 7 → D.2 ci k < cell.slots.size := fun k hk7 => (Array.getElem?_eq_some_iff.mp (hslots k hk7)).1
  have hsel0 : selectMethod e.platform s.vm cell.cls Th.fill0 = .method Th.fill0 := by
    obtain ⟨c2, r2, m2, q1, q2, q3, q4, -⟩ := Cond.selects_spec (hts _ hs0)
    have e0 := Option.some.inj (q1.symm.trans hfound)
    subst e0
    cases Option.some.inj (q2.symm.trans (State.methodFound?_of_named Y.fill0 (by decide)))
    cases Option.some.inj (q3.symm.trans Y.fill0)
    rw [Launch.admits_selectMethod X.admits, hccls]; exact q4
  have hselF : selectMethod e.platform s.vm cell.cls Th.fill = .method Th.fill := by
    obtain ⟨c2, r2, m2, q1, q2, q3, q4, -⟩ := Cond.selects_spec (hts _ hsF)
    have e0 := Option.some.inj (q1.symm.trans hfound)
    subst e0
    cases Option.some.inj (q2.symm.trans (State.methodFound?_of_named Y.fill (by decide)))
    cases Option.some.inj (q3.symm.trans Y.fill)
    rw [Launch.admits_selectMethod X.admits, hccls]; exact q4
  have htake : ∀ (f : Field) (v : Value), f.slot < cell.slots.size → kC.instanceTypes[f.slot]? = some f.type → fits f.type v = true → Takes s cell f v := fun f v w1 w2 w3 => by
    refine ⟨w1, ?_⟩
    have := (Takes.of_laid hk hord w2 w3).2
    rw [hccls, hcvm]
    exact this
  obtain ⟨tyC, -⟩ := Cond.laysAt hfound hk Y.cause (hts _ hl0)
  obtain ⟨tyS, -⟩ := Cond.laysAt hfound hk Y.stack (hts _ hl1)
  obtain ⟨tyP, -⟩ := Cond.laysAt hfound hk Y.supp (hts _ hl2)
  obtain ⟨tm, methC, cdC, kCc, vm₁, hnC, -, -, -, -, -, -, -, hW₁, st1⟩ := Steps.initCold (tb := p.tables) (e := e) (below := below) (s := s) (U := S0) X.here hexec X.warmed hpl hown (t := Bundle.init0 "java/lang/RuntimeException") rfl rfl (by decide)
    (hts _ q389) (hts _ q390) (bytes := prog_31_method_1_code) (maxL := 1) (hts _ q391) (f := F0 m 1 ls [.ref x]) rfl (a := x) (rest := []) rfl (by rw [hb]; exact dX10_init_1)
  cases Option.some.inj (hnC.symm.trans hP1m)
  have X₁ := X.noted hW₁
  have hZc : (S0.setVm vm₁).heap[Th.aS]? = some Z.2 := by rw [haS]; show S0.heap[Z.1]? = _; rw [hS0]; exact hZH
  have hZk : Z.2.vm ≠ .unknown := fun hu => by have := hK.2.1; rw [hu] at this; cases this
  obtain ⟨vm₂, X₂, st2⟩ := X₁.ctorPlainOffV hexec (g := { (F0 m 1 ls [.ref x]) with stack := [] }) rfl hml.symm Th L Zi LZ (P1 :: Ps)
    (fun P hP => by rcases List.mem_cons.mp hP with rfl | hP; exact L1; exact hL P hP) ⟨hlink1, hlink⟩ (u0 := u0) (sen := sen) (self := x) (cell := cell) (cellS := Z.2)
    (by show S0.heap[x]? = _; rw [hS0]; exact hcell) (fun k => by rw [hcvm]; exact fun h => by cases h) (by rw [hcvm]; exact fun h => by cases h) hmo hmc hsel0 hselF hZc (by rw [haS]; exact Ne.symm hx) hZk hu0 hsen
    (htake _ _ (by rw [hslC]; exact hslt 0 (by decide)) tyC (by rw [Y.causeType]; rfl)) (htake _ _ (by rw [hslS]; exact hslt 1 (by decide)) tyS (by rw [Y.stackType]; exact fits_refV_array _ u0)) (htake _ _ (by rw [hslP]; exact hslt 2 (by decide)) tyP (by rw [Y.suppType]; exact fits_refV_object _ sen)) Y.objLocals hskip htr' [] (by rw [hb]; exact dX10_init_1)
    (by simp only [List.length_cons, hlen, List.length_nil]; omega) (by simp only [List.length_cons, hlen, List.length_nil]; simp; omega)
  have hlt : x < S0.heap.size := by rw [hS0]; exact (Array.getElem?_eq_some_iff.mp hcell).1
  refine (fun (K : ∃ t2, Steps p.tables e below (((((S0.setVm vm₁).setVm vm₂).setCell x ((preparedCellV Th.toThrowableT cell x u0 sen).setSlot Th.fStack.slot u0.v))).setTop (F0 m 4 ls [])) t2 ∧ Q t2) => by obtain ⟨t2, a1, b1⟩ := K; exact ⟨t2, st1 _ (fun acts => by rw [doInvoke_state]; exact st2 _ a1), b1⟩) (kk _ _ u0.v sen.v ?_ ?_ ?_ ?_ _ rfl X₂)
  · refine OB.of ⟨_, hc, _, heapAt_setCell_self (s := (S0.setVm vm₁).setVm vm₂) _ hlt, hccls, hcvm, fun k hk7 => ?_⟩
    show ((((cell.setSlot Th.fCause.slot (.ref x)).setSlot Th.fStack.slot u0.v).setSlot Th.fSupp.slot sen.v).setSlot Th.fStack.slot u0.v).slots[D.2 ci k]? = _
    rw [hslC, hslS, hslP]
    have hk7 : k < 7 := hk7
    have hV2 := t_set hV hap (k := 1) (by decide) u0.v k hk7
    rw [hV2]
    have : k = 0 ∨ k = 1 ∨ k = 2 ∨ k = 3 ∨ k = 4 ∨ k = 5 ∨ k = 6 := by omega
    rcases this with rfl | rfl | rfl | rfl | rfl | rfl | rfl <;> rfl
  · show (S0.heap.setIfInBounds x _).size = _
    rw [hS0]; simp
  · intro q hq
    show (S0.heap.setIfInBounds x _)[q]? = _
    rw [hS0, Array.getElem?_setIfInBounds_ne (Ne.symm hq)]
  · intro y hy
    simp only [List.mem_cons, List.not_mem_nil, or_false] at hy
    rcases hy with rfl | rfl | rfl | rfl <;> rfl
end EX
