/-! THE EXCEPTIONS' CONSTRUCTORS (2), must: printed by wip/D-96246w/gen/gen_exc.py -/
set_option maxRecDepth 100000
theorem t13 : ∀ k, k < 5 → TX13 k = TX11 k := by
  intro k hk
  have : k = 0 ∨ k = 1 ∨ k = 2 ∨ k = 3 ∨ k = 4 := by omega
  rcases this with rfl | rfl | rfl | rfl | rfl <;> rfl
theorem ob_D {x ci : Nat} {fs : List Value} {A : Nat → Prop} (h : A x) : va_D A [(x, (.inr (ci, fs) : va_E))] := by
  refine ⟨fun i j p q hi hj _ => ?_, fun k q hk => ?_⟩
  · have h1 := (List.getElem?_eq_some_iff.mp hi).1
    have h2 := (List.getElem?_eq_some_iff.mp hj).1
    simp at h1 h2
    omega
  · have h1 := (List.getElem?_eq_some_iff.mp hk).1
    simp at h1
    subst h1
    cases hk
    exact h
set_option maxHeartbeats 4000000 in
theorem cx_X10_init (l : Launch) (htr : l.stackTraces = false) (D : va_G) (t : Nat → ClassId) (Z : Nat × Cell) (ci x : Nat) (hx : x ≠ Z.1) (hci : ci = 15 ∨ ci = 16) (v6 : Value) : Met l yX10_init (ws_ yX10_init cX10_init 1 none) ({ frames := 5, cells := 0, slots := 0, locals := 80 }) (zPc [.ref x] (fun H => H[Z.1]? = some Z.2 ∧ OB D x ci (eF .null .null .null v6) H ∧ MF x H) (KX D t Z)) (va_Qv (fun _ => True) (fun (u : Value × Value) U => OB D x ci (eF (.ref x) u.1 u.2 v6) U.heap) (fun q => q = x)) 0 0 (fun q => q = x) := by
  refine zOf (cc := cX10_init) (maxL := 1) (ret := none) (by decide) (Nat.le_of_ble_eq_true rfl) (fun pg ev s m below meth cd ls F hP hK hl hnm => ?_)
  obtain ⟨hxx, hb, hml, hown, hts, hr, hlk⟩ := F
  have hl : lv_has ls 1 [(0, .ref x)] := hl
  refine lv_aload_n hxx hb dX10_init_0 rfl (lv_at hl 0 rfl) ?_
  have K : ∀ (H1 : Heap) (L : List Loc) (u0 sen : Value), OB D x ci (eF (.ref x) u0 sen v6) H1 → H1.size = s.heap.size → (∀ q : Nat, q ≠ x → H1[q]? = s.heap[q]?) → (∀ q ∈ L, q.base = x) → W pg l ev ({ frames := 5, cells := 0, slots := 0, locals := 80 }) s m [.ref x].toArray below meth cd H1 ([] ++ L) 0 0 (MQ below (va_Qv (fun _ => True) (fun (u : Value × Value) U => OB D x ci (eF (.ref x) u.1 u.2 v6) U.heap) (fun q => q = x)) [.ref x].toArray s 0 0 (fun q => q = x)) (F0 m 4 ls []) := by
    intro H1 L u0 sen hO z oq hL
    exact W.vret hxx hb hr (fun tt ht _ => ⟨⟨(u0, sen), rfl, trivial, by show OB D x ci (eF (.ref x) u0 sen v6) tt.heap; rw [ht]; exact hO⟩, ⟨by rw [ht, z]; exact Nat.le_refl _, fun q _ hq => by rw [ht]; exact oq q hq⟩⟩) hL dX10_init_4 hlk
  rcases hci with rfl | rfl
  · exact e_sup (cls := RX11) (T := TX11) htr hxx hb (hml.trans hl.1.symm) hts hown hK hP.1 hP.1 hx rfl in_X11 tyX11 tyX11_ok nmX11 (fun k hk => rfl) q352 q353 q354 q356 q358 hP.2.1 hP.2.2 (by decide) (by decide) K
  · exact e_sup (cls := RX13) (T := TX13) htr hxx hb (hml.trans hl.1.symm) hts hown hK hP.1 hP.1 hx rfl in_X13 tyX13 tyX13_ok nmX13 t13 q450 q376 q451 q452 q453 hP.2.1 hP.2.2 (by decide) (by decide) K
set_option maxHeartbeats 4000000 in
theorem cx_X11_init (l : Launch) (htr : l.stackTraces = false) (D : va_G) (t : Nat → ClassId) (Z : Nat × Cell) (x : Nat) (hx : x ≠ Z.1) (n : Int32) : Met l yX11_init (ws_ yX11_init cX11_init 2 none) ({ frames := 6, cells := 0, slots := 0, locals := 100 }) (zPc [.ref x, .int n] (fun H => H[Z.1]? = some Z.2 ∧ OB D x 15 (eF .null .null .null (.int 0)) H ∧ MF x H) (KX D t Z)) (va_Qv (fun _ => True) (fun (u : Value × Value) U => OB D x 15 (eF (.ref x) u.1 u.2 (.int n)) U.heap) (fun q => q = x)) 0 0 (fun q => q = x) := by
  refine zOf (cc := cX11_init) (maxL := 2) (ret := none) (by decide) (Nat.le_of_ble_eq_true rfl) (fun pg ev s m below meth cd ls F hP hK hl hnm => ?_)
  obtain ⟨hxx, hb, hml, hown, hts, hr, hlk⟩ := F
  have S : CallFix pg m cd cX11_init 2 s _ lw_all RX11 := ⟨hxx, hb, hml, hown, hts⟩
  have hl : lv_has ls 2 [(0, .ref x), (1, .int n)] := hl
  have hS : va_S (fun q => q = x) s.heap s.heap [] := va_S.rf
  refine lv_aload_n hxx hb dX11_init_0 rfl (lv_at hl 0 rfl) ?_
  refine va_callv (va_runIN (As := []) (rest := []) S (cx_X10_init l htr D t Z 15 x hx (Or.inl rfl) (.int 0)) ⟨va_cnB 0 hts (lw_meth q388) rfl rfl rfl (hK.1.2.1 _ q386 rfl) (hts _ q108) ⟨by decide, by decide, by decide +kernel⟩ ⟨by decide, by decide⟩, rfl, hts _ q387⟩ ⟨zBlindX, fun U hU hW => ⟨rfl, by rw [hU]; exact hP, hK.warm hW⟩⟩ rfl rfl hl.1 rfl (lv_room (by decide)) dX11_init_1 ⟨by decide, by decide⟩) hS (fun q _ h => h) (fun q h => h) (fun u tt H locs ht _ _ hO _ _ hS => ?_)
  rw [ht] at hO
  have hO : OB D x 15 (eF (.ref x) u.1 u.2 (.int 0)) H := hO
  refine lv_aload_n hxx hb dX11_init_4 rfl (lv_at hl 0 rfl) ?_
  refine lv_iload_n hxx hb dX11_init_5 rfl (lv_at hl 1 rfl) ?_
  refine va_putF (D := D) (ci := 15) (C := RX11) (T := TX11) (N := 7) hxx hb hts in_X11 tyX11 tyX11_ok nmX11 hown hK.1.1 hO (ob_D (A := fun q => q = x) rfl) hS 0 rfl rfl 6 (by decide) (hts _ q396) (fun _ h => h) rfl hnm rfl (ty := .int) (by decide +kernel) rfl rfl (Nat.le_refl 7) dX11_init_6 (fun H locs hP1 _ hS => ?_)
  have hO : OB D x 15 (eF (.ref x) u.1 u.2 (.int n)) H := hP1
  exact W.vret hxx hb hr (fun tt ht _ => ⟨⟨u, rfl, trivial, by show OB D x 15 (eF (.ref x) u.1 u.2 (.int n)) tt.heap; rw [ht]; exact hO⟩, hS.F ht⟩) hS.2.2 dX11_init_9 hlk
set_option maxHeartbeats 4000000 in
theorem cx_X13_init (l : Launch) (htr : l.stackTraces = false) (D : va_G) (t : Nat → ClassId) (Z : Nat × Cell) (x : Nat) (hx : x ≠ Z.1) (n : Int32) : Met l yX13_init (ws_ yX13_init cX13_init 2 none) ({ frames := 6, cells := 0, slots := 0, locals := 100 }) (zPc [.ref x, .int n] (fun H => H[Z.1]? = some Z.2 ∧ OB D x 16 (eF .null .null .null (.int 0)) H ∧ MF x H) (KX D t Z)) (va_Qv (fun _ => True) (fun (u : Value × Value) U => OB D x 16 (eF (.ref x) u.1 u.2 (.int n)) U.heap) (fun q => q = x)) 0 0 (fun q => q = x) := by
  refine zOf (cc := cX13_init) (maxL := 2) (ret := none) (by decide) (Nat.le_of_ble_eq_true rfl) (fun pg ev s m below meth cd ls F hP hK hl hnm => ?_)
  obtain ⟨hxx, hb, hml, hown, hts, hr, hlk⟩ := F
  have S : CallFix pg m cd cX13_init 2 s _ lw_all RX13 := ⟨hxx, hb, hml, hown, hts⟩
  have hl : lv_has ls 2 [(0, .ref x), (1, .int n)] := hl
  have hS : va_S (fun q => q = x) s.heap s.heap [] := va_S.rf
  refine lv_aload_n hxx hb dX13_init_0 rfl (lv_at hl 0 rfl) ?_
  refine va_callv (va_runIN (As := []) (rest := []) S (cx_X10_init l htr D t Z 16 x hx (Or.inr rfl) (.int 0)) ⟨va_cnB 0 hts (lw_meth q388) rfl rfl rfl (hK.1.2.1 _ q459 rfl) (hts _ q108) ⟨by decide, by decide, by decide +kernel⟩ ⟨by decide, by decide⟩, rfl, hts _ q387⟩ ⟨zBlindX, fun U hU hW => ⟨rfl, by rw [hU]; exact hP, hK.warm hW⟩⟩ rfl rfl hl.1 rfl (lv_room (by decide)) dX13_init_1 ⟨by decide, by decide⟩) hS (fun q _ h => h) (fun q h => h) (fun u tt H locs ht _ _ hO _ _ hS => ?_)
  rw [ht] at hO
  have hO : OB D x 16 (eF (.ref x) u.1 u.2 (.int 0)) H := hO
  refine lv_aload_n hxx hb dX13_init_4 rfl (lv_at hl 0 rfl) ?_
  refine lv_iload_n hxx hb dX13_init_5 rfl (lv_at hl 1 rfl) ?_
  refine va_putF (D := D) (ci := 16) (C := RX13) (T := TX13) (N := 7) hxx hb hts in_X13 tyX13 tyX13_ok nmX13 hown hK.1.1 hO (ob_D (A := fun q => q = x) rfl) hS 0 rfl rfl 6 (by decide) (hts _ q460) (fun _ h => h) rfl hnm rfl (ty := .int) (by decide +kernel) rfl rfl (Nat.le_refl 7) dX13_init_6 (fun H locs hP1 _ hS => ?_)
  have hO : OB D x 16 (eF (.ref x) u.1 u.2 (.int n)) H := hP1
  exact W.vret hxx hb hr (fun tt ht _ => ⟨⟨u, rfl, trivial, by show OB D x 16 (eF (.ref x) u.1 u.2 (.int n)) tt.heap; rw [ht]; exact hO⟩, hS.F ht⟩) hS.2.2 dX13_init_9 hlk
/-- an exception as it is thrown: its number -/
def RF (D : va_G) (x : Nat) (N : Int32) (H : Heap) : Prop := ∃ (ci : Nat) (a b c : Value), (ci = 15 ∨ ci = 16) ∧ OB D x ci (eF a b c (.int N)) H
/-- nothing, if the number is 0; else it is thrown -/
def QM (D : va_G) (N : Int32) : Array Value → State → Outcome → State → Prop := fun _ st o t => ((N = 0 ∧ o = .returned none ∧ t.heap = st.heap) ∨ (¬ N = 0 ∧ ∃ x, o = .threw x ∧ RF D x N t.heap)) ∧ va_F (fun _ => False) st t
theorem zOfX {l : Launch} {y : MethodName} {cc : ByteArray} {maxL : Nat} {ret : Option FieldType} {rm : Room} {av : List Value} {P : Heap → Prop} {Ks : State → Prop} {Qc : Array Value → State → Outcome → State → Prop} {mc ms : Nat} {free : Addr → Prop}
    (hy : plainName y.cls = true) (hn : (lg_sl av).length ≤ maxL)
    (body : ∀ (p : Program) (e : Env) (s : State) (m : MethodId) (below : List Frame) (meth : Method) (c : Code) (ls : Array Slot), zFix p s m meth c cc maxL ret y.cls av.toArray → c.exceptionTable.toList = [] → P s.heap → Ks s → lv_has ls maxL (lv_args 0 av) →
      W p l e rm s m av.toArray below meth c s.heap [] 0 0 (MQX below Qc av.toArray s mc ms free) (F0 m 0 ls [])) : MetX l y (ws_ y cc maxL ret) rm (zPc av P Ks) Qc mc ms free := by
  refine MetFree.of_bodyS (code := cc) (maxLocals := maxL) (ret := ret) hy ?_ ?_
  · intro args s m h hn
    obtain ⟨meth, c, h1, h2, h3, h4, h5, h6, -, -⟩ := Cond.code_spec hn (atoms_spec (ws := ws_ y cc maxL ret) h _ List.mem_cons_self)
    exact ⟨meth, c, h1, h2, h3, h4, h5, h6⟩
  · intro p e s m args below meth c s₁ B hml hv _
    obtain ⟨rfl, hP, hK⟩ := hv
    have hh0 : s₁.heap = s.heap := by rw [B.state]; rfl
    have hts0 := atoms_spec (ws := ws_ y cc maxL ret) B.pre
    have hts : ∀ w ∈ lw_all, w.before _ s = true := fun w h => hts0 w (List.mem_cons_of_mem _ h)
    have hown : s.vm.findClass y.cls = some m.cls := findClass_of_methodNamed B.named
    have hne := B.noHandlers (hts0 _ List.mem_cons_self)
    have hl := lv_entry av (n := maxL) hn
    have K := body p e s m below meth c _ ⟨B.exec, B.bytes, hml, hown, hts, B.returns, B.notSynchronized⟩ (by simpa using hne) hP hK hl
    rw [← lg_entry_eq] at K
    obtain ⟨t, a1, o, b1, b2, b3⟩ := K s₁ hh0 (Stand.of_body B)
    exact ⟨t, o, a1, b1, b2, b3⟩
section XE
variable {p : Program} {l : Launch} {e : Env} {R : Room} {s : State} {m : MethodId} {args : Array Value} {below : List Frame} {meth : Method} {c : Code} {H : Heap} {locs : List Loc} {cells slots : Nat} {cc : ByteArray} {pc : Nat} {ls : Array Slot} {rest : List Value} {Qc : Array Value → State → Outcome → State → Prop} {MC MS : Nat} {A : Nat → Prop}
theorem x_athrow {x : Addr} (hexec : p.tables.exec = Jvm.exec) (hb : c.code = cc) (hS : va_S (fA A s) s.heap H locs) (hnh : c.exceptionTable.toList = []) (hlk : meth.locks = false) (hMC : cells ≤ MC) (hMS : slots ≤ MS) (hdg : decode cc pc = .ok (.athrow, 1))
    (kt : ∀ t' : State, t'.heap = H → va_F A s t' → Qc args s (.threw x) t') : W p l e R s m args below meth c H locs cells slots (MQX below Qc args s MC MS A) (F0 m pc ls (.ref x :: rest)) := by
  intro T hT X
  obtain ⟨w1, w2, w3, w4, w5⟩ := X.athrowLeaves hexec (g := F0 m pc ls (.ref x :: rest)) rfl rfl rfl (by rw [hnh]; intro z hz; cases hz) (a := x) (rest := rest) rfl (by rw [hb]; exact hdg) hlk
  refine ⟨_, w1, .threw x, w2, w3, kt _ hT (fA.F hS hT), Or.inr ⟨x, rfl⟩, _, ⟨w4, w5.weaken (l' := locs.filter (fun y => decide (y.base < s.heap.size))) (fun y hy hlt => List.mem_filter.mpr ⟨hy, decide_eq_true hlt⟩) hMC hMS⟩, fA.trim hS⟩
/-- slots of new cells are left out, and more is booked: so an end fits -/
theorem W.fit {Q : State → Prop} {g : JFrame} (hMC : cells ≤ MC) (hMS : slots ≤ MS) (k : W p l e R s m args below meth c H (locs.filter (fun y => decide (y.base < s.heap.size))) MC MS Q g) : W p l e R s m args below meth c H locs cells slots Q g :=
  W.wk (fun y hy hlt => List.mem_filter.mpr ⟨hy, decide_eq_true hlt⟩) hMC hMS k
theorem x_vretM {D : va_G} {N : Int32} (hexec : p.tables.exec = Jvm.exec) (hb : c.code = cc) (hr : meth.sig.returnType = none) (hN : N = 0) (hH : H = s.heap) (hS : va_S (fA (fun _ => False) s) s.heap H locs) (hMC : cells ≤ MC) (hMS : slots ≤ MS) (hdg : decode cc pc = .ok (.return_, 1)) (hlk : meth.locks = false) :
    W p l e R s m args below meth c H locs cells slots (MQX below (QM D N) args s MC MS (fun _ => False)) (F0 m pc ls []) :=
  W.fit hMC hMS (W.toX (W.vret hexec hb hr (fun tt ht _ => ⟨Or.inl ⟨hN, rfl, ht.trans hH⟩, fA.F hS ht⟩) (fA.trim hS) hdg hlk))
end XE
set_option maxHeartbeats 4000000 in
theorem cx_must (l : Launch) (htr : l.stackTraces = false) (D : va_G) (t : Nat → ClassId) (Z : Nat × Cell) (b : Bool) (n : Int32) (hn : ¬ n = 0) : MetX l yX0_must (ws_ yX0_must cX0_must 2 none) ({ frames := 7, cells := 1, slots := 7, locals := 121 }) (zPc [.int (bI b), .int n] (fun H => H[Z.1]? = some Z.2) (KX D t Z)) (QM D (if b = true then 0 else n)) 1 7 (fun _ => False) := by
  refine zOfX (cc := cX0_must) (maxL := 2) (ret := none) (by decide) (Nat.le_of_ble_eq_true rfl) (fun pg ev s m below meth cd ls F hnh hP hK hl => ?_)
  obtain ⟨hxx, hb, hml, hown, hts, hr, hlk⟩ := F
  have S : CallFix pg m cd cX0_must 2 s _ lw_all RX0 := ⟨hxx, hb, hml, hown, hts⟩
  have hl : lv_has ls 2 [(0, .int (bI b)), (1, .int n)] := hl
  have hS : va_S (fA (fun _ => False) s) s.heap s.heap [] := va_S.rf
  refine lv_iload_n hxx hb dX0_must_0 rfl (lv_at hl 0 rfl) ?_
  refine z_ifne (tgt := 13) hxx hb dX0_must_1 (by decide) (fun c1 => ?_) (fun c1 => ?_)
  · exact x_vretM hxx hb hr (by rw [if_pos c1]) rfl hS (by decide) (by decide) dX0_must_13 hlk
  · have hKn := hK.1.1.1 15 _ rfl
    refine W.newcK hxx hb hown (hts _ q342) (hts _ q343) (hts _ q109) rfl dX0_must_4 (by decide) (by decide) hKn.2.1 rfl (fun H1 kC hkC e1 z1 o1 => ?_)
    have hO : OB D s.heap.size 15 (eF .null .null .null (.int 0)) H1 := OB.of ⟨_, rfl, (u_born tyX11 hts in_X11 hKn hkC e1 tyX11_ok).to (fun k hk => by
      have : k = 0 ∨ k = 1 ∨ k = 2 ∨ k = 3 ∨ k = 4 ∨ k = 5 ∨ k = 6 := by omega
      rcases this with rfl | rfl | rfl | rfl | rfl | rfl | rfl <;> rfl)⟩
    have hM : MF s.heap.size H1 := ⟨_, e1, rfl, rfl⟩
    have hZl : Z.1 < s.heap.size := (Array.getElem?_eq_some_iff.mp hP).1
    have hZ1 : H1[Z.1]? = some Z.2 := (o1 _ hZl).trans hP
    have hS : va_S (fA (fun _ => False) s) s.heap H1 [] := ⟨by omega, fun q h1 _ => o1 q h1, fun q h => by cases h⟩
    refine lv_dup hxx hb dX0_must_7 rfl ?_
    refine lv_iload_n hxx hb dX0_must_8 rfl (lv_at hl 1 rfl) ?_
    refine va_callv (va_runI (As := [.int n]) (rest := [.ref s.heap.size]) S (cx_X11_init l htr D t Z s.heap.size (by omega) n) (cwI 1 hts (lw_meth q385) rfl rfl rfl (hts _ q109) (hts _ q383) (hts _ q384) rfl ⟨by decide, by decide, by decide +kernel⟩ ⟨by decide, by decide⟩) ⟨zBlindX, fun U hU hW => ⟨rfl, by rw [hU]; exact ⟨hZ1, hO, hM⟩, hK.warm hW⟩⟩ rfl rfl hl.1 rfl (lv_room (Nat.le_of_ble_eq_true rfl)) dX0_must_9 ⟨by decide, by decide⟩) hS (fun q _ h => Or.inr (by rw [h]; exact Nat.le_refl _)) (fun q h => Or.inr (by rw [h]; exact Nat.le_refl _)) (fun u tt H locs ht _ _ hO _ _ hS => ?_)
    rw [ht] at hO
    have hO : OB D s.heap.size 15 (eF (.ref s.heap.size) u.1 u.2 (.int n)) H := hO
    refine x_athrow hxx hb hS hnh hlk (by decide) (by decide) dX0_must_12 (fun t' ht' hF => ⟨Or.inr ⟨by rw [if_neg (by rw [c1]; decide)]; exact hn, s.heap.size, rfl, 15, .ref s.heap.size, u.1, u.2, Or.inl rfl, by rw [if_neg (by rw [c1]; decide), ht']; exact hO⟩, hF⟩)
