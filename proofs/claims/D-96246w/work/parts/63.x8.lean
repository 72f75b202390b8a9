/-! act: printed by wip/D-96246w/gen/gen_x8.py -/
set_option maxRecDepth 100000
theorem cm_X11_number (l : Launch) (D : va_G) (t : Nat → ClassId) (a : Nat) (f0 f1 f2 : Value) (n : Int32) : Met l yX11_number (ws_ yX11_number cX11_number 1 (some .int)) ({ frames := 0, cells := 0, slots := 0, locals := 0 }) (zPc [.ref a] (OB D a 15 (eF f0 f1 f2 (.int n))) (KK D t)) (QcRead n) 0 0 (fun _ => False) := by
  refine zOf (cc := cX11_number) (maxL := 1) (ret := some .int) (by decide) (Nat.le_of_ble_eq_true rfl) (fun pg ev s m below meth cd ls F hP hKK hl hnm => ?_)
  obtain ⟨hx, hb, hml, hown, hts, hr, hlk⟩ := F
  have hl : lv_has ls 1 [(0, .ref a)] := hl
  refine lv_aload_n hx hb dX11_number_0 rfl (lv_at hl 0 rfl) ?_
  refine c_get (C := RX11) (T := TX11) (N := 7) hx hb hts in_X11 hown hKK hP rfl 6 (by decide) q396 (Or.inl rfl) rfl dX11_number_1 ?_
  exact z_iretR hx hb hr rfl (fun q h => by cases h) rfl dX11_number_4 hlk
theorem cm_X13_number (l : Launch) (D : va_G) (t : Nat → ClassId) (a : Nat) (f0 f1 f2 : Value) (n : Int32) : Met l yX13_number (ws_ yX13_number cX13_number 1 (some .int)) ({ frames := 0, cells := 0, slots := 0, locals := 0 }) (zPc [.ref a] (OB D a 16 (eF f0 f1 f2 (.int n))) (KK D t)) (QcRead n) 0 0 (fun _ => False) := by
  refine zOf (cc := cX13_number) (maxL := 1) (ret := some .int) (by decide) (Nat.le_of_ble_eq_true rfl) (fun pg ev s m below meth cd ls F hP hKK hl hnm => ?_)
  obtain ⟨hx, hb, hml, hown, hts, hr, hlk⟩ := F
  have hl : lv_has ls 1 [(0, .ref a)] := hl
  refine lv_aload_n hx hb dX13_number_0 rfl (lv_at hl 0 rfl) ?_
  refine c_get (C := RX13) (T := TX13) (N := 7) hx hb hts in_X13 hown hKK hP rfl 6 (by decide) q460 (Or.inl rfl) rfl dX13_number_1 ?_
  exact z_iretR hx hb hr rfl (fun q h => by cases h) rfl dX13_number_4 hlk
set_option maxHeartbeats 800000 in
theorem cx_refuse (l : Launch) (htr : l.stackTraces = false) (D : va_G) (t : Nat → ClassId) (Z : Nat × Cell) (cb : Nat) (B : BT) (n : Int32) (h9 : -20 < n → -n = nI (ix (-n)) ∧ ix (-n) < 7) : Met l yX0_refuse (ws_ yX0_refuse cX0_refuse 2 (some .int)) ({ frames := 0, cells := 0, slots := 0, locals := 0 }) (zPc [.ref cb, .int n] (CW D t Z cb B) (KX D t Z)) (va_Qi (fun r u => r = n ∧ u = (if -20 < n then up2 B 1 (ix (-n)) (B 1 (ix (-n)) + 1) else B)) (fun B' U => CW D t Z cb B' U.heap) (cA cb)) 0 0 (cA cb) := by
  refine zOf (cc := cX0_refuse) (maxL := 2) (ret := (some .int)) (by decide) (Nat.le_of_ble_eq_true rfl) (fun pg ev s m below meth cd ls F hW hK hl hnm => ?_)
  obtain ⟨hx, hb, hml, hown, hts, hr, hlk⟩ := F
  have S : CallFix pg m cd cX0_refuse 2 s _ lw_all RX0 := ⟨hx, hb, hml, hown, hts⟩
  have hl : lv_has ls 2 [(0, .ref cb), (1, .int n)] := hl
  have hKK := hK.1
  obtain ⟨hC, hD⟩ := hW
  have hS : va_S (fA (cA cb) s) s.heap s.heap [] := va_S.rf
  refine lv_iload_n hx hb dX0_refuse_0 rfl (lv_at hl 1 rfl) ?_
  refine lv_bipush (v := (-20)) hx hb dX0_refuse_1 (by decide) ?_
  refine lv_icmp_le (tgt := 17) hx hb dX0_refuse_3 (by decide) (fun c3 => ?_) (fun c3 => ?_)
  · refine lv_iload_n hx hb dX0_refuse_17 rfl (lv_at hl 1 rfl) ?_
    exact x_iretC hx hb hr ⟨rfl, (if_neg (Int32.not_lt.mpr c3)).symm⟩ ⟨hC, hD⟩ hS (Nat.le_of_ble_eq_true rfl) (Nat.le_of_ble_eq_true rfl) dX0_refuse_18 hlk
  · have h9n := h9 (Int32.not_le.mp c3)
    refine lv_aload_n hx hb dX0_refuse_6 rfl (lv_at hl 0 rfl) ?_
    refine c_xget (v := .ref (cb + 55)) hx hb hts hown hKK hC 9 (by decide) (Or.inl q294) rfl rfl dX0_refuse_7 ?_
    refine lv_iload_n hx hb dX0_refuse_10 rfl (lv_at hl 1 rfl) ?_
    refine lv_ineg hx hb dX0_refuse_11 ?_
    refine lv_dup2_11 hx hb dX0_refuse_12 rfl rfl ?_
    refine z_iald hx hb hKK.1 hC.2.1 4 0 rfl rfl (k := ix (-n)) h9n.1 (by omega) (by decide) dX0_refuse_13 ?_
    refine lv_iconst (v := 1) hx hb dX0_refuse_14 (by decide) ?_
    refine lv_iadd hx hb dX0_refuse_15 ?_
    refine z_iastq hx hb hKK.1 hC.2.1 (cL_D (fun q h => fC h)) hS 4 0 rfl rfl (k := ix (-n)) h9n.1 (by omega) (by decide) dX0_refuse_16 (fun H locs hP1 _ hq hS => ?_)
    have hW := CW.own (B' := up2 B 1 (ix (-n)) ((B 1 (ix (-n))) + 1)) (⟨hC, hD⟩ : CW D t Z cb B _) (up2_ne _ _ _ (by decide)) (up2_ne _ _ _ (by decide)) rfl (hP1 : MR D t cb (up2 B 1 (ix (-n)) ((B 1 (ix (-n))) + 1)) H) (fun q _ h => hq q (fun z => h (by unfold cO; omega)))
    obtain ⟨hC, hD⟩ := hW
    refine lv_iload_n hx hb dX0_refuse_17 rfl (lv_at hl 1 rfl) ?_
    exact x_iretC hx hb hr ⟨rfl, (if_pos (Int32.not_le.mp c3)).symm⟩ ⟨hC, hD⟩ hS (Nat.le_of_ble_eq_true rfl) (Nat.le_of_ble_eq_true rfl) dX0_refuse_18 hlk
/-- what act makes of an answer or of a throw -/
def acX (N : Int32) (u : OT) (v : BT) : OT := if N = 0 then u else if -20 < N then refS v N else (N, v)
section AC
variable {p : Program} {l : Launch} {e : Env} {R : Room} {s : State} {m : MethodId} {args : Array Value} {below : List Frame} {meth : Method} {c : Code} {H : Heap} {locs : List Loc} {cells slots : Nat} {Q : State → Prop} {cc : ByteArray} {pc : Nat} {ls : Array Slot} {rest st0 : List Value} {D : va_G} {t : Nat → ClassId} {Z : Nat × Cell} {cb : Nat} {mc ms : Nat}
/-- a call in a method whose handler takes what is thrown -/
theorem x_catch {N : Int32} {a : Array Value} {u : OT} {v : BT} (hr : XRun p l e R s m args below meth c H locs cells slots mc ms (F0 m pc ls st0) rest (QX D t Z cb N u v a) (cA cb)) (hS : va_S (fA (cA cb) s) s.heap H locs)
    {en : ClassFile.ExceptionTableEntry} (htab : c.exceptionTable.toList = [en]) (hlo : en.startPc ≤ pc) (hhi : pc < en.endPc) (h0 : en.catchType = 223) (hh : en.handlerPc = 44) (hts : ∀ w ∈ lw_all, w.before args s = true) (hown : s.vm.findClass RX0 = some m.cls) (hKK : KK D t s)
    (kr : N = 0 → ∀ (H1 : Heap) (locs1 : List Loc), CW D t Z cb u.2 H1 → va_S (fA (cA cb) s) s.heap H1 locs1 → W p l e R s m args below meth c H1 locs1 (cells + mc) (slots + ms) Q (F0 m (pc + 3) ls (.int u.1 :: rest)))
    (kt : ¬ N = 0 → ∀ (x : Addr) (H1 : Heap) (locs1 : List Loc), RF D x N H1 → CW D t Z cb v H1 → va_S (fA (cA cb) s) s.heap H1 locs1 → W p l e R s m args below meth c H1 locs1 (cells + mc) (slots + ms) Q (F0 m 44 ls [.ref x])) :
    W p l e R s m args below meth c H locs cells slots Q (F0 m pc ls st0) := by
  intro T hT X
  obtain ⟨o, st₀, tt, T', L, h0', X', hL, e1, e2, hq, hst⟩ := hr T hT X
  have hz := hq.2
  have hS1 : va_S (fA (cA cb) s) s.heap T'.heap (locs ++ L) := ⟨Nat.le_trans hS.1 (by rw [e1, ← h0']; exact hz.1), fun q h1 h2 => by
    have h3 : q < st₀.heap.size := by rw [h0']; exact Nat.lt_of_lt_of_le h1 hS.1
    rw [e1, hz.2 q h3 (fun z => h2 (Or.inl z)), h0']; exact hS.2.1 q h1 h2, fun q hq => by
      rcases List.mem_append.mp hq with h | h
      · exact hS.2.2 q h
      · exact Or.inl (hL q h)⟩
  rcases hst with ⟨v', rfl, st⟩ | ⟨x, rfl, st⟩
  · rcases hq.1 with ⟨h1, h2, h3⟩ | ⟨h1, x, h2, -⟩
    · cases h2
      obtain ⟨t2, a1, b1⟩ := kr h1 T'.heap (locs ++ L) (by rw [e1]; exact h3) hS1 T' rfl X'
      exact ⟨t2, st t2 a1, b1⟩
    · cases h2
  · rcases hq.1 with ⟨h1, h2, h3⟩ | ⟨h1, x', h2, h3, h4⟩
    · cases h2
    · cases h2
      have hR : RF D x N T'.heap := by rw [e1]; exact h3
      have hfit : ∃ (cell : Cell) (cT : ClassId), T'.heap[x]? = some cell ∧ cell.vm = .none ∧ s.vm.findClass "SongThatStays$Refusal" = some cT ∧ s.vm.assignable cell.cls cT = true := by
        obtain ⟨ci, f0, f1, f2, hci, hO⟩ := hR
        obtain ⟨rc, hrc, cell, g1, g2, g3, -⟩ := hO.at
        rcases hci with rfl | rfl
        · obtain ⟨c0, t1, w1, w2, w3⟩ := Cond.castable_spec (va_Nw.use (A := #[]) rfl (hKK.2.1 _ q1591 rfl))
          have hc := (hKK.1.1 15 _ rfl).2.1
          cases hc.symm.trans w1
          exact ⟨cell, t1, g1, g3, w2, by rw [g2]; exact w3⟩
        · obtain ⟨c0, t1, w1, w2, w3⟩ := Cond.castable_spec (va_Nw.use (A := #[]) rfl (hKK.2.1 _ q1590 rfl))
          have hc := (hKK.1.1 16 _ rfl).2.1
          cases hc.symm.trans w1
          exact ⟨cell, t1, g1, g3, w2, by rw [g2]; exact w3⟩
      obtain ⟨cell, cT, g1, g2, g3, g4⟩ := hfit
      obtain ⟨T2, eT, X2, st2⟩ := a_catch X' (x := x) (g := { (F0 m pc ls st0) with stack := rest }) rfl htab hlo hhi (by rw [h0]; decide) hown (by rw [h0]; exact hts _ q326) g3 g1 (fun k hk => by rw [g2] at hk; cases hk) g4
      obtain ⟨t2, a1, b1⟩ := kt h1 x T'.heap (locs ++ L) hR (by rw [e1]; exact h4) hS1 T2 eT X2
      refine ⟨t2, st.trans (st2 t2 ?_), b1⟩
      rw [hh]
      exact a1
/-- a call of a method with handlers -/
theorem a_runVW {y : MethodName} {bytes : ByteArray} {maxL nL n index : Nat} {ret : Option FieldType} {hh : List (Nat × Nat × Nat × Nat)} {rm : Room} {P : Heap → Prop} {Qc : Array Value → State → Outcome → State → Prop} {free : Addr → Prop} {own C : String} {b : Nat} {As : List Value}
    (S : CallFix p m c cc nL s args lw_all own) (hK : KX D t Z s) (hP : P H) (hrec : ∃ cellB : Cell, H[b]? = some cellB ∧ cellB.vm.isStatics = false ∧ s.vm.findClass C = some cellB.cls)
    (hM : Met l y (wsW_ y bytes maxL ret hh) rm (zPc (.ref b :: As) P (KX D t Z)) Qc mc ms free) (hcode : Cond.codeWith y bytes maxL ret hh ∈ lw_all) (hlink : Cond.methodLink own index y ∈ lw_all) (hinst : Cond.instanceMethod y ∈ lw_all) (hsel : Cond.selects C y y ∈ lw_all) (hini : Cond.initialized y.cls ∈ lw_all)
    (hrc : rm.cells = mc) (hrs : rm.slots = ms) (hfr : rm.frames + 1 ≤ R.frames) (hlo : 8 + (maxL + 11) + rm.locals ≤ R.locals) (hy : y.cls ≠ "java/lang/invoke/MethodHandle" ∧ y.cls ≠ "java/lang/invoke/VarHandle") (hlen : (parseMethodDescriptor y.desc).map (fun d => d.parameters.length) = some n)
    (hn : As.length = n) (hl : ls.size = nL) (hst : st0 = As.reverse ++ .ref b :: rest) (hW : (rest.map fun v => v.category).sum ≤ 8) (hdg : decode cc pc = .ok (.invokevirtual index, 3)) (hf : cells + mc ≤ R.cells ∧ slots + ms ≤ R.slots) :
    va_Run p l e R s m args below meth c H locs cells slots mc ms (F0 m pc ls st0) rest (Qc (Value.ref b :: As).toArray) free := by
  subst hst
  obtain ⟨hx, hb, hml, hown, hts⟩ := S
  have hB : Back l R p e below s args y 3 8 (PreOf R mc ms (zPc (.ref b :: As) P (KX D t Z))) (PostOf Qc mc ms free) := va_backW (hh := hh) (bytes := bytes) (maxL := maxL) (ret := ret) hM zBlindX hrc hrs hfr hlo (pay_in hts (lw_methW hcode)) List.mem_cons_self (fun a' U hW => word_at hW (lw_self _ hini).2 (hts _ hini))
  obtain ⟨cellB, hcell, hobj, hcls⟩ := hrec
  intro T hT X
  have hcell : T.heap[b]? = some cellB := by rw [hT]; exact hcell
  have hdg' : decode c.code (F0 m pc ls (As.reverse ++ .ref b :: rest)).pc = .ok (.invokevirtual index, 3) := by rw [hb]; exact hdg
  obtain ⟨mk, methM, hnamed, hmethM, hstM, habM⟩ := Cond.instanceMethod_spec (hts _ hinst)
  obtain ⟨mk2, methM', cM, hnamed2, hmethM', -, -, -, -, -, -, hsigM⟩ := Cond.codeWith_spec (hts _ hcode)
  cases hnamed.symm.trans hnamed2
  cases hmethM.symm.trans hmethM'
  obtain ⟨c2, r2, m2, q1, q2, q3, q4, kP, hkP, hkPi⟩ := Cond.selects_spec (hts _ hsel)
  cases hcls.symm.trans q1
  cases (State.methodFound?_of_named hnamed hy).symm.trans q2
  cases hnamed.symm.trans q3
  have hselP : selectMethod e.platform s.vm cellB.cls mk = .method mk := by rw [Launch.admits_selectMethod X.admits]; exact q4
  have hlen' : As.length = methM.sig.parameters.length := by
    rw [hsigM] at hlen
    exact hn.trans (Option.some.inj hlen).symm
  obtain ⟨vm₁, X₁, hstep₁⟩ := X.invokevirtual hx hown (hts _ hlink) hnamed hmethM hstM hkP hkPi hy (a := b) (cell := cellB) hcell
    (fun z h => by rw [h] at hobj; cases hobj) hselP hmethM habM hkP hkPi (g := F0 m pc ls (As.reverse ++ .ref b :: rest)) rfl (argsL := As) (rest := rest) hlen' rfl hdg'
  obtain ⟨v, ⟨U', l2, c2, s2⟩, X', ⟨g', mk', tt, L, e1, e2, hq, h1, hL, h2, h3⟩, st⟩ := hB m meth c ⟨T.setVm vm₁, locs, cells, slots⟩ { (F0 m pc ls (As.reverse ++ .ref b :: rest)) with stack := rest } (.invokevirtual index) mk (Value.ref b :: As).toArray X₁ rfl (hl.trans hml.symm) hdg' (lv_room (m := m) (pc := pc) (ls := ls) (rest := rest) hW) (X₁.named hnamed) ⟨hf.1, hf.2, rfl, by rw [show (T.setVm vm₁).heap = H from hT]; exact hP, hK.warm X₁.warmed⟩
  dsimp only [Pt.U, Pt.locs, Pt.cells, Pt.slots] at X' e1 e2 h1 h2 h3 st
  subst h1; subst h2; subst h3
  exact ⟨v, (T.setVm vm₁).calling g' mk' (Value.ref b :: As).toArray, tt, U', L, hT, X', hL, e1, e2, hq, fun target h => hstep₁ _ fun acts => by rw [doInvoke_state]; exact st.trans h⟩
end AC
set_option maxHeartbeats 1600000 in
theorem act_o (l : Launch) (htr : l.stackTraces = false) (D : va_G) (t : Nat → ClassId) (Z : Nat × Cell) (cb : Nat) (B : BT) (w x y z : Int32) (hw : w < 11) {N : Int32} {u : OT} {v : BT} (h9 : ¬ N = 0 → -20 < N → -N = nI (ix (-N)) ∧ ix (-N) < 7) {rm : Room} {mc ms : Nat}
    (hM : MetX l yX0_ofOffice (ws_ yX0_ofOffice cX0_ofOffice 4 (some .int)) rm (zPc [.ref cb, .int w, .int x, .int y] (CW D t Z cb B) (KX D t Z)) (QX D t Z cb N u v) mc ms (cA cb)) (hrc : rm.cells = mc) (hrs : rm.slots = ms) (hfr : rm.frames ≤ 13) (hlo : rm.locals ≤ 335) (hmc : mc ≤ 1000) (hms : ms ≤ 5000) :
    Met l yX0_act (wsW_ yX0_act cX0_act 6 (some .int) [(0, 43, 44, 223)]) ({ frames := 14, cells := 1000, slots := 5000, locals := 360 }) (zPc [.ref cb, .int w, .int x, .int y, .int z] (CW D t Z cb B) (KX D t Z)) (va_Qi (fun r b => r = (acX N u v).1 ∧ b = (acX N u v).2) (fun B' U => CW D t Z cb B' U.heap) (cA cb)) 1000 5000 (cA cb) := by
  refine va_MetW (cc := cX0_act) (maxL := 6) (ret := some .int) (hh := [(0, 43, 44, 223)]) (by decide) rfl ?_
  intro pg ev s m args below meth cd s₁ Bd hml hv
  obtain ⟨rfl, hW, hK⟩ := hv
  have hts0 := atoms_spec (ws := wsW_ yX0_act cX0_act 6 (some .int) [(0, 43, 44, 223)]) Bd.pre
  have hts : ∀ w ∈ lw_all, w.before _ s = true := fun w h => hts0 w (List.mem_cons_of_mem _ h)
  have hown : s.vm.findClass RX0 = some m.cls := findClass_of_methodNamed Bd.named
  have hx := Bd.exec
  have hb := Bd.bytes
  have hr := Bd.returns
  have hlk := Bd.notSynchronized
  obtain ⟨m9, meth9, c9, hn9, hm9, hc9, -, -, htab, -, -, -⟩ := Cond.codeWith_spec (hts0 _ List.mem_cons_self)
  cases Bd.named.symm.trans hn9
  cases Bd.method.symm.trans hm9
  cases (Stand.of_body Bd).code.symm.trans hc9
  obtain ⟨en, hen, he1, he2, he3, he4⟩ : ∃ en, cd.exceptionTable.toList = [en] ∧ en.startPc = 0 ∧ en.endPc = 43 ∧ en.handlerPc = 44 ∧ en.catchType = 223 := by
    cases hq : cd.exceptionTable.toList with
    | nil => rw [hq] at htab; cases htab
    | cons a r =>
      rw [hq] at htab
      cases r with
      | nil =>
        simp only [List.map_cons, List.map_nil, List.cons.injEq, Prod.mk.injEq, and_true] at htab
        exact ⟨a, rfl, htab.1, htab.2.1, htab.2.2.1, htab.2.2.2⟩
      | cons b r2 => simp at htab
  have hKK := hK.1
  have S : CallFix pg m cd cX0_act 6 s _ lw_all RX0 := ⟨hx, hb, hml, hown, hts⟩
  have hl := lv_entry [.ref cb, .int w, .int x, .int y, .int z] (n := 6) (Nat.le_of_ble_eq_true rfl)
  rw [lg_entry_eq]
  refine (fun (K : ∀ ls : Array Slot, lv_has ls 6 [(0, .ref cb), (1, .int w), (2, .int x), (3, .int y), (4, .int z)] → W pg l ev ({ frames := 14, cells := 1000, slots := 5000, locals := 360 }) s m _ below meth cd s.heap [] 0 0 (MQ below (va_Qi (fun r b => r = (acX N u v).1 ∧ b = (acX N u v).2) (fun B' U => CW D t Z cb B' U.heap) (cA cb)) _ s 1000 5000 (cA cb)) (F0 m 0 ls [])) => K _ hl) (fun ls hl => ?_)
  have hS : va_S (fA (cA cb) s) s.heap s.heap [] := va_S.rf
  refine lv_iload_n hx hb dX0_act_0 rfl (lv_at hl 1 rfl) ?_
  refine lv_bipush (v := 11) hx hb dX0_act_1 (by decide) ?_
  refine lv_icmp_ge (tgt := 16) hx hb dX0_act_3 (by decide) (fun c3 => absurd hw (Int32.not_lt.mpr c3)) (fun c3 => ?_)
  refine lv_aload_n hx hb dX0_act_6 rfl (lv_at hl 0 rfl) ?_
  refine lv_iload_n hx hb dX0_act_7 rfl (lv_at hl 1 rfl) ?_
  refine lv_iload_n hx hb dX0_act_8 rfl (lv_at hl 2 rfl) ?_
  refine lv_iload_n hx hb dX0_act_9 rfl (lv_at hl 3 rfl) ?_
  refine x_catch (xx_runV (As := [.int w, .int x, .int y]) (rest := []) S hK hW (hW.1.recv hKK) hM (cwV 3 hts (lw_V q327 q329 qs1 q95 q330) rfl hrc hrs (by decide +kernel) ⟨by show rm.frames + 1 ≤ 14; omega, by show 8 + (4 + 11) + rm.locals ≤ 360; omega⟩) rfl hl.1 rfl (Nat.le_of_ble_eq_true rfl) dX0_act_10 ⟨by show 0 + mc ≤ 1000; omega, by show 0 + ms ≤ 5000; omega⟩) hS hen (by omega) (by omega) he4 he3 hts hown hKK (fun n1 H locs hW hS => ?_) (fun n1 x9 H locs hR hW hS => ?_)
  · refine lv_goto (tgt := 43) hx hb dX0_act_13 (by decide) ?_
    exact x_iretC hx hb hr ⟨by unfold acX; rw [if_pos n1], by unfold acX; rw [if_pos n1]⟩ hW hS (by show 0 + mc ≤ 1000; omega) (by show 0 + ms ≤ 5000; omega) dX0_act_43 hlk
  · refine lv_astore (lv' := [(5, .ref x9), (0, .ref cb), (1, .int w), (2, .int x), (3, .int y), (4, .int z)]) hx hb dX0_act_44 hl (by decide) rfl (fun ls hl => ?_)
    refine lv_aload_n hx hb dX0_act_46 rfl (lv_at hl 1 rfl) ?_
    refine lv_aload hx hb dX0_act_47 (lv_at hl 0 rfl) ?_
    obtain ⟨ci, f0, f1, f2, hci, hO⟩ := hR
    have hz := hKK.2.1 _ q1100 rfl
    have hfc : (0 + mc ≤ 1000) ∧ (0 + ms ≤ 5000) := ⟨by omega, by omega⟩
    have K2 : W pg l ev ({ frames := 14, cells := 1000, slots := 5000, locals := 360 }) s m [Value.ref cb, .int w, .int x, .int y, .int z].toArray below meth cd H locs (0 + mc) (0 + ms) (MQ below (va_Qi (fun r b => r = (acX N u v).1 ∧ b = (acX N u v).2) (fun B' U => CW D t Z cb B' U.heap) (cA cb)) [Value.ref cb, .int w, .int x, .int y, .int z].toArray s 1000 5000 (cA cb)) (F0 m (44 + 2 + 1 + 2 + 3) ls [.int N, .ref cb]) := by
      refine va_calli (gx_runV (As := [.int N]) (rest := []) S hK hW (hW.1.recv hKK) (cx_refuse l htr D t Z cb v N (h9 n1)) (cwV 1 hts (lw_V q1108 q1110 qs58 q95 q1111) rfl rfl rfl (by decide +kernel) ⟨Nat.le_of_ble_eq_true rfl, Nat.le_of_ble_eq_true rfl⟩) rfl hl.1 rfl (Nat.le_of_ble_eq_true rfl) dX0_act_52 hfc) hS (fun q _ h => Or.inl h) (fun q h => Or.inl h) (fun r9 u9 tt H locs ht _ h9 hW _ _ hS => ?_)
      rw [ht] at hW
      obtain ⟨e1, e2⟩ := h9
      have hW : CW D t Z cb u9 H := hW
      have e3 : r9 = (acX N u v).1 ∧ u9 = (acX N u v).2 := by
        unfold acX
        rw [if_neg n1, e1, e2]
        by_cases q : -20 < N
        · rw [if_pos q, if_pos q]; exact ⟨rfl, rfl⟩
        · rw [if_neg q, if_neg q]; exact ⟨rfl, rfl⟩
      exact x_iretC hx hb hr e3 hW hS (by show 0 + mc + 0 ≤ 1000; omega) (by show 0 + ms + 0 ≤ 5000; omega) dX0_act_55 hlk
    rcases hci with rfl | rfl
    · exact c_callA (C := RX11) (As := []) (rest := [.ref cb]) S hKK hO hO rfl (cm_X11_number l D t x9 f0 f1 f2 N) (va_cwA 0 hts (lw_U q1099 q1101 q1105 q1106 q109 q1107) rfl rfl rfl hz ⟨by decide, by decide, by decide +kernel⟩ ⟨Nat.le_of_ble_eq_true rfl, Nat.le_of_ble_eq_true rfl⟩) rfl hl.1 rfl (Nat.le_of_ble_eq_true rfl) dX0_act_49 hfc K2
    · exact c_callA (C := RX13) (As := []) (rest := [.ref cb]) S hKK hO hO rfl (cm_X13_number l D t x9 f0 f1 f2 N) (va_cwA 0 hts (lw_U q1099 q1101 q1102 q1103 q111 q1104) rfl rfl rfl hz ⟨by decide, by decide, by decide +kernel⟩ ⟨Nat.le_of_ble_eq_true rfl, Nat.le_of_ble_eq_true rfl⟩) rfl hl.1 rfl (Nat.le_of_ble_eq_true rfl) dX0_act_49 hfc K2
set_option maxHeartbeats 1600000 in
theorem act_h (l : Launch) (htr : l.stackTraces = false) (D : va_G) (t : Nat → ClassId) (Z : Nat × Cell) (cb : Nat) (B : BT) (w x y z : Int32) (hw : 11 ≤ w ∧ w < 21) {N : Int32} {u : OT} {v : BT} (h9 : ¬ N = 0 → -20 < N → -N = nI (ix (-N)) ∧ ix (-N) < 7) {rm : Room} {mc ms : Nat}
    (hM : MetX l yX0_ofHours (ws_ yX0_ofHours cX0_ofHours 5 (some .int)) rm (zPc [.ref cb, .int w, .int x, .int y, .int z] (CW D t Z cb B) (KX D t Z)) (QX D t Z cb N u v) mc ms (cA cb)) (hrc : rm.cells = mc) (hrs : rm.slots = ms) (hfr : rm.frames ≤ 13) (hlo : rm.locals ≤ 335) (hmc : mc ≤ 1000) (hms : ms ≤ 5000) :
    Met l yX0_act (wsW_ yX0_act cX0_act 6 (some .int) [(0, 43, 44, 223)]) ({ frames := 14, cells := 1000, slots := 5000, locals := 360 }) (zPc [.ref cb, .int w, .int x, .int y, .int z] (CW D t Z cb B) (KX D t Z)) (va_Qi (fun r b => r = (acX N u v).1 ∧ b = (acX N u v).2) (fun B' U => CW D t Z cb B' U.heap) (cA cb)) 1000 5000 (cA cb) := by
  refine va_MetW (cc := cX0_act) (maxL := 6) (ret := some .int) (hh := [(0, 43, 44, 223)]) (by decide) rfl ?_
  intro pg ev s m args below meth cd s₁ Bd hml hv
  obtain ⟨rfl, hW, hK⟩ := hv
  have hts0 := atoms_spec (ws := wsW_ yX0_act cX0_act 6 (some .int) [(0, 43, 44, 223)]) Bd.pre
  have hts : ∀ w ∈ lw_all, w.before _ s = true := fun w h => hts0 w (List.mem_cons_of_mem _ h)
  have hown : s.vm.findClass RX0 = some m.cls := findClass_of_methodNamed Bd.named
  have hx := Bd.exec
  have hb := Bd.bytes
  have hr := Bd.returns
  have hlk := Bd.notSynchronized
  obtain ⟨m9, meth9, c9, hn9, hm9, hc9, -, -, htab, -, -, -⟩ := Cond.codeWith_spec (hts0 _ List.mem_cons_self)
  cases Bd.named.symm.trans hn9
  cases Bd.method.symm.trans hm9
  cases (Stand.of_body Bd).code.symm.trans hc9
  obtain ⟨en, hen, he1, he2, he3, he4⟩ : ∃ en, cd.exceptionTable.toList = [en] ∧ en.startPc = 0 ∧ en.endPc = 43 ∧ en.handlerPc = 44 ∧ en.catchType = 223 := by
    cases hq : cd.exceptionTable.toList with
    | nil => rw [hq] at htab; cases htab
    | cons a r =>
      rw [hq] at htab
      cases r with
      | nil =>
        simp only [List.map_cons, List.map_nil, List.cons.injEq, Prod.mk.injEq, and_true] at htab
        exact ⟨a, rfl, htab.1, htab.2.1, htab.2.2.1, htab.2.2.2⟩
      | cons b r2 => simp at htab
  have hKK := hK.1
  have S : CallFix pg m cd cX0_act 6 s _ lw_all RX0 := ⟨hx, hb, hml, hown, hts⟩
  have hl := lv_entry [.ref cb, .int w, .int x, .int y, .int z] (n := 6) (Nat.le_of_ble_eq_true rfl)
  rw [lg_entry_eq]
  refine (fun (K : ∀ ls : Array Slot, lv_has ls 6 [(0, .ref cb), (1, .int w), (2, .int x), (3, .int y), (4, .int z)] → W pg l ev ({ frames := 14, cells := 1000, slots := 5000, locals := 360 }) s m _ below meth cd s.heap [] 0 0 (MQ below (va_Qi (fun r b => r = (acX N u v).1 ∧ b = (acX N u v).2) (fun B' U => CW D t Z cb B' U.heap) (cA cb)) _ s 1000 5000 (cA cb)) (F0 m 0 ls [])) => K _ hl) (fun ls hl => ?_)
  have hS : va_S (fA (cA cb) s) s.heap s.heap [] := va_S.rf
  refine lv_iload_n hx hb dX0_act_0 rfl (lv_at hl 1 rfl) ?_
  refine lv_bipush (v := 11) hx hb dX0_act_1 (by decide) ?_
  refine lv_icmp_ge (tgt := 16) hx hb dX0_act_3 (by decide) (fun c3 => ?_) (fun c3 => absurd hw.1 c3)
  refine lv_iload_n hx hb dX0_act_16 rfl (lv_at hl 1 rfl) ?_
  refine lv_bipush (v := 21) hx hb dX0_act_17 (by decide) ?_
  refine lv_icmp_ge (tgt := 34) hx hb dX0_act_19 (by decide) (fun c3 => absurd hw.2 (Int32.not_lt.mpr c3)) (fun c3 => ?_)
  refine lv_aload_n hx hb dX0_act_22 rfl (lv_at hl 0 rfl) ?_
  refine lv_iload_n hx hb dX0_act_23 rfl (lv_at hl 1 rfl) ?_
  refine lv_iload_n hx hb dX0_act_24 rfl (lv_at hl 2 rfl) ?_
  refine lv_iload_n hx hb dX0_act_25 rfl (lv_at hl 3 rfl) ?_
  refine lv_iload hx hb dX0_act_26 (lv_at hl 4 rfl) ?_
  refine x_catch (xx_runV (As := [.int w, .int x, .int y, .int z]) (rest := []) S hK hW (hW.1.recv hKK) hM (cwV 4 hts (lw_V q956 q958 qs29 q95 q959) rfl hrc hrs (by decide +kernel) ⟨by show rm.frames + 1 ≤ 14; omega, by show 8 + (5 + 11) + rm.locals ≤ 360; omega⟩) rfl hl.1 rfl (Nat.le_of_ble_eq_true rfl) dX0_act_28 ⟨by show 0 + mc ≤ 1000; omega, by show 0 + ms ≤ 5000; omega⟩) hS hen (by omega) (by omega) he4 he3 hts hown hKK (fun n1 H locs hW hS => ?_) (fun n1 x9 H locs hR hW hS => ?_)
  · refine lv_goto (tgt := 43) hx hb dX0_act_31 (by decide) ?_
    exact x_iretC hx hb hr ⟨by unfold acX; rw [if_pos n1], by unfold acX; rw [if_pos n1]⟩ hW hS (by show 0 + mc ≤ 1000; omega) (by show 0 + ms ≤ 5000; omega) dX0_act_43 hlk
  · refine lv_astore (lv' := [(5, .ref x9), (0, .ref cb), (1, .int w), (2, .int x), (3, .int y), (4, .int z)]) hx hb dX0_act_44 hl (by decide) rfl (fun ls hl => ?_)
    refine lv_aload_n hx hb dX0_act_46 rfl (lv_at hl 1 rfl) ?_
    refine lv_aload hx hb dX0_act_47 (lv_at hl 0 rfl) ?_
    obtain ⟨ci, f0, f1, f2, hci, hO⟩ := hR
    have hz := hKK.2.1 _ q1100 rfl
    have hfc : (0 + mc ≤ 1000) ∧ (0 + ms ≤ 5000) := ⟨by omega, by omega⟩
    have K2 : W pg l ev ({ frames := 14, cells := 1000, slots := 5000, locals := 360 }) s m [Value.ref cb, .int w, .int x, .int y, .int z].toArray below meth cd H locs (0 + mc) (0 + ms) (MQ below (va_Qi (fun r b => r = (acX N u v).1 ∧ b = (acX N u v).2) (fun B' U => CW D t Z cb B' U.heap) (cA cb)) [Value.ref cb, .int w, .int x, .int y, .int z].toArray s 1000 5000 (cA cb)) (F0 m (44 + 2 + 1 + 2 + 3) ls [.int N, .ref cb]) := by
      refine va_calli (gx_runV (As := [.int N]) (rest := []) S hK hW (hW.1.recv hKK) (cx_refuse l htr D t Z cb v N (h9 n1)) (cwV 1 hts (lw_V q1108 q1110 qs58 q95 q1111) rfl rfl rfl (by decide +kernel) ⟨Nat.le_of_ble_eq_true rfl, Nat.le_of_ble_eq_true rfl⟩) rfl hl.1 rfl (Nat.le_of_ble_eq_true rfl) dX0_act_52 hfc) hS (fun q _ h => Or.inl h) (fun q h => Or.inl h) (fun r9 u9 tt H locs ht _ h9 hW _ _ hS => ?_)
      rw [ht] at hW
      obtain ⟨e1, e2⟩ := h9
      have hW : CW D t Z cb u9 H := hW
      have e3 : r9 = (acX N u v).1 ∧ u9 = (acX N u v).2 := by
        unfold acX
        rw [if_neg n1, e1, e2]
        by_cases q : -20 < N
        · rw [if_pos q, if_pos q]; exact ⟨rfl, rfl⟩
        · rw [if_neg q, if_neg q]; exact ⟨rfl, rfl⟩
      exact x_iretC hx hb hr e3 hW hS (by show 0 + mc + 0 ≤ 1000; omega) (by show 0 + ms + 0 ≤ 5000; omega) dX0_act_55 hlk
    rcases hci with rfl | rfl
    · exact c_callA (C := RX11) (As := []) (rest := [.ref cb]) S hKK hO hO rfl (cm_X11_number l D t x9 f0 f1 f2 N) (va_cwA 0 hts (lw_U q1099 q1101 q1105 q1106 q109 q1107) rfl rfl rfl hz ⟨by decide, by decide, by decide +kernel⟩ ⟨Nat.le_of_ble_eq_true rfl, Nat.le_of_ble_eq_true rfl⟩) rfl hl.1 rfl (Nat.le_of_ble_eq_true rfl) dX0_act_49 hfc K2
    · exact c_callA (C := RX13) (As := []) (rest := [.ref cb]) S hKK hO hO rfl (cm_X13_number l D t x9 f0 f1 f2 N) (va_cwA 0 hts (lw_U q1099 q1101 q1102 q1103 q111 q1104) rfl rfl rfl hz ⟨by decide, by decide, by decide +kernel⟩ ⟨Nat.le_of_ble_eq_true rfl, Nat.le_of_ble_eq_true rfl⟩) rfl hl.1 rfl (Nat.le_of_ble_eq_true rfl) dX0_act_49 hfc K2
set_option maxHeartbeats 1600000 in
theorem act_r (l : Launch) (htr : l.stackTraces = false) (D : va_G) (t : Nat → ClassId) (Z : Nat × Cell) (cb : Nat) (B : BT) (w x y z : Int32) (hw : 11 ≤ w ∧ 21 ≤ w) {N : Int32} {u : OT} {v : BT} (h9 : ¬ N = 0 → -20 < N → -N = nI (ix (-N)) ∧ ix (-N) < 7) {rm : Room} {mc ms : Nat}
    (hM : MetX l yX0_ofRest (ws_ yX0_ofRest cX0_ofRest 5 (some .int)) rm (zPc [.ref cb, .int w, .int x, .int y, .int z] (CW D t Z cb B) (KX D t Z)) (QX D t Z cb N u v) mc ms (cA cb)) (hrc : rm.cells = mc) (hrs : rm.slots = ms) (hfr : rm.frames ≤ 13) (hlo : rm.locals ≤ 335) (hmc : mc ≤ 1000) (hms : ms ≤ 5000) :
    Met l yX0_act (wsW_ yX0_act cX0_act 6 (some .int) [(0, 43, 44, 223)]) ({ frames := 14, cells := 1000, slots := 5000, locals := 360 }) (zPc [.ref cb, .int w, .int x, .int y, .int z] (CW D t Z cb B) (KX D t Z)) (va_Qi (fun r b => r = (acX N u v).1 ∧ b = (acX N u v).2) (fun B' U => CW D t Z cb B' U.heap) (cA cb)) 1000 5000 (cA cb) := by
  refine va_MetW (cc := cX0_act) (maxL := 6) (ret := some .int) (hh := [(0, 43, 44, 223)]) (by decide) rfl ?_
  intro pg ev s m args below meth cd s₁ Bd hml hv
  obtain ⟨rfl, hW, hK⟩ := hv
  have hts0 := atoms_spec (ws := wsW_ yX0_act cX0_act 6 (some .int) [(0, 43, 44, 223)]) Bd.pre
  have hts : ∀ w ∈ lw_all, w.before _ s = true := fun w h => hts0 w (List.mem_cons_of_mem _ h)
  have hown : s.vm.findClass RX0 = some m.cls := findClass_of_methodNamed Bd.named
  have hx := Bd.exec
  have hb := Bd.bytes
  have hr := Bd.returns
  have hlk := Bd.notSynchronized
  obtain ⟨m9, meth9, c9, hn9, hm9, hc9, -, -, htab, -, -, -⟩ := Cond.codeWith_spec (hts0 _ List.mem_cons_self)
  cases Bd.named.symm.trans hn9
  cases Bd.method.symm.trans hm9
  cases (Stand.of_body Bd).code.symm.trans hc9
  obtain ⟨en, hen, he1, he2, he3, he4⟩ : ∃ en, cd.exceptionTable.toList = [en] ∧ en.startPc = 0 ∧ en.endPc = 43 ∧ en.handlerPc = 44 ∧ en.catchType = 223 := by
    cases hq : cd.exceptionTable.toList with
    | nil => rw [hq] at htab; cases htab
    | cons a r =>
      rw [hq] at htab
      cases r with
      | nil =>
        simp only [List.map_cons, List.map_nil, List.cons.injEq, Prod.mk.injEq, and_true] at htab
        exact ⟨a, rfl, htab.1, htab.2.1, htab.2.2.1, htab.2.2.2⟩
      | cons b r2 => simp at htab
  have hKK := hK.1
  have S : CallFix pg m cd cX0_act 6 s _ lw_all RX0 := ⟨hx, hb, hml, hown, hts⟩
  have hl := lv_entry [.ref cb, .int w, .int x, .int y, .int z] (n := 6) (Nat.le_of_ble_eq_true rfl)
  rw [lg_entry_eq]
  refine (fun (K : ∀ ls : Array Slot, lv_has ls 6 [(0, .ref cb), (1, .int w), (2, .int x), (3, .int y), (4, .int z)] → W pg l ev ({ frames := 14, cells := 1000, slots := 5000, locals := 360 }) s m _ below meth cd s.heap [] 0 0 (MQ below (va_Qi (fun r b => r = (acX N u v).1 ∧ b = (acX N u v).2) (fun B' U => CW D t Z cb B' U.heap) (cA cb)) _ s 1000 5000 (cA cb)) (F0 m 0 ls [])) => K _ hl) (fun ls hl => ?_)
  have hS : va_S (fA (cA cb) s) s.heap s.heap [] := va_S.rf
  refine lv_iload_n hx hb dX0_act_0 rfl (lv_at hl 1 rfl) ?_
  refine lv_bipush (v := 11) hx hb dX0_act_1 (by decide) ?_
  refine lv_icmp_ge (tgt := 16) hx hb dX0_act_3 (by decide) (fun c3 => ?_) (fun c3 => absurd hw.1 c3)
  refine lv_iload_n hx hb dX0_act_16 rfl (lv_at hl 1 rfl) ?_
  refine lv_bipush (v := 21) hx hb dX0_act_17 (by decide) ?_
  refine lv_icmp_ge (tgt := 34) hx hb dX0_act_19 (by decide) (fun c3 => ?_) (fun c3 => absurd hw.2 c3)
  refine lv_aload_n hx hb dX0_act_34 rfl (lv_at hl 0 rfl) ?_
  refine lv_iload_n hx hb dX0_act_35 rfl (lv_at hl 1 rfl) ?_
  refine lv_iload_n hx hb dX0_act_36 rfl (lv_at hl 2 rfl) ?_
  refine lv_iload_n hx hb dX0_act_37 rfl (lv_at hl 3 rfl) ?_
  refine lv_iload hx hb dX0_act_38 (lv_at hl 4 rfl) ?_
  refine x_catch (xx_runV (As := [.int w, .int x, .int y, .int z]) (rest := []) S hK hW (hW.1.recv hKK) hM (cwV 4 hts (lw_V q1049 q1051 qs47 q95 q1052) rfl hrc hrs (by decide +kernel) ⟨by show rm.frames + 1 ≤ 14; omega, by show 8 + (5 + 11) + rm.locals ≤ 360; omega⟩) rfl hl.1 rfl (Nat.le_of_ble_eq_true rfl) dX0_act_40 ⟨by show 0 + mc ≤ 1000; omega, by show 0 + ms ≤ 5000; omega⟩) hS hen (by omega) (by omega) he4 he3 hts hown hKK (fun n1 H locs hW hS => ?_) (fun n1 x9 H locs hR hW hS => ?_)
  · exact x_iretC hx hb hr ⟨by unfold acX; rw [if_pos n1], by unfold acX; rw [if_pos n1]⟩ hW hS (by show 0 + mc ≤ 1000; omega) (by show 0 + ms ≤ 5000; omega) dX0_act_43 hlk
  · refine lv_astore (lv' := [(5, .ref x9), (0, .ref cb), (1, .int w), (2, .int x), (3, .int y), (4, .int z)]) hx hb dX0_act_44 hl (by decide) rfl (fun ls hl => ?_)
    refine lv_aload_n hx hb dX0_act_46 rfl (lv_at hl 1 rfl) ?_
    refine lv_aload hx hb dX0_act_47 (lv_at hl 0 rfl) ?_
    obtain ⟨ci, f0, f1, f2, hci, hO⟩ := hR
    have hz := hKK.2.1 _ q1100 rfl
    have hfc : (0 + mc ≤ 1000) ∧ (0 + ms ≤ 5000) := ⟨by omega, by omega⟩
    have K2 : W pg l ev ({ frames := 14, cells := 1000, slots := 5000, locals := 360 }) s m [Value.ref cb, .int w, .int x, .int y, .int z].toArray below meth cd H locs (0 + mc) (0 + ms) (MQ below (va_Qi (fun r b => r = (acX N u v).1 ∧ b = (acX N u v).2) (fun B' U => CW D t Z cb B' U.heap) (cA cb)) [Value.ref cb, .int w, .int x, .int y, .int z].toArray s 1000 5000 (cA cb)) (F0 m (44 + 2 + 1 + 2 + 3) ls [.int N, .ref cb]) := by
      refine va_calli (gx_runV (As := [.int N]) (rest := []) S hK hW (hW.1.recv hKK) (cx_refuse l htr D t Z cb v N (h9 n1)) (cwV 1 hts (lw_V q1108 q1110 qs58 q95 q1111) rfl rfl rfl (by decide +kernel) ⟨Nat.le_of_ble_eq_true rfl, Nat.le_of_ble_eq_true rfl⟩) rfl hl.1 rfl (Nat.le_of_ble_eq_true rfl) dX0_act_52 hfc) hS (fun q _ h => Or.inl h) (fun q h => Or.inl h) (fun r9 u9 tt H locs ht _ h9 hW _ _ hS => ?_)
      rw [ht] at hW
      obtain ⟨e1, e2⟩ := h9
      have hW : CW D t Z cb u9 H := hW
      have e3 : r9 = (acX N u v).1 ∧ u9 = (acX N u v).2 := by
        unfold acX
        rw [if_neg n1, e1, e2]
        by_cases q : -20 < N
        · rw [if_pos q, if_pos q]; exact ⟨rfl, rfl⟩
        · rw [if_neg q, if_neg q]; exact ⟨rfl, rfl⟩
      exact x_iretC hx hb hr e3 hW hS (by show 0 + mc + 0 ≤ 1000; omega) (by show 0 + ms + 0 ≤ 5000; omega) dX0_act_55 hlk
    rcases hci with rfl | rfl
    · exact c_callA (C := RX11) (As := []) (rest := [.ref cb]) S hKK hO hO rfl (cm_X11_number l D t x9 f0 f1 f2 N) (va_cwA 0 hts (lw_U q1099 q1101 q1105 q1106 q109 q1107) rfl rfl rfl hz ⟨by decide, by decide, by decide +kernel⟩ ⟨Nat.le_of_ble_eq_true rfl, Nat.le_of_ble_eq_true rfl⟩) rfl hl.1 rfl (Nat.le_of_ble_eq_true rfl) dX0_act_49 hfc K2
    · exact c_callA (C := RX13) (As := []) (rest := [.ref cb]) S hKK hO hO rfl (cm_X13_number l D t x9 f0 f1 f2 N) (va_cwA 0 hts (lw_U q1099 q1101 q1102 q1103 q111 q1104) rfl rfl rfl hz ⟨by decide, by decide, by decide +kernel⟩ ⟨Nat.le_of_ble_eq_true rfl, Nat.le_of_ble_eq_true rfl⟩) rfl hl.1 rfl (Nat.le_of_ble_eq_true rfl) dX0_act_49 hfc K2
