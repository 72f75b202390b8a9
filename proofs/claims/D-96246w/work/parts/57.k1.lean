/-! CONSTRUCTORS OF SMALL OBJECTS: printed by wip/D-96246w/gen/gen_k1.py -/
set_option maxRecDepth 100000
section KN
variable {p : Program} {l : Launch} {e : Env} {R : Room} {s : State} {m : MethodId} {args : Array Value} {below : List Frame} {meth : Method} {c : Code} {H : Heap} {locs : List Loc} {cells slots : Nat} {Q : State → Prop} {cc : ByteArray} {pc : Nat} {ls : Array Slot} {rest : List Value} {D : va_G} {t : Nat → ClassId}
/-- a new small object, as it is born -/
theorem k_new {own C : String} {T : u_T} {N ci index : Nat} (hexec : p.tables.exec = Jvm.exec) (hb : c.code = cc) (hts : ∀ w ∈ lw_all, w.before args s = true) (hin : ∀ w ∈ u_ws C T N, w ∈ lw_all) (ty : Nat → FieldType) (hty : ∀ k, k < N → parseFieldDescriptor (T k).2.2.1 = some (ty k)) (hown : s.vm.findClass own = some m.cls) (hcl : Cond.classLink own index C ∈ lw_all) (hinst : Cond.instantiable C N ∈ lw_all) (hini : Cond.initialized C ∈ lw_all) (hKK : KK D t s) (hc : vwCl[ci]? = some (C, T, N)) {fs : List Value} (hfs : ∀ j, j < N → defaultValue (ty j) = vp_V fs j) (hcells : cells + 1 ≤ R.cells) (hslots : slots + N ≤ R.slots) (hdg : decode cc pc = .ok (.new index, 3))
    (kk : ∀ H1 : Heap, OB D H.size ci fs H1 → MF H.size H1 → H1.size = H.size + 1 → (∀ q, q < H.size → H1[q]? = H[q]?) → W p l e R s m args below meth c H1 locs (cells + 1) (slots + N) Q (F0 m (pc + 3) ls (.ref H.size :: rest))) : W p l e R s m args below meth c H locs cells slots Q (F0 m pc ls rest) := by
  have hKn := hKK.1.1 ci _ hc
  refine W.newcK hexec hb hown (hts _ hcl) (hts _ hinst) (hts _ hini) rfl hdg hcells hslots hKn.2.1 rfl (fun H1 kC hkC e1 z1 o1 => ?_)
  exact kk H1 (OB.of ⟨_, hc, (u_born ty hts hin hKn hkC e1 hty).to hfs⟩) ⟨_, e1, rfl, rfl⟩ z1 o1
/-- the frame behind a new object -/
theorem va_S.new {A : Nat → Prop} {H0 H1 : Heap} (h : va_S A H0 H locs) (z : H1.size = H.size + 1) (o : ∀ q, q < H.size → H1[q]? = H[q]?) : va_S A H0 H1 locs :=
  ⟨by have := h.1; omega, fun q h1 h2 => (o q (Nat.lt_of_lt_of_le h1 h.1)).trans (h.2.1 q h1 h2), h.2.2⟩
end KN
set_option maxHeartbeats 800000 in
theorem ck_X20_9 (l : Launch) (D : va_G) (t : Nat → ClassId) (a : Nat) (v0 : Int32) (v1 : Int32) : Met l yX20_init (ws_ yX20_init cX20_init 3 none) ({ frames := 1, cells := 0, slots := 0, locals := 20 }) (zPc [.ref a, .int v0, .int v1] (OB D a 9 [(.int 0), (.int 0)]) (KK D t)) (va_Qv (fun _ => True) (fun (_ : Unit) U => OB D a 9 [(.int v0), (.int v1)] U.heap) (fun q => q = a)) 0 0 (fun q => q = a) := by
  refine zOf (cc := cX20_init) (maxL := 3) (ret := none) (by decide) (Nat.le_of_ble_eq_true rfl) (fun pg ev s m below meth cd ls F hO hKK hl hnm => ?_)
  obtain ⟨hx, hb, hml, hown, hts, hr, hlk⟩ := F
  have S : CallFix pg m cd cX20_init 3 s _ lw_all RX20 := ⟨hx, hb, hml, hown, hts⟩
  have hl : lv_has ls 3 [(0, .ref a), (1, .int v0), (2, .int v1)] := hl
  have hS : va_S (fun q => q = a) s.heap s.heap [] := va_S.rf
  refine lv_aload_n hx hb dX20_init_0 rfl (lv_at hl 0 rfl) ?_
  refine W.objInit hx hb hown (hts _ q678) (hts _ q133) (by rw [← ex_b2]; exact hts _ q134) rfl (hl.1.trans hml.symm) rfl dX20_init_1 (Nat.le_of_ble_eq_true rfl) (Nat.le_of_ble_eq_true rfl) ?_
  refine lv_aload_n hx hb dX20_init_4 rfl (lv_at hl 0 rfl) ?_
  refine lv_iload_n hx hb dX20_init_5 rfl (lv_at hl 1 rfl) ?_
  refine va_putF (D := D) (ci := 9) (C := RX21) (T := TX21) (N := 2) hx hb hts in_X21 tyX21 tyX21_ok nmX21 hown hKK.1 hO (ob_D (A := fun q => q = a) rfl) hS 0 rfl rfl 0 (by decide) (hts _ q679) (fun _ h => h) rfl hnm rfl (ty := .int) (by decide +kernel) rfl rfl (Nat.le_of_ble_eq_true rfl) dX20_init_6 (fun H locs hP1 _ hS => ?_)
  have hO : OB D a 9 [(.int v0), (.int 0)] H := hP1
  refine lv_aload_n hx hb dX20_init_9 rfl (lv_at hl 0 rfl) ?_
  refine lv_iload_n hx hb dX20_init_10 rfl (lv_at hl 2 rfl) ?_
  refine va_putF (D := D) (ci := 9) (C := RX21) (T := TX21) (N := 2) hx hb hts in_X21 tyX21 tyX21_ok nmX21 hown hKK.1 hO (ob_D (A := fun q => q = a) rfl) hS 0 rfl rfl 1 (by decide) (hts _ q684) (fun _ h => h) rfl hnm rfl (ty := .int) (by decide +kernel) rfl rfl (Nat.le_of_ble_eq_true rfl) dX20_init_11 (fun H locs hP1 _ hS => ?_)
  have hO : OB D a 9 [(.int v0), (.int v1)] H := hP1
  exact W.vret hx hb hr (fun tt ht _ => ⟨⟨(), rfl, trivial, by show OB D a 9 [(.int v0), (.int v1)] tt.heap; rw [ht]; exact hO⟩, hS.F ht⟩) hS.2.2 dX20_init_14 hlk
set_option maxHeartbeats 800000 in
theorem ck_X21_9 (l : Launch) (D : va_G) (t : Nat → ClassId) (a : Nat) (v0 : Int32) (v1 : Int32) : Met l yX21_init (ws_ yX21_init cX21_init 3 none) ({ frames := 2, cells := 0, slots := 0, locals := 42 }) (zPc [.ref a, .int v0, .int v1] (OB D a 9 [(.int 0), (.int 0)]) (KK D t)) (va_Qv (fun _ => True) (fun (_ : Unit) U => OB D a 9 [(.int v0), (.int v1)] U.heap) (fun q => q = a)) 0 0 (fun q => q = a) := by
  refine zOf (cc := cX21_init) (maxL := 3) (ret := none) (by decide) (Nat.le_of_ble_eq_true rfl) (fun pg ev s m below meth cd ls F hO hKK hl hnm => ?_)
  obtain ⟨hx, hb, hml, hown, hts, hr, hlk⟩ := F
  have S : CallFix pg m cd cX21_init 3 s _ lw_all RX21 := ⟨hx, hb, hml, hown, hts⟩
  have hl : lv_has ls 3 [(0, .ref a), (1, .int v0), (2, .int v1)] := hl
  have hS : va_S (fun q => q = a) s.heap s.heap [] := va_S.rf
  refine lv_aload_n hx hb dX21_init_0 rfl (lv_at hl 0 rfl) ?_
  refine lv_iload_n hx hb dX21_init_1 rfl (lv_at hl 1 rfl) ?_
  refine lv_iload_n hx hb dX21_init_2 rfl (lv_at hl 2 rfl) ?_
  refine va_callv (va_runI (As := [.int v0, .int v1]) (rest := []) S (ck_X20_9 l D t a v0 v1) (cwI 2 hts (lw_meth q677) rfl rfl rfl (hts _ q120) (hts _ q675) (hts _ q676) rfl ⟨by decide, by decide, by decide +kernel⟩ ⟨Nat.le_of_ble_eq_true rfl, Nat.le_of_ble_eq_true rfl⟩) ⟨zBlind, fun U hU hW => ⟨rfl, by rw [hU]; exact hO, hKK.warm hW⟩⟩ rfl rfl hl.1 rfl (lv_room (Nat.le_of_ble_eq_true rfl)) dX21_init_3 ⟨Nat.le_of_ble_eq_true rfl, Nat.le_of_ble_eq_true rfl⟩) hS (fun q _ h => h) (fun q h => h) (fun u tt H locs ht _ _ hO _ _ hS => ?_)
  rw [ht] at hO
  have hO : OB D a 9 [(.int v0), (.int v1)] H := hO
  exact W.vret hx hb hr (fun tt ht _ => ⟨⟨(), rfl, trivial, by show OB D a 9 [(.int v0), (.int v1)] tt.heap; rw [ht]; exact hO⟩, hS.F ht⟩) hS.2.2 dX21_init_6 hlk
set_option maxHeartbeats 800000 in
theorem ck_X20_10 (l : Launch) (D : va_G) (t : Nat → ClassId) (a : Nat) (v0 : Int32) (v1 : Int32) : Met l yX20_init (ws_ yX20_init cX20_init 3 none) ({ frames := 1, cells := 0, slots := 0, locals := 20 }) (zPc [.ref a, .int v0, .int v1] (OB D a 10 [(.int 0), (.int 0)]) (KK D t)) (va_Qv (fun _ => True) (fun (_ : Unit) U => OB D a 10 [(.int v0), (.int v1)] U.heap) (fun q => q = a)) 0 0 (fun q => q = a) := by
  refine zOf (cc := cX20_init) (maxL := 3) (ret := none) (by decide) (Nat.le_of_ble_eq_true rfl) (fun pg ev s m below meth cd ls F hO hKK hl hnm => ?_)
  obtain ⟨hx, hb, hml, hown, hts, hr, hlk⟩ := F
  have S : CallFix pg m cd cX20_init 3 s _ lw_all RX20 := ⟨hx, hb, hml, hown, hts⟩
  have hl : lv_has ls 3 [(0, .ref a), (1, .int v0), (2, .int v1)] := hl
  have hS : va_S (fun q => q = a) s.heap s.heap [] := va_S.rf
  refine lv_aload_n hx hb dX20_init_0 rfl (lv_at hl 0 rfl) ?_
  refine W.objInit hx hb hown (hts _ q678) (hts _ q133) (by rw [← ex_b2]; exact hts _ q134) rfl (hl.1.trans hml.symm) rfl dX20_init_1 (Nat.le_of_ble_eq_true rfl) (Nat.le_of_ble_eq_true rfl) ?_
  refine lv_aload_n hx hb dX20_init_4 rfl (lv_at hl 0 rfl) ?_
  refine lv_iload_n hx hb dX20_init_5 rfl (lv_at hl 1 rfl) ?_
  refine va_putF (D := D) (ci := 10) (C := RX22) (T := TX22) (N := 2) hx hb hts in_X22 tyX22 tyX22_ok nmX22 hown hKK.1 hO (ob_D (A := fun q => q = a) rfl) hS 0 rfl rfl 0 (by decide) (hts _ q679) (fun _ h => h) rfl hnm rfl (ty := .int) (by decide +kernel) rfl rfl (Nat.le_of_ble_eq_true rfl) dX20_init_6 (fun H locs hP1 _ hS => ?_)
  have hO : OB D a 10 [(.int v0), (.int 0)] H := hP1
  refine lv_aload_n hx hb dX20_init_9 rfl (lv_at hl 0 rfl) ?_
  refine lv_iload_n hx hb dX20_init_10 rfl (lv_at hl 2 rfl) ?_
  refine va_putF (D := D) (ci := 10) (C := RX22) (T := TX22) (N := 2) hx hb hts in_X22 tyX22 tyX22_ok nmX22 hown hKK.1 hO (ob_D (A := fun q => q = a) rfl) hS 0 rfl rfl 1 (by decide) (hts _ q684) (fun _ h => h) rfl hnm rfl (ty := .int) (by decide +kernel) rfl rfl (Nat.le_of_ble_eq_true rfl) dX20_init_11 (fun H locs hP1 _ hS => ?_)
  have hO : OB D a 10 [(.int v0), (.int v1)] H := hP1
  exact W.vret hx hb hr (fun tt ht _ => ⟨⟨(), rfl, trivial, by show OB D a 10 [(.int v0), (.int v1)] tt.heap; rw [ht]; exact hO⟩, hS.F ht⟩) hS.2.2 dX20_init_14 hlk
set_option maxHeartbeats 800000 in
theorem ck_X21_10 (l : Launch) (D : va_G) (t : Nat → ClassId) (a : Nat) (v0 : Int32) (v1 : Int32) : Met l yX21_init (ws_ yX21_init cX21_init 3 none) ({ frames := 2, cells := 0, slots := 0, locals := 42 }) (zPc [.ref a, .int v0, .int v1] (OB D a 10 [(.int 0), (.int 0)]) (KK D t)) (va_Qv (fun _ => True) (fun (_ : Unit) U => OB D a 10 [(.int v0), (.int v1)] U.heap) (fun q => q = a)) 0 0 (fun q => q = a) := by
  refine zOf (cc := cX21_init) (maxL := 3) (ret := none) (by decide) (Nat.le_of_ble_eq_true rfl) (fun pg ev s m below meth cd ls F hO hKK hl hnm => ?_)
  obtain ⟨hx, hb, hml, hown, hts, hr, hlk⟩ := F
  have S : CallFix pg m cd cX21_init 3 s _ lw_all RX21 := ⟨hx, hb, hml, hown, hts⟩
  have hl : lv_has ls 3 [(0, .ref a), (1, .int v0), (2, .int v1)] := hl
  have hS : va_S (fun q => q = a) s.heap s.heap [] := va_S.rf
  refine lv_aload_n hx hb dX21_init_0 rfl (lv_at hl 0 rfl) ?_
  refine lv_iload_n hx hb dX21_init_1 rfl (lv_at hl 1 rfl) ?_
  refine lv_iload_n hx hb dX21_init_2 rfl (lv_at hl 2 rfl) ?_
  refine va_callv (va_runI (As := [.int v0, .int v1]) (rest := []) S (ck_X20_10 l D t a v0 v1) (cwI 2 hts (lw_meth q677) rfl rfl rfl (hts _ q120) (hts _ q675) (hts _ q676) rfl ⟨by decide, by decide, by decide +kernel⟩ ⟨Nat.le_of_ble_eq_true rfl, Nat.le_of_ble_eq_true rfl⟩) ⟨zBlind, fun U hU hW => ⟨rfl, by rw [hU]; exact hO, hKK.warm hW⟩⟩ rfl rfl hl.1 rfl (lv_room (Nat.le_of_ble_eq_true rfl)) dX21_init_3 ⟨Nat.le_of_ble_eq_true rfl, Nat.le_of_ble_eq_true rfl⟩) hS (fun q _ h => h) (fun q h => h) (fun u tt H locs ht _ _ hO _ _ hS => ?_)
  rw [ht] at hO
  have hO : OB D a 10 [(.int v0), (.int v1)] H := hO
  exact W.vret hx hb hr (fun tt ht _ => ⟨⟨(), rfl, trivial, by show OB D a 10 [(.int v0), (.int v1)] tt.heap; rw [ht]; exact hO⟩, hS.F ht⟩) hS.2.2 dX21_init_6 hlk
set_option maxHeartbeats 800000 in
theorem ck_X22_10 (l : Launch) (D : va_G) (t : Nat → ClassId) (a : Nat) (v0 : Int32) (v1 : Int32) : Met l yX22_init (ws_ yX22_init cX22_init 3 none) ({ frames := 3, cells := 0, slots := 0, locals := 64 }) (zPc [.ref a, .int v0, .int v1] (OB D a 10 [(.int 0), (.int 0)]) (KK D t)) (va_Qv (fun _ => True) (fun (_ : Unit) U => OB D a 10 [(.int v0), (.int v1)] U.heap) (fun q => q = a)) 0 0 (fun q => q = a) := by
  refine zOf (cc := cX22_init) (maxL := 3) (ret := none) (by decide) (Nat.le_of_ble_eq_true rfl) (fun pg ev s m below meth cd ls F hO hKK hl hnm => ?_)
  obtain ⟨hx, hb, hml, hown, hts, hr, hlk⟩ := F
  have S : CallFix pg m cd cX22_init 3 s _ lw_all RX22 := ⟨hx, hb, hml, hown, hts⟩
  have hl : lv_has ls 3 [(0, .ref a), (1, .int v0), (2, .int v1)] := hl
  have hS : va_S (fun q => q = a) s.heap s.heap [] := va_S.rf
  refine lv_aload_n hx hb dX22_init_0 rfl (lv_at hl 0 rfl) ?_
  refine lv_iload_n hx hb dX22_init_1 rfl (lv_at hl 1 rfl) ?_
  refine lv_iload_n hx hb dX22_init_2 rfl (lv_at hl 2 rfl) ?_
  refine va_callv (va_runI (As := [.int v0, .int v1]) (rest := []) S (ck_X21_10 l D t a v0 v1) (cwI 2 hts (lw_meth q674) rfl rfl rfl (hts _ q121) (hts _ q698) (hts _ q673) rfl ⟨by decide, by decide, by decide +kernel⟩ ⟨Nat.le_of_ble_eq_true rfl, Nat.le_of_ble_eq_true rfl⟩) ⟨zBlind, fun U hU hW => ⟨rfl, by rw [hU]; exact hO, hKK.warm hW⟩⟩ rfl rfl hl.1 rfl (lv_room (Nat.le_of_ble_eq_true rfl)) dX22_init_3 ⟨Nat.le_of_ble_eq_true rfl, Nat.le_of_ble_eq_true rfl⟩) hS (fun q _ h => h) (fun q h => h) (fun u tt H locs ht _ _ hO _ _ hS => ?_)
  rw [ht] at hO
  have hO : OB D a 10 [(.int v0), (.int v1)] H := hO
  exact W.vret hx hb hr (fun tt ht _ => ⟨⟨(), rfl, trivial, by show OB D a 10 [(.int v0), (.int v1)] tt.heap; rw [ht]; exact hO⟩, hS.F ht⟩) hS.2.2 dX22_init_6 hlk
set_option maxHeartbeats 800000 in
theorem ck_X20_11 (l : Launch) (D : va_G) (t : Nat → ClassId) (a : Nat) (v0 : Int32) (v1 : Int32) : Met l yX20_init (ws_ yX20_init cX20_init 3 none) ({ frames := 1, cells := 0, slots := 0, locals := 20 }) (zPc [.ref a, .int v0, .int v1] (OB D a 11 [(.int 0), (.int 0)]) (KK D t)) (va_Qv (fun _ => True) (fun (_ : Unit) U => OB D a 11 [(.int v0), (.int v1)] U.heap) (fun q => q = a)) 0 0 (fun q => q = a) := by
  refine zOf (cc := cX20_init) (maxL := 3) (ret := none) (by decide) (Nat.le_of_ble_eq_true rfl) (fun pg ev s m below meth cd ls F hO hKK hl hnm => ?_)
  obtain ⟨hx, hb, hml, hown, hts, hr, hlk⟩ := F
  have S : CallFix pg m cd cX20_init 3 s _ lw_all RX20 := ⟨hx, hb, hml, hown, hts⟩
  have hl : lv_has ls 3 [(0, .ref a), (1, .int v0), (2, .int v1)] := hl
  have hS : va_S (fun q => q = a) s.heap s.heap [] := va_S.rf
  refine lv_aload_n hx hb dX20_init_0 rfl (lv_at hl 0 rfl) ?_
  refine W.objInit hx hb hown (hts _ q678) (hts _ q133) (by rw [← ex_b2]; exact hts _ q134) rfl (hl.1.trans hml.symm) rfl dX20_init_1 (Nat.le_of_ble_eq_true rfl) (Nat.le_of_ble_eq_true rfl) ?_
  refine lv_aload_n hx hb dX20_init_4 rfl (lv_at hl 0 rfl) ?_
  refine lv_iload_n hx hb dX20_init_5 rfl (lv_at hl 1 rfl) ?_
  refine va_putF (D := D) (ci := 11) (C := RX23) (T := TX23) (N := 2) hx hb hts in_X23 tyX23 tyX23_ok nmX23 hown hKK.1 hO (ob_D (A := fun q => q = a) rfl) hS 0 rfl rfl 0 (by decide) (hts _ q679) (fun _ h => h) rfl hnm rfl (ty := .int) (by decide +kernel) rfl rfl (Nat.le_of_ble_eq_true rfl) dX20_init_6 (fun H locs hP1 _ hS => ?_)
  have hO : OB D a 11 [(.int v0), (.int 0)] H := hP1
  refine lv_aload_n hx hb dX20_init_9 rfl (lv_at hl 0 rfl) ?_
  refine lv_iload_n hx hb dX20_init_10 rfl (lv_at hl 2 rfl) ?_
  refine va_putF (D := D) (ci := 11) (C := RX23) (T := TX23) (N := 2) hx hb hts in_X23 tyX23 tyX23_ok nmX23 hown hKK.1 hO (ob_D (A := fun q => q = a) rfl) hS 0 rfl rfl 1 (by decide) (hts _ q684) (fun _ h => h) rfl hnm rfl (ty := .int) (by decide +kernel) rfl rfl (Nat.le_of_ble_eq_true rfl) dX20_init_11 (fun H locs hP1 _ hS => ?_)
  have hO : OB D a 11 [(.int v0), (.int v1)] H := hP1
  exact W.vret hx hb hr (fun tt ht _ => ⟨⟨(), rfl, trivial, by show OB D a 11 [(.int v0), (.int v1)] tt.heap; rw [ht]; exact hO⟩, hS.F ht⟩) hS.2.2 dX20_init_14 hlk
set_option maxHeartbeats 800000 in
theorem ck_X21_11 (l : Launch) (D : va_G) (t : Nat → ClassId) (a : Nat) (v0 : Int32) (v1 : Int32) : Met l yX21_init (ws_ yX21_init cX21_init 3 none) ({ frames := 2, cells := 0, slots := 0, locals := 42 }) (zPc [.ref a, .int v0, .int v1] (OB D a 11 [(.int 0), (.int 0)]) (KK D t)) (va_Qv (fun _ => True) (fun (_ : Unit) U => OB D a 11 [(.int v0), (.int v1)] U.heap) (fun q => q = a)) 0 0 (fun q => q = a) := by
  refine zOf (cc := cX21_init) (maxL := 3) (ret := none) (by decide) (Nat.le_of_ble_eq_true rfl) (fun pg ev s m below meth cd ls F hO hKK hl hnm => ?_)
  obtain ⟨hx, hb, hml, hown, hts, hr, hlk⟩ := F
  have S : CallFix pg m cd cX21_init 3 s _ lw_all RX21 := ⟨hx, hb, hml, hown, hts⟩
  have hl : lv_has ls 3 [(0, .ref a), (1, .int v0), (2, .int v1)] := hl
  have hS : va_S (fun q => q = a) s.heap s.heap [] := va_S.rf
  refine lv_aload_n hx hb dX21_init_0 rfl (lv_at hl 0 rfl) ?_
  refine lv_iload_n hx hb dX21_init_1 rfl (lv_at hl 1 rfl) ?_
  refine lv_iload_n hx hb dX21_init_2 rfl (lv_at hl 2 rfl) ?_
  refine va_callv (va_runI (As := [.int v0, .int v1]) (rest := []) S (ck_X20_11 l D t a v0 v1) (cwI 2 hts (lw_meth q677) rfl rfl rfl (hts _ q120) (hts _ q675) (hts _ q676) rfl ⟨by decide, by decide, by decide +kernel⟩ ⟨Nat.le_of_ble_eq_true rfl, Nat.le_of_ble_eq_true rfl⟩) ⟨zBlind, fun U hU hW => ⟨rfl, by rw [hU]; exact hO, hKK.warm hW⟩⟩ rfl rfl hl.1 rfl (lv_room (Nat.le_of_ble_eq_true rfl)) dX21_init_3 ⟨Nat.le_of_ble_eq_true rfl, Nat.le_of_ble_eq_true rfl⟩) hS (fun q _ h => h) (fun q h => h) (fun u tt H locs ht _ _ hO _ _ hS => ?_)
  rw [ht] at hO
  have hO : OB D a 11 [(.int v0), (.int v1)] H := hO
  exact W.vret hx hb hr (fun tt ht _ => ⟨⟨(), rfl, trivial, by show OB D a 11 [(.int v0), (.int v1)] tt.heap; rw [ht]; exact hO⟩, hS.F ht⟩) hS.2.2 dX21_init_6 hlk
set_option maxHeartbeats 800000 in
theorem ck_X23_11 (l : Launch) (D : va_G) (t : Nat → ClassId) (a : Nat) (v0 : Int32) (v1 : Int32) : Met l yX23_init (ws_ yX23_init cX23_init 3 none) ({ frames := 3, cells := 0, slots := 0, locals := 64 }) (zPc [.ref a, .int v0, .int v1] (OB D a 11 [(.int 0), (.int 0)]) (KK D t)) (va_Qv (fun _ => True) (fun (_ : Unit) U => OB D a 11 [(.int v0), (.int v1)] U.heap) (fun q => q = a)) 0 0 (fun q => q = a) := by
  refine zOf (cc := cX23_init) (maxL := 3) (ret := none) (by decide) (Nat.le_of_ble_eq_true rfl) (fun pg ev s m below meth cd ls F hO hKK hl hnm => ?_)
  obtain ⟨hx, hb, hml, hown, hts, hr, hlk⟩ := F
  have S : CallFix pg m cd cX23_init 3 s _ lw_all RX23 := ⟨hx, hb, hml, hown, hts⟩
  have hl : lv_has ls 3 [(0, .ref a), (1, .int v0), (2, .int v1)] := hl
  have hS : va_S (fun q => q = a) s.heap s.heap [] := va_S.rf
  refine lv_aload_n hx hb dX23_init_0 rfl (lv_at hl 0 rfl) ?_
  refine lv_iload_n hx hb dX23_init_1 rfl (lv_at hl 1 rfl) ?_
  refine lv_iload_n hx hb dX23_init_2 rfl (lv_at hl 2 rfl) ?_
  refine va_callv (va_runI (As := [.int v0, .int v1]) (rest := []) S (ck_X21_11 l D t a v0 v1) (cwI 2 hts (lw_meth q674) rfl rfl rfl (hts _ q121) (hts _ q707) (hts _ q673) rfl ⟨by decide, by decide, by decide +kernel⟩ ⟨Nat.le_of_ble_eq_true rfl, Nat.le_of_ble_eq_true rfl⟩) ⟨zBlind, fun U hU hW => ⟨rfl, by rw [hU]; exact hO, hKK.warm hW⟩⟩ rfl rfl hl.1 rfl (lv_room (Nat.le_of_ble_eq_true rfl)) dX23_init_3 ⟨Nat.le_of_ble_eq_true rfl, Nat.le_of_ble_eq_true rfl⟩) hS (fun q _ h => h) (fun q h => h) (fun u tt H locs ht _ _ hO _ _ hS => ?_)
  rw [ht] at hO
  have hO : OB D a 11 [(.int v0), (.int v1)] H := hO
  exact W.vret hx hb hr (fun tt ht _ => ⟨⟨(), rfl, trivial, by show OB D a 11 [(.int v0), (.int v1)] tt.heap; rw [ht]; exact hO⟩, hS.F ht⟩) hS.2.2 dX23_init_6 hlk
set_option maxHeartbeats 800000 in
theorem ck_X20_12 (l : Launch) (D : va_G) (t : Nat → ClassId) (a : Nat) (v0 : Int32) (v1 : Int32) : Met l yX20_init (ws_ yX20_init cX20_init 3 none) ({ frames := 1, cells := 0, slots := 0, locals := 20 }) (zPc [.ref a, .int v0, .int v1] (OB D a 12 [(.int 0), (.int 0)]) (KK D t)) (va_Qv (fun _ => True) (fun (_ : Unit) U => OB D a 12 [(.int v0), (.int v1)] U.heap) (fun q => q = a)) 0 0 (fun q => q = a) := by
  refine zOf (cc := cX20_init) (maxL := 3) (ret := none) (by decide) (Nat.le_of_ble_eq_true rfl) (fun pg ev s m below meth cd ls F hO hKK hl hnm => ?_)
  obtain ⟨hx, hb, hml, hown, hts, hr, hlk⟩ := F
  have S : CallFix pg m cd cX20_init 3 s _ lw_all RX20 := ⟨hx, hb, hml, hown, hts⟩
  have hl : lv_has ls 3 [(0, .ref a), (1, .int v0), (2, .int v1)] := hl
  have hS : va_S (fun q => q = a) s.heap s.heap [] := va_S.rf
  refine lv_aload_n hx hb dX20_init_0 rfl (lv_at hl 0 rfl) ?_
  refine W.objInit hx hb hown (hts _ q678) (hts _ q133) (by rw [← ex_b2]; exact hts _ q134) rfl (hl.1.trans hml.symm) rfl dX20_init_1 (Nat.le_of_ble_eq_true rfl) (Nat.le_of_ble_eq_true rfl) ?_
  refine lv_aload_n hx hb dX20_init_4 rfl (lv_at hl 0 rfl) ?_
  refine lv_iload_n hx hb dX20_init_5 rfl (lv_at hl 1 rfl) ?_
  refine va_putF (D := D) (ci := 12) (C := RX24) (T := TX24) (N := 2) hx hb hts in_X24 tyX24 tyX24_ok nmX24 hown hKK.1 hO (ob_D (A := fun q => q = a) rfl) hS 0 rfl rfl 0 (by decide) (hts _ q679) (fun _ h => h) rfl hnm rfl (ty := .int) (by decide +kernel) rfl rfl (Nat.le_of_ble_eq_true rfl) dX20_init_6 (fun H locs hP1 _ hS => ?_)
  have hO : OB D a 12 [(.int v0), (.int 0)] H := hP1
  refine lv_aload_n hx hb dX20_init_9 rfl (lv_at hl 0 rfl) ?_
  refine lv_iload_n hx hb dX20_init_10 rfl (lv_at hl 2 rfl) ?_
  refine va_putF (D := D) (ci := 12) (C := RX24) (T := TX24) (N := 2) hx hb hts in_X24 tyX24 tyX24_ok nmX24 hown hKK.1 hO (ob_D (A := fun q => q = a) rfl) hS 0 rfl rfl 1 (by decide) (hts _ q684) (fun _ h => h) rfl hnm rfl (ty := .int) (by decide +kernel) rfl rfl (Nat.le_of_ble_eq_true rfl) dX20_init_11 (fun H locs hP1 _ hS => ?_)
  have hO : OB D a 12 [(.int v0), (.int v1)] H := hP1
  exact W.vret hx hb hr (fun tt ht _ => ⟨⟨(), rfl, trivial, by show OB D a 12 [(.int v0), (.int v1)] tt.heap; rw [ht]; exact hO⟩, hS.F ht⟩) hS.2.2 dX20_init_14 hlk
set_option maxHeartbeats 800000 in
theorem ck_X21_12 (l : Launch) (D : va_G) (t : Nat → ClassId) (a : Nat) (v0 : Int32) (v1 : Int32) : Met l yX21_init (ws_ yX21_init cX21_init 3 none) ({ frames := 2, cells := 0, slots := 0, locals := 42 }) (zPc [.ref a, .int v0, .int v1] (OB D a 12 [(.int 0), (.int 0)]) (KK D t)) (va_Qv (fun _ => True) (fun (_ : Unit) U => OB D a 12 [(.int v0), (.int v1)] U.heap) (fun q => q = a)) 0 0 (fun q => q = a) := by
  refine zOf (cc := cX21_init) (maxL := 3) (ret := none) (by decide) (Nat.le_of_ble_eq_true rfl) (fun pg ev s m below meth cd ls F hO hKK hl hnm => ?_)
  obtain ⟨hx, hb, hml, hown, hts, hr, hlk⟩ := F
  have S : CallFix pg m cd cX21_init 3 s _ lw_all RX21 := ⟨hx, hb, hml, hown, hts⟩
  have hl : lv_has ls 3 [(0, .ref a), (1, .int v0), (2, .int v1)] := hl
  have hS : va_S (fun q => q = a) s.heap s.heap [] := va_S.rf
  refine lv_aload_n hx hb dX21_init_0 rfl (lv_at hl 0 rfl) ?_
  refine lv_iload_n hx hb dX21_init_1 rfl (lv_at hl 1 rfl) ?_
  refine lv_iload_n hx hb dX21_init_2 rfl (lv_at hl 2 rfl) ?_
  refine va_callv (va_runI (As := [.int v0, .int v1]) (rest := []) S (ck_X20_12 l D t a v0 v1) (cwI 2 hts (lw_meth q677) rfl rfl rfl (hts _ q120) (hts _ q675) (hts _ q676) rfl ⟨by decide, by decide, by decide +kernel⟩ ⟨Nat.le_of_ble_eq_true rfl, Nat.le_of_ble_eq_true rfl⟩) ⟨zBlind, fun U hU hW => ⟨rfl, by rw [hU]; exact hO, hKK.warm hW⟩⟩ rfl rfl hl.1 rfl (lv_room (Nat.le_of_ble_eq_true rfl)) dX21_init_3 ⟨Nat.le_of_ble_eq_true rfl, Nat.le_of_ble_eq_true rfl⟩) hS (fun q _ h => h) (fun q h => h) (fun u tt H locs ht _ _ hO _ _ hS => ?_)
  rw [ht] at hO
  have hO : OB D a 12 [(.int v0), (.int v1)] H := hO
  exact W.vret hx hb hr (fun tt ht _ => ⟨⟨(), rfl, trivial, by show OB D a 12 [(.int v0), (.int v1)] tt.heap; rw [ht]; exact hO⟩, hS.F ht⟩) hS.2.2 dX21_init_6 hlk
set_option maxHeartbeats 800000 in
theorem ck_X22_12 (l : Launch) (D : va_G) (t : Nat → ClassId) (a : Nat) (v0 : Int32) (v1 : Int32) : Met l yX22_init (ws_ yX22_init cX22_init 3 none) ({ frames := 3, cells := 0, slots := 0, locals := 64 }) (zPc [.ref a, .int v0, .int v1] (OB D a 12 [(.int 0), (.int 0)]) (KK D t)) (va_Qv (fun _ => True) (fun (_ : Unit) U => OB D a 12 [(.int v0), (.int v1)] U.heap) (fun q => q = a)) 0 0 (fun q => q = a) := by
  refine zOf (cc := cX22_init) (maxL := 3) (ret := none) (by decide) (Nat.le_of_ble_eq_true rfl) (fun pg ev s m below meth cd ls F hO hKK hl hnm => ?_)
  obtain ⟨hx, hb, hml, hown, hts, hr, hlk⟩ := F
  have S : CallFix pg m cd cX22_init 3 s _ lw_all RX22 := ⟨hx, hb, hml, hown, hts⟩
  have hl : lv_has ls 3 [(0, .ref a), (1, .int v0), (2, .int v1)] := hl
  have hS : va_S (fun q => q = a) s.heap s.heap [] := va_S.rf
  refine lv_aload_n hx hb dX22_init_0 rfl (lv_at hl 0 rfl) ?_
  refine lv_iload_n hx hb dX22_init_1 rfl (lv_at hl 1 rfl) ?_
  refine lv_iload_n hx hb dX22_init_2 rfl (lv_at hl 2 rfl) ?_
  refine va_callv (va_runI (As := [.int v0, .int v1]) (rest := []) S (ck_X21_12 l D t a v0 v1) (cwI 2 hts (lw_meth q674) rfl rfl rfl (hts _ q121) (hts _ q698) (hts _ q673) rfl ⟨by decide, by decide, by decide +kernel⟩ ⟨Nat.le_of_ble_eq_true rfl, Nat.le_of_ble_eq_true rfl⟩) ⟨zBlind, fun U hU hW => ⟨rfl, by rw [hU]; exact hO, hKK.warm hW⟩⟩ rfl rfl hl.1 rfl (lv_room (Nat.le_of_ble_eq_true rfl)) dX22_init_3 ⟨Nat.le_of_ble_eq_true rfl, Nat.le_of_ble_eq_true rfl⟩) hS (fun q _ h => h) (fun q h => h) (fun u tt H locs ht _ _ hO _ _ hS => ?_)
  rw [ht] at hO
  have hO : OB D a 12 [(.int v0), (.int v1)] H := hO
  exact W.vret hx hb hr (fun tt ht _ => ⟨⟨(), rfl, trivial, by show OB D a 12 [(.int v0), (.int v1)] tt.heap; rw [ht]; exact hO⟩, hS.F ht⟩) hS.2.2 dX22_init_6 hlk
set_option maxHeartbeats 800000 in
theorem ck_X24_12 (l : Launch) (D : va_G) (t : Nat → ClassId) (a : Nat) (v0 : Int32) (v1 : Int32) : Met l yX24_init (ws_ yX24_init cX24_init 3 none) ({ frames := 4, cells := 0, slots := 0, locals := 86 }) (zPc [.ref a, .int v0, .int v1] (OB D a 12 [(.int 0), (.int 0)]) (KK D t)) (va_Qv (fun _ => True) (fun (_ : Unit) U => OB D a 12 [(.int v0), (.int v1)] U.heap) (fun q => q = a)) 0 0 (fun q => q = a) := by
  refine zOf (cc := cX24_init) (maxL := 3) (ret := none) (by decide) (Nat.le_of_ble_eq_true rfl) (fun pg ev s m below meth cd ls F hO hKK hl hnm => ?_)
  obtain ⟨hx, hb, hml, hown, hts, hr, hlk⟩ := F
  have S : CallFix pg m cd cX24_init 3 s _ lw_all RX24 := ⟨hx, hb, hml, hown, hts⟩
  have hl : lv_has ls 3 [(0, .ref a), (1, .int v0), (2, .int v1)] := hl
  have hS : va_S (fun q => q = a) s.heap s.heap [] := va_S.rf
  refine lv_aload_n hx hb dX24_init_0 rfl (lv_at hl 0 rfl) ?_
  refine lv_iload_n hx hb dX24_init_1 rfl (lv_at hl 1 rfl) ?_
  refine lv_iload_n hx hb dX24_init_2 rfl (lv_at hl 2 rfl) ?_
  refine va_callv (va_runI (As := [.int v0, .int v1]) (rest := []) S (ck_X22_12 l D t a v0 v1) (cwI 2 hts (lw_meth q697) rfl rfl rfl (hts _ q122) (hts _ q715) (hts _ q696) rfl ⟨by decide, by decide, by decide +kernel⟩ ⟨Nat.le_of_ble_eq_true rfl, Nat.le_of_ble_eq_true rfl⟩) ⟨zBlind, fun U hU hW => ⟨rfl, by rw [hU]; exact hO, hKK.warm hW⟩⟩ rfl rfl hl.1 rfl (lv_room (Nat.le_of_ble_eq_true rfl)) dX24_init_3 ⟨Nat.le_of_ble_eq_true rfl, Nat.le_of_ble_eq_true rfl⟩) hS (fun q _ h => h) (fun q h => h) (fun u tt H locs ht _ _ hO _ _ hS => ?_)
  rw [ht] at hO
  have hO : OB D a 12 [(.int v0), (.int v1)] H := hO
  exact W.vret hx hb hr (fun tt ht _ => ⟨⟨(), rfl, trivial, by show OB D a 12 [(.int v0), (.int v1)] tt.heap; rw [ht]; exact hO⟩, hS.F ht⟩) hS.2.2 dX24_init_6 hlk
set_option maxHeartbeats 800000 in
theorem ck_X20_13 (l : Launch) (D : va_G) (t : Nat → ClassId) (a : Nat) (v0 : Int32) (v1 : Int32) : Met l yX20_init (ws_ yX20_init cX20_init 3 none) ({ frames := 1, cells := 0, slots := 0, locals := 20 }) (zPc [.ref a, .int v0, .int v1] (OB D a 13 [(.int 0), (.int 0)]) (KK D t)) (va_Qv (fun _ => True) (fun (_ : Unit) U => OB D a 13 [(.int v0), (.int v1)] U.heap) (fun q => q = a)) 0 0 (fun q => q = a) := by
  refine zOf (cc := cX20_init) (maxL := 3) (ret := none) (by decide) (Nat.le_of_ble_eq_true rfl) (fun pg ev s m below meth cd ls F hO hKK hl hnm => ?_)
  obtain ⟨hx, hb, hml, hown, hts, hr, hlk⟩ := F
  have S : CallFix pg m cd cX20_init 3 s _ lw_all RX20 := ⟨hx, hb, hml, hown, hts⟩
  have hl : lv_has ls 3 [(0, .ref a), (1, .int v0), (2, .int v1)] := hl
  have hS : va_S (fun q => q = a) s.heap s.heap [] := va_S.rf
  refine lv_aload_n hx hb dX20_init_0 rfl (lv_at hl 0 rfl) ?_
  refine W.objInit hx hb hown (hts _ q678) (hts _ q133) (by rw [← ex_b2]; exact hts _ q134) rfl (hl.1.trans hml.symm) rfl dX20_init_1 (Nat.le_of_ble_eq_true rfl) (Nat.le_of_ble_eq_true rfl) ?_
  refine lv_aload_n hx hb dX20_init_4 rfl (lv_at hl 0 rfl) ?_
  refine lv_iload_n hx hb dX20_init_5 rfl (lv_at hl 1 rfl) ?_
  refine va_putF (D := D) (ci := 13) (C := RX25) (T := TX25) (N := 2) hx hb hts in_X25 tyX25 tyX25_ok nmX25 hown hKK.1 hO (ob_D (A := fun q => q = a) rfl) hS 0 rfl rfl 0 (by decide) (hts _ q679) (fun _ h => h) rfl hnm rfl (ty := .int) (by decide +kernel) rfl rfl (Nat.le_of_ble_eq_true rfl) dX20_init_6 (fun H locs hP1 _ hS => ?_)
  have hO : OB D a 13 [(.int v0), (.int 0)] H := hP1
  refine lv_aload_n hx hb dX20_init_9 rfl (lv_at hl 0 rfl) ?_
  refine lv_iload_n hx hb dX20_init_10 rfl (lv_at hl 2 rfl) ?_
  refine va_putF (D := D) (ci := 13) (C := RX25) (T := TX25) (N := 2) hx hb hts in_X25 tyX25 tyX25_ok nmX25 hown hKK.1 hO (ob_D (A := fun q => q = a) rfl) hS 0 rfl rfl 1 (by decide) (hts _ q684) (fun _ h => h) rfl hnm rfl (ty := .int) (by decide +kernel) rfl rfl (Nat.le_of_ble_eq_true rfl) dX20_init_11 (fun H locs hP1 _ hS => ?_)
  have hO : OB D a 13 [(.int v0), (.int v1)] H := hP1
  exact W.vret hx hb hr (fun tt ht _ => ⟨⟨(), rfl, trivial, by show OB D a 13 [(.int v0), (.int v1)] tt.heap; rw [ht]; exact hO⟩, hS.F ht⟩) hS.2.2 dX20_init_14 hlk
set_option maxHeartbeats 800000 in
theorem ck_X21_13 (l : Launch) (D : va_G) (t : Nat → ClassId) (a : Nat) (v0 : Int32) (v1 : Int32) : Met l yX21_init (ws_ yX21_init cX21_init 3 none) ({ frames := 2, cells := 0, slots := 0, locals := 42 }) (zPc [.ref a, .int v0, .int v1] (OB D a 13 [(.int 0), (.int 0)]) (KK D t)) (va_Qv (fun _ => True) (fun (_ : Unit) U => OB D a 13 [(.int v0), (.int v1)] U.heap) (fun q => q = a)) 0 0 (fun q => q = a) := by
  refine zOf (cc := cX21_init) (maxL := 3) (ret := none) (by decide) (Nat.le_of_ble_eq_true rfl) (fun pg ev s m below meth cd ls F hO hKK hl hnm => ?_)
  obtain ⟨hx, hb, hml, hown, hts, hr, hlk⟩ := F
  have S : CallFix pg m cd cX21_init 3 s _ lw_all RX21 := ⟨hx, hb, hml, hown, hts⟩
  have hl : lv_has ls 3 [(0, .ref a), (1, .int v0), (2, .int v1)] := hl
  have hS : va_S (fun q => q = a) s.heap s.heap [] := va_S.rf
  refine lv_aload_n hx hb dX21_init_0 rfl (lv_at hl 0 rfl) ?_
  refine lv_iload_n hx hb dX21_init_1 rfl (lv_at hl 1 rfl) ?_
  refine lv_iload_n hx hb dX21_init_2 rfl (lv_at hl 2 rfl) ?_
  refine va_callv (va_runI (As := [.int v0, .int v1]) (rest := []) S (ck_X20_13 l D t a v0 v1) (cwI 2 hts (lw_meth q677) rfl rfl rfl (hts _ q120) (hts _ q675) (hts _ q676) rfl ⟨by decide, by decide, by decide +kernel⟩ ⟨Nat.le_of_ble_eq_true rfl, Nat.le_of_ble_eq_true rfl⟩) ⟨zBlind, fun U hU hW => ⟨rfl, by rw [hU]; exact hO, hKK.warm hW⟩⟩ rfl rfl hl.1 rfl (lv_room (Nat.le_of_ble_eq_true rfl)) dX21_init_3 ⟨Nat.le_of_ble_eq_true rfl, Nat.le_of_ble_eq_true rfl⟩) hS (fun q _ h => h) (fun q h => h) (fun u tt H locs ht _ _ hO _ _ hS => ?_)
  rw [ht] at hO
  have hO : OB D a 13 [(.int v0), (.int v1)] H := hO
  exact W.vret hx hb hr (fun tt ht _ => ⟨⟨(), rfl, trivial, by show OB D a 13 [(.int v0), (.int v1)] tt.heap; rw [ht]; exact hO⟩, hS.F ht⟩) hS.2.2 dX21_init_6 hlk
set_option maxHeartbeats 800000 in
theorem ck_X23_13 (l : Launch) (D : va_G) (t : Nat → ClassId) (a : Nat) (v0 : Int32) (v1 : Int32) : Met l yX23_init (ws_ yX23_init cX23_init 3 none) ({ frames := 3, cells := 0, slots := 0, locals := 64 }) (zPc [.ref a, .int v0, .int v1] (OB D a 13 [(.int 0), (.int 0)]) (KK D t)) (va_Qv (fun _ => True) (fun (_ : Unit) U => OB D a 13 [(.int v0), (.int v1)] U.heap) (fun q => q = a)) 0 0 (fun q => q = a) := by
  refine zOf (cc := cX23_init) (maxL := 3) (ret := none) (by decide) (Nat.le_of_ble_eq_true rfl) (fun pg ev s m below meth cd ls F hO hKK hl hnm => ?_)
  obtain ⟨hx, hb, hml, hown, hts, hr, hlk⟩ := F
  have S : CallFix pg m cd cX23_init 3 s _ lw_all RX23 := ⟨hx, hb, hml, hown, hts⟩
  have hl : lv_has ls 3 [(0, .ref a), (1, .int v0), (2, .int v1)] := hl
  have hS : va_S (fun q => q = a) s.heap s.heap [] := va_S.rf
  refine lv_aload_n hx hb dX23_init_0 rfl (lv_at hl 0 rfl) ?_
  refine lv_iload_n hx hb dX23_init_1 rfl (lv_at hl 1 rfl) ?_
  refine lv_iload_n hx hb dX23_init_2 rfl (lv_at hl 2 rfl) ?_
  refine va_callv (va_runI (As := [.int v0, .int v1]) (rest := []) S (ck_X21_13 l D t a v0 v1) (cwI 2 hts (lw_meth q674) rfl rfl rfl (hts _ q121) (hts _ q707) (hts _ q673) rfl ⟨by decide, by decide, by decide +kernel⟩ ⟨Nat.le_of_ble_eq_true rfl, Nat.le_of_ble_eq_true rfl⟩) ⟨zBlind, fun U hU hW => ⟨rfl, by rw [hU]; exact hO, hKK.warm hW⟩⟩ rfl rfl hl.1 rfl (lv_room (Nat.le_of_ble_eq_true rfl)) dX23_init_3 ⟨Nat.le_of_ble_eq_true rfl, Nat.le_of_ble_eq_true rfl⟩) hS (fun q _ h => h) (fun q h => h) (fun u tt H locs ht _ _ hO _ _ hS => ?_)
  rw [ht] at hO
  have hO : OB D a 13 [(.int v0), (.int v1)] H := hO
  exact W.vret hx hb hr (fun tt ht _ => ⟨⟨(), rfl, trivial, by show OB D a 13 [(.int v0), (.int v1)] tt.heap; rw [ht]; exact hO⟩, hS.F ht⟩) hS.2.2 dX23_init_6 hlk
set_option maxHeartbeats 800000 in
theorem ck_X25_13 (l : Launch) (D : va_G) (t : Nat → ClassId) (a : Nat) (v0 : Int32) (v1 : Int32) : Met l yX25_init (ws_ yX25_init cX25_init 3 none) ({ frames := 4, cells := 0, slots := 0, locals := 86 }) (zPc [.ref a, .int v0, .int v1] (OB D a 13 [(.int 0), (.int 0)]) (KK D t)) (va_Qv (fun _ => True) (fun (_ : Unit) U => OB D a 13 [(.int v0), (.int v1)] U.heap) (fun q => q = a)) 0 0 (fun q => q = a) := by
  refine zOf (cc := cX25_init) (maxL := 3) (ret := none) (by decide) (Nat.le_of_ble_eq_true rfl) (fun pg ev s m below meth cd ls F hO hKK hl hnm => ?_)
  obtain ⟨hx, hb, hml, hown, hts, hr, hlk⟩ := F
  have S : CallFix pg m cd cX25_init 3 s _ lw_all RX25 := ⟨hx, hb, hml, hown, hts⟩
  have hl : lv_has ls 3 [(0, .ref a), (1, .int v0), (2, .int v1)] := hl
  have hS : va_S (fun q => q = a) s.heap s.heap [] := va_S.rf
  refine lv_aload_n hx hb dX25_init_0 rfl (lv_at hl 0 rfl) ?_
  refine lv_iload_n hx hb dX25_init_1 rfl (lv_at hl 1 rfl) ?_
  refine lv_iload_n hx hb dX25_init_2 rfl (lv_at hl 2 rfl) ?_
  refine va_callv (va_runI (As := [.int v0, .int v1]) (rest := []) S (ck_X23_13 l D t a v0 v1) (cwI 2 hts (lw_meth q706) rfl rfl rfl (hts _ q123) (hts _ q724) (hts _ q705) rfl ⟨by decide, by decide, by decide +kernel⟩ ⟨Nat.le_of_ble_eq_true rfl, Nat.le_of_ble_eq_true rfl⟩) ⟨zBlind, fun U hU hW => ⟨rfl, by rw [hU]; exact hO, hKK.warm hW⟩⟩ rfl rfl hl.1 rfl (lv_room (Nat.le_of_ble_eq_true rfl)) dX25_init_3 ⟨Nat.le_of_ble_eq_true rfl, Nat.le_of_ble_eq_true rfl⟩) hS (fun q _ h => h) (fun q h => h) (fun u tt H locs ht _ _ hO _ _ hS => ?_)
  rw [ht] at hO
  have hO : OB D a 13 [(.int v0), (.int v1)] H := hO
  exact W.vret hx hb hr (fun tt ht _ => ⟨⟨(), rfl, trivial, by show OB D a 13 [(.int v0), (.int v1)] tt.heap; rw [ht]; exact hO⟩, hS.F ht⟩) hS.2.2 dX25_init_6 hlk
set_option maxHeartbeats 800000 in
theorem ck_X20_14 (l : Launch) (D : va_G) (t : Nat → ClassId) (a : Nat) (v0 : Int32) (v1 : Int32) : Met l yX20_init (ws_ yX20_init cX20_init 3 none) ({ frames := 1, cells := 0, slots := 0, locals := 20 }) (zPc [.ref a, .int v0, .int v1] (OB D a 14 [(.int 0), (.int 0)]) (KK D t)) (va_Qv (fun _ => True) (fun (_ : Unit) U => OB D a 14 [(.int v0), (.int v1)] U.heap) (fun q => q = a)) 0 0 (fun q => q = a) := by
  refine zOf (cc := cX20_init) (maxL := 3) (ret := none) (by decide) (Nat.le_of_ble_eq_true rfl) (fun pg ev s m below meth cd ls F hO hKK hl hnm => ?_)
  obtain ⟨hx, hb, hml, hown, hts, hr, hlk⟩ := F
  have S : CallFix pg m cd cX20_init 3 s _ lw_all RX20 := ⟨hx, hb, hml, hown, hts⟩
  have hl : lv_has ls 3 [(0, .ref a), (1, .int v0), (2, .int v1)] := hl
  have hS : va_S (fun q => q = a) s.heap s.heap [] := va_S.rf
  refine lv_aload_n hx hb dX20_init_0 rfl (lv_at hl 0 rfl) ?_
  refine W.objInit hx hb hown (hts _ q678) (hts _ q133) (by rw [← ex_b2]; exact hts _ q134) rfl (hl.1.trans hml.symm) rfl dX20_init_1 (Nat.le_of_ble_eq_true rfl) (Nat.le_of_ble_eq_true rfl) ?_
  refine lv_aload_n hx hb dX20_init_4 rfl (lv_at hl 0 rfl) ?_
  refine lv_iload_n hx hb dX20_init_5 rfl (lv_at hl 1 rfl) ?_
  refine va_putF (D := D) (ci := 14) (C := RX26) (T := TX26) (N := 2) hx hb hts in_X26 tyX26 tyX26_ok nmX26 hown hKK.1 hO (ob_D (A := fun q => q = a) rfl) hS 0 rfl rfl 0 (by decide) (hts _ q679) (fun _ h => h) rfl hnm rfl (ty := .int) (by decide +kernel) rfl rfl (Nat.le_of_ble_eq_true rfl) dX20_init_6 (fun H locs hP1 _ hS => ?_)
  have hO : OB D a 14 [(.int v0), (.int 0)] H := hP1
  refine lv_aload_n hx hb dX20_init_9 rfl (lv_at hl 0 rfl) ?_
  refine lv_iload_n hx hb dX20_init_10 rfl (lv_at hl 2 rfl) ?_
  refine va_putF (D := D) (ci := 14) (C := RX26) (T := TX26) (N := 2) hx hb hts in_X26 tyX26 tyX26_ok nmX26 hown hKK.1 hO (ob_D (A := fun q => q = a) rfl) hS 0 rfl rfl 1 (by decide) (hts _ q684) (fun _ h => h) rfl hnm rfl (ty := .int) (by decide +kernel) rfl rfl (Nat.le_of_ble_eq_true rfl) dX20_init_11 (fun H locs hP1 _ hS => ?_)
  have hO : OB D a 14 [(.int v0), (.int v1)] H := hP1
  exact W.vret hx hb hr (fun tt ht _ => ⟨⟨(), rfl, trivial, by show OB D a 14 [(.int v0), (.int v1)] tt.heap; rw [ht]; exact hO⟩, hS.F ht⟩) hS.2.2 dX20_init_14 hlk
set_option maxHeartbeats 800000 in
theorem ck_X21_14 (l : Launch) (D : va_G) (t : Nat → ClassId) (a : Nat) (v0 : Int32) (v1 : Int32) : Met l yX21_init (ws_ yX21_init cX21_init 3 none) ({ frames := 2, cells := 0, slots := 0, locals := 42 }) (zPc [.ref a, .int v0, .int v1] (OB D a 14 [(.int 0), (.int 0)]) (KK D t)) (va_Qv (fun _ => True) (fun (_ : Unit) U => OB D a 14 [(.int v0), (.int v1)] U.heap) (fun q => q = a)) 0 0 (fun q => q = a) := by
  refine zOf (cc := cX21_init) (maxL := 3) (ret := none) (by decide) (Nat.le_of_ble_eq_true rfl) (fun pg ev s m below meth cd ls F hO hKK hl hnm => ?_)
  obtain ⟨hx, hb, hml, hown, hts, hr, hlk⟩ := F
  have S : CallFix pg m cd cX21_init 3 s _ lw_all RX21 := ⟨hx, hb, hml, hown, hts⟩
  have hl : lv_has ls 3 [(0, .ref a), (1, .int v0), (2, .int v1)] := hl
  have hS : va_S (fun q => q = a) s.heap s.heap [] := va_S.rf
  refine lv_aload_n hx hb dX21_init_0 rfl (lv_at hl 0 rfl) ?_
  refine lv_iload_n hx hb dX21_init_1 rfl (lv_at hl 1 rfl) ?_
  refine lv_iload_n hx hb dX21_init_2 rfl (lv_at hl 2 rfl) ?_
  refine va_callv (va_runI (As := [.int v0, .int v1]) (rest := []) S (ck_X20_14 l D t a v0 v1) (cwI 2 hts (lw_meth q677) rfl rfl rfl (hts _ q120) (hts _ q675) (hts _ q676) rfl ⟨by decide, by decide, by decide +kernel⟩ ⟨Nat.le_of_ble_eq_true rfl, Nat.le_of_ble_eq_true rfl⟩) ⟨zBlind, fun U hU hW => ⟨rfl, by rw [hU]; exact hO, hKK.warm hW⟩⟩ rfl rfl hl.1 rfl (lv_room (Nat.le_of_ble_eq_true rfl)) dX21_init_3 ⟨Nat.le_of_ble_eq_true rfl, Nat.le_of_ble_eq_true rfl⟩) hS (fun q _ h => h) (fun q h => h) (fun u tt H locs ht _ _ hO _ _ hS => ?_)
  rw [ht] at hO
  have hO : OB D a 14 [(.int v0), (.int v1)] H := hO
  exact W.vret hx hb hr (fun tt ht _ => ⟨⟨(), rfl, trivial, by show OB D a 14 [(.int v0), (.int v1)] tt.heap; rw [ht]; exact hO⟩, hS.F ht⟩) hS.2.2 dX21_init_6 hlk
set_option maxHeartbeats 800000 in
theorem ck_X22_14 (l : Launch) (D : va_G) (t : Nat → ClassId) (a : Nat) (v0 : Int32) (v1 : Int32) : Met l yX22_init (ws_ yX22_init cX22_init 3 none) ({ frames := 3, cells := 0, slots := 0, locals := 64 }) (zPc [.ref a, .int v0, .int v1] (OB D a 14 [(.int 0), (.int 0)]) (KK D t)) (va_Qv (fun _ => True) (fun (_ : Unit) U => OB D a 14 [(.int v0), (.int v1)] U.heap) (fun q => q = a)) 0 0 (fun q => q = a) := by
  refine zOf (cc := cX22_init) (maxL := 3) (ret := none) (by decide) (Nat.le_of_ble_eq_true rfl) (fun pg ev s m below meth cd ls F hO hKK hl hnm => ?_)
  obtain ⟨hx, hb, hml, hown, hts, hr, hlk⟩ := F
  have S : CallFix pg m cd cX22_init 3 s _ lw_all RX22 := ⟨hx, hb, hml, hown, hts⟩
  have hl : lv_has ls 3 [(0, .ref a), (1, .int v0), (2, .int v1)] := hl
  have hS : va_S (fun q => q = a) s.heap s.heap [] := va_S.rf
  refine lv_aload_n hx hb dX22_init_0 rfl (lv_at hl 0 rfl) ?_
  refine lv_iload_n hx hb dX22_init_1 rfl (lv_at hl 1 rfl) ?_
  refine lv_iload_n hx hb dX22_init_2 rfl (lv_at hl 2 rfl) ?_
  refine va_callv (va_runI (As := [.int v0, .int v1]) (rest := []) S (ck_X21_14 l D t a v0 v1) (cwI 2 hts (lw_meth q674) rfl rfl rfl (hts _ q121) (hts _ q698) (hts _ q673) rfl ⟨by decide, by decide, by decide +kernel⟩ ⟨Nat.le_of_ble_eq_true rfl, Nat.le_of_ble_eq_true rfl⟩) ⟨zBlind, fun U hU hW => ⟨rfl, by rw [hU]; exact hO, hKK.warm hW⟩⟩ rfl rfl hl.1 rfl (lv_room (Nat.le_of_ble_eq_true rfl)) dX22_init_3 ⟨Nat.le_of_ble_eq_true rfl, Nat.le_of_ble_eq_true rfl⟩) hS (fun q _ h => h) (fun q h => h) (fun u tt H locs ht _ _ hO _ _ hS => ?_)
  rw [ht] at hO
  have hO : OB D a 14 [(.int v0), (.int v1)] H := hO
  exact W.vret hx hb hr (fun tt ht _ => ⟨⟨(), rfl, trivial, by show OB D a 14 [(.int v0), (.int v1)] tt.heap; rw [ht]; exact hO⟩, hS.F ht⟩) hS.2.2 dX22_init_6 hlk
set_option maxHeartbeats 800000 in
theorem ck_X26_14 (l : Launch) (D : va_G) (t : Nat → ClassId) (a : Nat) (v0 : Int32) (v1 : Int32) : Met l yX26_init (ws_ yX26_init cX26_init 3 none) ({ frames := 4, cells := 0, slots := 0, locals := 86 }) (zPc [.ref a, .int v0, .int v1] (OB D a 14 [(.int 0), (.int 0)]) (KK D t)) (va_Qv (fun _ => True) (fun (_ : Unit) U => OB D a 14 [(.int v0), (.int v1)] U.heap) (fun q => q = a)) 0 0 (fun q => q = a) := by
  refine zOf (cc := cX26_init) (maxL := 3) (ret := none) (by decide) (Nat.le_of_ble_eq_true rfl) (fun pg ev s m below meth cd ls F hO hKK hl hnm => ?_)
  obtain ⟨hx, hb, hml, hown, hts, hr, hlk⟩ := F
  have S : CallFix pg m cd cX26_init 3 s _ lw_all RX26 := ⟨hx, hb, hml, hown, hts⟩
  have hl : lv_has ls 3 [(0, .ref a), (1, .int v0), (2, .int v1)] := hl
  have hS : va_S (fun q => q = a) s.heap s.heap [] := va_S.rf
  refine lv_aload_n hx hb dX26_init_0 rfl (lv_at hl 0 rfl) ?_
  refine lv_iload_n hx hb dX26_init_1 rfl (lv_at hl 1 rfl) ?_
  refine lv_iload_n hx hb dX26_init_2 rfl (lv_at hl 2 rfl) ?_
  refine va_callv (va_runI (As := [.int v0, .int v1]) (rest := []) S (ck_X22_14 l D t a v0 v1) (cwI 2 hts (lw_meth q697) rfl rfl rfl (hts _ q122) (hts _ q732) (hts _ q696) rfl ⟨by decide, by decide, by decide +kernel⟩ ⟨Nat.le_of_ble_eq_true rfl, Nat.le_of_ble_eq_true rfl⟩) ⟨zBlind, fun U hU hW => ⟨rfl, by rw [hU]; exact hO, hKK.warm hW⟩⟩ rfl rfl hl.1 rfl (lv_room (Nat.le_of_ble_eq_true rfl)) dX26_init_3 ⟨Nat.le_of_ble_eq_true rfl, Nat.le_of_ble_eq_true rfl⟩) hS (fun q _ h => h) (fun q h => h) (fun u tt H locs ht _ _ hO _ _ hS => ?_)
  rw [ht] at hO
  have hO : OB D a 14 [(.int v0), (.int v1)] H := hO
  exact W.vret hx hb hr (fun tt ht _ => ⟨⟨(), rfl, trivial, by show OB D a 14 [(.int v0), (.int v1)] tt.heap; rw [ht]; exact hO⟩, hS.F ht⟩) hS.2.2 dX26_init_6 hlk
set_option maxHeartbeats 800000 in
theorem ck_X1_3 (l : Launch) (D : va_G) (t : Nat → ClassId) (a : Nat) : Met l yX1_init (ws_ yX1_init cX1_init 1 none) ({ frames := 1, cells := 0, slots := 0, locals := 20 }) (zPc [.ref a] (OB D a 3 []) (KK D t)) (va_Qv (fun _ => True) (fun (_ : Unit) U => OB D a 3 [] U.heap) (fun q => q = a)) 0 0 (fun q => q = a) := by
  refine zOf (cc := cX1_init) (maxL := 1) (ret := none) (by decide) (Nat.le_of_ble_eq_true rfl) (fun pg ev s m below meth cd ls F hO hKK hl hnm => ?_)
  obtain ⟨hx, hb, hml, hown, hts, hr, hlk⟩ := F
  have S : CallFix pg m cd cX1_init 1 s _ lw_all RX1 := ⟨hx, hb, hml, hown, hts⟩
  have hl : lv_has ls 1 [(0, .ref a)] := hl
  have hS : va_S (fun q => q = a) s.heap s.heap [] := va_S.rf
  refine lv_aload_n hx hb dX1_init_0 rfl (lv_at hl 0 rfl) ?_
  refine W.objInit hx hb hown (hts _ q145) (hts _ q133) (by rw [← ex_b2]; exact hts _ q134) rfl (hl.1.trans hml.symm) rfl dX1_init_1 (Nat.le_of_ble_eq_true rfl) (Nat.le_of_ble_eq_true rfl) ?_
  exact W.vret hx hb hr (fun tt ht _ => ⟨⟨(), rfl, trivial, by show OB D a 3 [] tt.heap; rw [ht]; exact hO⟩, hS.F ht⟩) hS.2.2 dX1_init_4 hlk
set_option maxHeartbeats 800000 in
theorem ck_X2_3 (l : Launch) (D : va_G) (t : Nat → ClassId) (a : Nat) : Met l yX2_init (ws_ yX2_init cX2_init 1 none) ({ frames := 2, cells := 0, slots := 0, locals := 40 }) (zPc [.ref a] (OB D a 3 []) (KK D t)) (va_Qv (fun _ => True) (fun (_ : Unit) U => OB D a 3 [] U.heap) (fun q => q = a)) 0 0 (fun q => q = a) := by
  refine zOf (cc := cX2_init) (maxL := 1) (ret := none) (by decide) (Nat.le_of_ble_eq_true rfl) (fun pg ev s m below meth cd ls F hO hKK hl hnm => ?_)
  obtain ⟨hx, hb, hml, hown, hts, hr, hlk⟩ := F
  have S : CallFix pg m cd cX2_init 1 s _ lw_all RX2 := ⟨hx, hb, hml, hown, hts⟩
  have hl : lv_has ls 1 [(0, .ref a)] := hl
  have hS : va_S (fun q => q = a) s.heap s.heap [] := va_S.rf
  refine lv_aload_n hx hb dX2_init_0 rfl (lv_at hl 0 rfl) ?_
  refine va_callv (va_runIN (As := []) (rest := []) S (ck_X1_3 l D t a ) ⟨va_cnB 0 hts (lw_meth q144) rfl rfl rfl (hKK.2.1 _ q142 rfl) (hts _ q96) ⟨by decide, by decide, by decide +kernel⟩ ⟨Nat.le_of_ble_eq_true rfl, Nat.le_of_ble_eq_true rfl⟩, rfl, hts _ q143⟩ ⟨zBlind, fun U hU hW => ⟨rfl, by rw [hU]; exact hO, hKK.warm hW⟩⟩ rfl rfl hl.1 rfl (lv_room (Nat.le_of_ble_eq_true rfl)) dX2_init_1 ⟨Nat.le_of_ble_eq_true rfl, Nat.le_of_ble_eq_true rfl⟩) hS (fun q _ h => h) (fun q h => h) (fun u tt H locs ht _ _ hO _ _ hS => ?_)
  rw [ht] at hO
  have hO : OB D a 3 [] H := hO
  exact W.vret hx hb hr (fun tt ht _ => ⟨⟨(), rfl, trivial, by show OB D a 3 [] tt.heap; rw [ht]; exact hO⟩, hS.F ht⟩) hS.2.2 dX2_init_4 hlk
set_option maxHeartbeats 800000 in
theorem ck_X1_4 (l : Launch) (D : va_G) (t : Nat → ClassId) (a : Nat) : Met l yX1_init (ws_ yX1_init cX1_init 1 none) ({ frames := 1, cells := 0, slots := 0, locals := 20 }) (zPc [.ref a] (OB D a 4 []) (KK D t)) (va_Qv (fun _ => True) (fun (_ : Unit) U => OB D a 4 [] U.heap) (fun q => q = a)) 0 0 (fun q => q = a) := by
  refine zOf (cc := cX1_init) (maxL := 1) (ret := none) (by decide) (Nat.le_of_ble_eq_true rfl) (fun pg ev s m below meth cd ls F hO hKK hl hnm => ?_)
  obtain ⟨hx, hb, hml, hown, hts, hr, hlk⟩ := F
  have S : CallFix pg m cd cX1_init 1 s _ lw_all RX1 := ⟨hx, hb, hml, hown, hts⟩
  have hl : lv_has ls 1 [(0, .ref a)] := hl
  have hS : va_S (fun q => q = a) s.heap s.heap [] := va_S.rf
  refine lv_aload_n hx hb dX1_init_0 rfl (lv_at hl 0 rfl) ?_
  refine W.objInit hx hb hown (hts _ q145) (hts _ q133) (by rw [← ex_b2]; exact hts _ q134) rfl (hl.1.trans hml.symm) rfl dX1_init_1 (Nat.le_of_ble_eq_true rfl) (Nat.le_of_ble_eq_true rfl) ?_
  exact W.vret hx hb hr (fun tt ht _ => ⟨⟨(), rfl, trivial, by show OB D a 4 [] tt.heap; rw [ht]; exact hO⟩, hS.F ht⟩) hS.2.2 dX1_init_4 hlk
set_option maxHeartbeats 800000 in
theorem ck_X2_4 (l : Launch) (D : va_G) (t : Nat → ClassId) (a : Nat) : Met l yX2_init (ws_ yX2_init cX2_init 1 none) ({ frames := 2, cells := 0, slots := 0, locals := 40 }) (zPc [.ref a] (OB D a 4 []) (KK D t)) (va_Qv (fun _ => True) (fun (_ : Unit) U => OB D a 4 [] U.heap) (fun q => q = a)) 0 0 (fun q => q = a) := by
  refine zOf (cc := cX2_init) (maxL := 1) (ret := none) (by decide) (Nat.le_of_ble_eq_true rfl) (fun pg ev s m below meth cd ls F hO hKK hl hnm => ?_)
  obtain ⟨hx, hb, hml, hown, hts, hr, hlk⟩ := F
  have S : CallFix pg m cd cX2_init 1 s _ lw_all RX2 := ⟨hx, hb, hml, hown, hts⟩
  have hl : lv_has ls 1 [(0, .ref a)] := hl
  have hS : va_S (fun q => q = a) s.heap s.heap [] := va_S.rf
  refine lv_aload_n hx hb dX2_init_0 rfl (lv_at hl 0 rfl) ?_
  refine va_callv (va_runIN (As := []) (rest := []) S (ck_X1_4 l D t a ) ⟨va_cnB 0 hts (lw_meth q144) rfl rfl rfl (hKK.2.1 _ q142 rfl) (hts _ q96) ⟨by decide, by decide, by decide +kernel⟩ ⟨Nat.le_of_ble_eq_true rfl, Nat.le_of_ble_eq_true rfl⟩, rfl, hts _ q143⟩ ⟨zBlind, fun U hU hW => ⟨rfl, by rw [hU]; exact hO, hKK.warm hW⟩⟩ rfl rfl hl.1 rfl (lv_room (Nat.le_of_ble_eq_true rfl)) dX2_init_1 ⟨Nat.le_of_ble_eq_true rfl, Nat.le_of_ble_eq_true rfl⟩) hS (fun q _ h => h) (fun q h => h) (fun u tt H locs ht _ _ hO _ _ hS => ?_)
  rw [ht] at hO
  have hO : OB D a 4 [] H := hO
  exact W.vret hx hb hr (fun tt ht _ => ⟨⟨(), rfl, trivial, by show OB D a 4 [] tt.heap; rw [ht]; exact hO⟩, hS.F ht⟩) hS.2.2 dX2_init_4 hlk
set_option maxHeartbeats 800000 in
theorem ck_X3_4 (l : Launch) (D : va_G) (t : Nat → ClassId) (a : Nat) : Met l yX3_init (ws_ yX3_init cX3_init 1 none) ({ frames := 3, cells := 0, slots := 0, locals := 60 }) (zPc [.ref a] (OB D a 4 []) (KK D t)) (va_Qv (fun _ => True) (fun (_ : Unit) U => OB D a 4 [] U.heap) (fun q => q = a)) 0 0 (fun q => q = a) := by
  refine zOf (cc := cX3_init) (maxL := 1) (ret := none) (by decide) (Nat.le_of_ble_eq_true rfl) (fun pg ev s m below meth cd ls F hO hKK hl hnm => ?_)
  obtain ⟨hx, hb, hml, hown, hts, hr, hlk⟩ := F
  have S : CallFix pg m cd cX3_init 1 s _ lw_all RX3 := ⟨hx, hb, hml, hown, hts⟩
  have hl : lv_has ls 1 [(0, .ref a)] := hl
  have hS : va_S (fun q => q = a) s.heap s.heap [] := va_S.rf
  refine lv_aload_n hx hb dX3_init_0 rfl (lv_at hl 0 rfl) ?_
  refine va_callv (va_runIN (As := []) (rest := []) S (ck_X2_4 l D t a ) ⟨va_cnB 0 hts (lw_meth q141) rfl rfl rfl (hKK.2.1 _ q152 rfl) (hts _ q97) ⟨by decide, by decide, by decide +kernel⟩ ⟨Nat.le_of_ble_eq_true rfl, Nat.le_of_ble_eq_true rfl⟩, rfl, hts _ q140⟩ ⟨zBlind, fun U hU hW => ⟨rfl, by rw [hU]; exact hO, hKK.warm hW⟩⟩ rfl rfl hl.1 rfl (lv_room (Nat.le_of_ble_eq_true rfl)) dX3_init_1 ⟨Nat.le_of_ble_eq_true rfl, Nat.le_of_ble_eq_true rfl⟩) hS (fun q _ h => h) (fun q h => h) (fun u tt H locs ht _ _ hO _ _ hS => ?_)
  rw [ht] at hO
  have hO : OB D a 4 [] H := hO
  exact W.vret hx hb hr (fun tt ht _ => ⟨⟨(), rfl, trivial, by show OB D a 4 [] tt.heap; rw [ht]; exact hO⟩, hS.F ht⟩) hS.2.2 dX3_init_4 hlk
set_option maxHeartbeats 800000 in
theorem ck_X1_5 (l : Launch) (D : va_G) (t : Nat → ClassId) (a : Nat) : Met l yX1_init (ws_ yX1_init cX1_init 1 none) ({ frames := 1, cells := 0, slots := 0, locals := 20 }) (zPc [.ref a] (OB D a 5 []) (KK D t)) (va_Qv (fun _ => True) (fun (_ : Unit) U => OB D a 5 [] U.heap) (fun q => q = a)) 0 0 (fun q => q = a) := by
  refine zOf (cc := cX1_init) (maxL := 1) (ret := none) (by decide) (Nat.le_of_ble_eq_true rfl) (fun pg ev s m below meth cd ls F hO hKK hl hnm => ?_)
  obtain ⟨hx, hb, hml, hown, hts, hr, hlk⟩ := F
  have S : CallFix pg m cd cX1_init 1 s _ lw_all RX1 := ⟨hx, hb, hml, hown, hts⟩
  have hl : lv_has ls 1 [(0, .ref a)] := hl
  have hS : va_S (fun q => q = a) s.heap s.heap [] := va_S.rf
  refine lv_aload_n hx hb dX1_init_0 rfl (lv_at hl 0 rfl) ?_
  refine W.objInit hx hb hown (hts _ q145) (hts _ q133) (by rw [← ex_b2]; exact hts _ q134) rfl (hl.1.trans hml.symm) rfl dX1_init_1 (Nat.le_of_ble_eq_true rfl) (Nat.le_of_ble_eq_true rfl) ?_
  exact W.vret hx hb hr (fun tt ht _ => ⟨⟨(), rfl, trivial, by show OB D a 5 [] tt.heap; rw [ht]; exact hO⟩, hS.F ht⟩) hS.2.2 dX1_init_4 hlk
set_option maxHeartbeats 800000 in
theorem ck_X2_5 (l : Launch) (D : va_G) (t : Nat → ClassId) (a : Nat) : Met l yX2_init (ws_ yX2_init cX2_init 1 none) ({ frames := 2, cells := 0, slots := 0, locals := 40 }) (zPc [.ref a] (OB D a 5 []) (KK D t)) (va_Qv (fun _ => True) (fun (_ : Unit) U => OB D a 5 [] U.heap) (fun q => q = a)) 0 0 (fun q => q = a) := by
  refine zOf (cc := cX2_init) (maxL := 1) (ret := none) (by decide) (Nat.le_of_ble_eq_true rfl) (fun pg ev s m below meth cd ls F hO hKK hl hnm => ?_)
  obtain ⟨hx, hb, hml, hown, hts, hr, hlk⟩ := F
  have S : CallFix pg m cd cX2_init 1 s _ lw_all RX2 := ⟨hx, hb, hml, hown, hts⟩
  have hl : lv_has ls 1 [(0, .ref a)] := hl
  have hS : va_S (fun q => q = a) s.heap s.heap [] := va_S.rf
  refine lv_aload_n hx hb dX2_init_0 rfl (lv_at hl 0 rfl) ?_
  refine va_callv (va_runIN (As := []) (rest := []) S (ck_X1_5 l D t a ) ⟨va_cnB 0 hts (lw_meth q144) rfl rfl rfl (hKK.2.1 _ q142 rfl) (hts _ q96) ⟨by decide, by decide, by decide +kernel⟩ ⟨Nat.le_of_ble_eq_true rfl, Nat.le_of_ble_eq_true rfl⟩, rfl, hts _ q143⟩ ⟨zBlind, fun U hU hW => ⟨rfl, by rw [hU]; exact hO, hKK.warm hW⟩⟩ rfl rfl hl.1 rfl (lv_room (Nat.le_of_ble_eq_true rfl)) dX2_init_1 ⟨Nat.le_of_ble_eq_true rfl, Nat.le_of_ble_eq_true rfl⟩) hS (fun q _ h => h) (fun q h => h) (fun u tt H locs ht _ _ hO _ _ hS => ?_)
  rw [ht] at hO
  have hO : OB D a 5 [] H := hO
  exact W.vret hx hb hr (fun tt ht _ => ⟨⟨(), rfl, trivial, by show OB D a 5 [] tt.heap; rw [ht]; exact hO⟩, hS.F ht⟩) hS.2.2 dX2_init_4 hlk
set_option maxHeartbeats 800000 in
theorem ck_X4_5 (l : Launch) (D : va_G) (t : Nat → ClassId) (a : Nat) : Met l yX4_init (ws_ yX4_init cX4_init 1 none) ({ frames := 3, cells := 0, slots := 0, locals := 60 }) (zPc [.ref a] (OB D a 5 []) (KK D t)) (va_Qv (fun _ => True) (fun (_ : Unit) U => OB D a 5 [] U.heap) (fun q => q = a)) 0 0 (fun q => q = a) := by
  refine zOf (cc := cX4_init) (maxL := 1) (ret := none) (by decide) (Nat.le_of_ble_eq_true rfl) (fun pg ev s m below meth cd ls F hO hKK hl hnm => ?_)
  obtain ⟨hx, hb, hml, hown, hts, hr, hlk⟩ := F
  have S : CallFix pg m cd cX4_init 1 s _ lw_all RX4 := ⟨hx, hb, hml, hown, hts⟩
  have hl : lv_has ls 1 [(0, .ref a)] := hl
  have hS : va_S (fun q => q = a) s.heap s.heap [] := va_S.rf
  refine lv_aload_n hx hb dX4_init_0 rfl (lv_at hl 0 rfl) ?_
  refine va_callv (va_runIN (As := []) (rest := []) S (ck_X2_5 l D t a ) ⟨va_cnB 0 hts (lw_meth q141) rfl rfl rfl (hKK.2.1 _ q159 rfl) (hts _ q97) ⟨by decide, by decide, by decide +kernel⟩ ⟨Nat.le_of_ble_eq_true rfl, Nat.le_of_ble_eq_true rfl⟩, rfl, hts _ q140⟩ ⟨zBlind, fun U hU hW => ⟨rfl, by rw [hU]; exact hO, hKK.warm hW⟩⟩ rfl rfl hl.1 rfl (lv_room (Nat.le_of_ble_eq_true rfl)) dX4_init_1 ⟨Nat.le_of_ble_eq_true rfl, Nat.le_of_ble_eq_true rfl⟩) hS (fun q _ h => h) (fun q h => h) (fun u tt H locs ht _ _ hO _ _ hS => ?_)
  rw [ht] at hO
  have hO : OB D a 5 [] H := hO
  exact W.vret hx hb hr (fun tt ht _ => ⟨⟨(), rfl, trivial, by show OB D a 5 [] tt.heap; rw [ht]; exact hO⟩, hS.F ht⟩) hS.2.2 dX4_init_4 hlk
set_option maxHeartbeats 800000 in
theorem ck_X1_6 (l : Launch) (D : va_G) (t : Nat → ClassId) (a : Nat) : Met l yX1_init (ws_ yX1_init cX1_init 1 none) ({ frames := 1, cells := 0, slots := 0, locals := 20 }) (zPc [.ref a] (OB D a 6 []) (KK D t)) (va_Qv (fun _ => True) (fun (_ : Unit) U => OB D a 6 [] U.heap) (fun q => q = a)) 0 0 (fun q => q = a) := by
  refine zOf (cc := cX1_init) (maxL := 1) (ret := none) (by decide) (Nat.le_of_ble_eq_true rfl) (fun pg ev s m below meth cd ls F hO hKK hl hnm => ?_)
  obtain ⟨hx, hb, hml, hown, hts, hr, hlk⟩ := F
  have S : CallFix pg m cd cX1_init 1 s _ lw_all RX1 := ⟨hx, hb, hml, hown, hts⟩
  have hl : lv_has ls 1 [(0, .ref a)] := hl
  have hS : va_S (fun q => q = a) s.heap s.heap [] := va_S.rf
  refine lv_aload_n hx hb dX1_init_0 rfl (lv_at hl 0 rfl) ?_
  refine W.objInit hx hb hown (hts _ q145) (hts _ q133) (by rw [← ex_b2]; exact hts _ q134) rfl (hl.1.trans hml.symm) rfl dX1_init_1 (Nat.le_of_ble_eq_true rfl) (Nat.le_of_ble_eq_true rfl) ?_
  exact W.vret hx hb hr (fun tt ht _ => ⟨⟨(), rfl, trivial, by show OB D a 6 [] tt.heap; rw [ht]; exact hO⟩, hS.F ht⟩) hS.2.2 dX1_init_4 hlk
set_option maxHeartbeats 800000 in
theorem ck_X2_6 (l : Launch) (D : va_G) (t : Nat → ClassId) (a : Nat) : Met l yX2_init (ws_ yX2_init cX2_init 1 none) ({ frames := 2, cells := 0, slots := 0, locals := 40 }) (zPc [.ref a] (OB D a 6 []) (KK D t)) (va_Qv (fun _ => True) (fun (_ : Unit) U => OB D a 6 [] U.heap) (fun q => q = a)) 0 0 (fun q => q = a) := by
  refine zOf (cc := cX2_init) (maxL := 1) (ret := none) (by decide) (Nat.le_of_ble_eq_true rfl) (fun pg ev s m below meth cd ls F hO hKK hl hnm => ?_)
  obtain ⟨hx, hb, hml, hown, hts, hr, hlk⟩ := F
  have S : CallFix pg m cd cX2_init 1 s _ lw_all RX2 := ⟨hx, hb, hml, hown, hts⟩
  have hl : lv_has ls 1 [(0, .ref a)] := hl
  have hS : va_S (fun q => q = a) s.heap s.heap [] := va_S.rf
  refine lv_aload_n hx hb dX2_init_0 rfl (lv_at hl 0 rfl) ?_
  refine va_callv (va_runIN (As := []) (rest := []) S (ck_X1_6 l D t a ) ⟨va_cnB 0 hts (lw_meth q144) rfl rfl rfl (hKK.2.1 _ q142 rfl) (hts _ q96) ⟨by decide, by decide, by decide +kernel⟩ ⟨Nat.le_of_ble_eq_true rfl, Nat.le_of_ble_eq_true rfl⟩, rfl, hts _ q143⟩ ⟨zBlind, fun U hU hW => ⟨rfl, by rw [hU]; exact hO, hKK.warm hW⟩⟩ rfl rfl hl.1 rfl (lv_room (Nat.le_of_ble_eq_true rfl)) dX2_init_1 ⟨Nat.le_of_ble_eq_true rfl, Nat.le_of_ble_eq_true rfl⟩) hS (fun q _ h => h) (fun q h => h) (fun u tt H locs ht _ _ hO _ _ hS => ?_)
  rw [ht] at hO
  have hO : OB D a 6 [] H := hO
  exact W.vret hx hb hr (fun tt ht _ => ⟨⟨(), rfl, trivial, by show OB D a 6 [] tt.heap; rw [ht]; exact hO⟩, hS.F ht⟩) hS.2.2 dX2_init_4 hlk
set_option maxHeartbeats 800000 in
theorem ck_X5_6 (l : Launch) (D : va_G) (t : Nat → ClassId) (a : Nat) : Met l yX5_init (ws_ yX5_init cX5_init 1 none) ({ frames := 3, cells := 0, slots := 0, locals := 60 }) (zPc [.ref a] (OB D a 6 []) (KK D t)) (va_Qv (fun _ => True) (fun (_ : Unit) U => OB D a 6 [] U.heap) (fun q => q = a)) 0 0 (fun q => q = a) := by
  refine zOf (cc := cX5_init) (maxL := 1) (ret := none) (by decide) (Nat.le_of_ble_eq_true rfl) (fun pg ev s m below meth cd ls F hO hKK hl hnm => ?_)
  obtain ⟨hx, hb, hml, hown, hts, hr, hlk⟩ := F
  have S : CallFix pg m cd cX5_init 1 s _ lw_all RX5 := ⟨hx, hb, hml, hown, hts⟩
  have hl : lv_has ls 1 [(0, .ref a)] := hl
  have hS : va_S (fun q => q = a) s.heap s.heap [] := va_S.rf
  refine lv_aload_n hx hb dX5_init_0 rfl (lv_at hl 0 rfl) ?_
  refine va_callv (va_runIN (As := []) (rest := []) S (ck_X2_6 l D t a ) ⟨va_cnB 0 hts (lw_meth q141) rfl rfl rfl (hKK.2.1 _ q166 rfl) (hts _ q97) ⟨by decide, by decide, by decide +kernel⟩ ⟨Nat.le_of_ble_eq_true rfl, Nat.le_of_ble_eq_true rfl⟩, rfl, hts _ q140⟩ ⟨zBlind, fun U hU hW => ⟨rfl, by rw [hU]; exact hO, hKK.warm hW⟩⟩ rfl rfl hl.1 rfl (lv_room (Nat.le_of_ble_eq_true rfl)) dX5_init_1 ⟨Nat.le_of_ble_eq_true rfl, Nat.le_of_ble_eq_true rfl⟩) hS (fun q _ h => h) (fun q h => h) (fun u tt H locs ht _ _ hO _ _ hS => ?_)
  rw [ht] at hO
  have hO : OB D a 6 [] H := hO
  exact W.vret hx hb hr (fun tt ht _ => ⟨⟨(), rfl, trivial, by show OB D a 6 [] tt.heap; rw [ht]; exact hO⟩, hS.F ht⟩) hS.2.2 dX5_init_4 hlk
set_option maxHeartbeats 800000 in
theorem ck_X1_7 (l : Launch) (D : va_G) (t : Nat → ClassId) (a : Nat) : Met l yX1_init (ws_ yX1_init cX1_init 1 none) ({ frames := 1, cells := 0, slots := 0, locals := 20 }) (zPc [.ref a] (OB D a 7 []) (KK D t)) (va_Qv (fun _ => True) (fun (_ : Unit) U => OB D a 7 [] U.heap) (fun q => q = a)) 0 0 (fun q => q = a) := by
  refine zOf (cc := cX1_init) (maxL := 1) (ret := none) (by decide) (Nat.le_of_ble_eq_true rfl) (fun pg ev s m below meth cd ls F hO hKK hl hnm => ?_)
  obtain ⟨hx, hb, hml, hown, hts, hr, hlk⟩ := F
  have S : CallFix pg m cd cX1_init 1 s _ lw_all RX1 := ⟨hx, hb, hml, hown, hts⟩
  have hl : lv_has ls 1 [(0, .ref a)] := hl
  have hS : va_S (fun q => q = a) s.heap s.heap [] := va_S.rf
  refine lv_aload_n hx hb dX1_init_0 rfl (lv_at hl 0 rfl) ?_
  refine W.objInit hx hb hown (hts _ q145) (hts _ q133) (by rw [← ex_b2]; exact hts _ q134) rfl (hl.1.trans hml.symm) rfl dX1_init_1 (Nat.le_of_ble_eq_true rfl) (Nat.le_of_ble_eq_true rfl) ?_
  exact W.vret hx hb hr (fun tt ht _ => ⟨⟨(), rfl, trivial, by show OB D a 7 [] tt.heap; rw [ht]; exact hO⟩, hS.F ht⟩) hS.2.2 dX1_init_4 hlk
set_option maxHeartbeats 800000 in
theorem ck_X2_7 (l : Launch) (D : va_G) (t : Nat → ClassId) (a : Nat) : Met l yX2_init (ws_ yX2_init cX2_init 1 none) ({ frames := 2, cells := 0, slots := 0, locals := 40 }) (zPc [.ref a] (OB D a 7 []) (KK D t)) (va_Qv (fun _ => True) (fun (_ : Unit) U => OB D a 7 [] U.heap) (fun q => q = a)) 0 0 (fun q => q = a) := by
  refine zOf (cc := cX2_init) (maxL := 1) (ret := none) (by decide) (Nat.le_of_ble_eq_true rfl) (fun pg ev s m below meth cd ls F hO hKK hl hnm => ?_)
  obtain ⟨hx, hb, hml, hown, hts, hr, hlk⟩ := F
  have S : CallFix pg m cd cX2_init 1 s _ lw_all RX2 := ⟨hx, hb, hml, hown, hts⟩
  have hl : lv_has ls 1 [(0, .ref a)] := hl
  have hS : va_S (fun q => q = a) s.heap s.heap [] := va_S.rf
  refine lv_aload_n hx hb dX2_init_0 rfl (lv_at hl 0 rfl) ?_
  refine va_callv (va_runIN (As := []) (rest := []) S (ck_X1_7 l D t a ) ⟨va_cnB 0 hts (lw_meth q144) rfl rfl rfl (hKK.2.1 _ q142 rfl) (hts _ q96) ⟨by decide, by decide, by decide +kernel⟩ ⟨Nat.le_of_ble_eq_true rfl, Nat.le_of_ble_eq_true rfl⟩, rfl, hts _ q143⟩ ⟨zBlind, fun U hU hW => ⟨rfl, by rw [hU]; exact hO, hKK.warm hW⟩⟩ rfl rfl hl.1 rfl (lv_room (Nat.le_of_ble_eq_true rfl)) dX2_init_1 ⟨Nat.le_of_ble_eq_true rfl, Nat.le_of_ble_eq_true rfl⟩) hS (fun q _ h => h) (fun q h => h) (fun u tt H locs ht _ _ hO _ _ hS => ?_)
  rw [ht] at hO
  have hO : OB D a 7 [] H := hO
  exact W.vret hx hb hr (fun tt ht _ => ⟨⟨(), rfl, trivial, by show OB D a 7 [] tt.heap; rw [ht]; exact hO⟩, hS.F ht⟩) hS.2.2 dX2_init_4 hlk
set_option maxHeartbeats 800000 in
theorem ck_X5_7 (l : Launch) (D : va_G) (t : Nat → ClassId) (a : Nat) : Met l yX5_init (ws_ yX5_init cX5_init 1 none) ({ frames := 3, cells := 0, slots := 0, locals := 60 }) (zPc [.ref a] (OB D a 7 []) (KK D t)) (va_Qv (fun _ => True) (fun (_ : Unit) U => OB D a 7 [] U.heap) (fun q => q = a)) 0 0 (fun q => q = a) := by
  refine zOf (cc := cX5_init) (maxL := 1) (ret := none) (by decide) (Nat.le_of_ble_eq_true rfl) (fun pg ev s m below meth cd ls F hO hKK hl hnm => ?_)
  obtain ⟨hx, hb, hml, hown, hts, hr, hlk⟩ := F
  have S : CallFix pg m cd cX5_init 1 s _ lw_all RX5 := ⟨hx, hb, hml, hown, hts⟩
  have hl : lv_has ls 1 [(0, .ref a)] := hl
  have hS : va_S (fun q => q = a) s.heap s.heap [] := va_S.rf
  refine lv_aload_n hx hb dX5_init_0 rfl (lv_at hl 0 rfl) ?_
  refine va_callv (va_runIN (As := []) (rest := []) S (ck_X2_7 l D t a ) ⟨va_cnB 0 hts (lw_meth q141) rfl rfl rfl (hKK.2.1 _ q166 rfl) (hts _ q97) ⟨by decide, by decide, by decide +kernel⟩ ⟨Nat.le_of_ble_eq_true rfl, Nat.le_of_ble_eq_true rfl⟩, rfl, hts _ q140⟩ ⟨zBlind, fun U hU hW => ⟨rfl, by rw [hU]; exact hO, hKK.warm hW⟩⟩ rfl rfl hl.1 rfl (lv_room (Nat.le_of_ble_eq_true rfl)) dX5_init_1 ⟨Nat.le_of_ble_eq_true rfl, Nat.le_of_ble_eq_true rfl⟩) hS (fun q _ h => h) (fun q h => h) (fun u tt H locs ht _ _ hO _ _ hS => ?_)
  rw [ht] at hO
  have hO : OB D a 7 [] H := hO
  exact W.vret hx hb hr (fun tt ht _ => ⟨⟨(), rfl, trivial, by show OB D a 7 [] tt.heap; rw [ht]; exact hO⟩, hS.F ht⟩) hS.2.2 dX5_init_4 hlk
set_option maxHeartbeats 800000 in
theorem ck_X6_7 (l : Launch) (D : va_G) (t : Nat → ClassId) (a : Nat) : Met l yX6_init (ws_ yX6_init cX6_init 1 none) ({ frames := 4, cells := 0, slots := 0, locals := 80 }) (zPc [.ref a] (OB D a 7 []) (KK D t)) (va_Qv (fun _ => True) (fun (_ : Unit) U => OB D a 7 [] U.heap) (fun q => q = a)) 0 0 (fun q => q = a) := by
  refine zOf (cc := cX6_init) (maxL := 1) (ret := none) (by decide) (Nat.le_of_ble_eq_true rfl) (fun pg ev s m below meth cd ls F hO hKK hl hnm => ?_)
  obtain ⟨hx, hb, hml, hown, hts, hr, hlk⟩ := F
  have S : CallFix pg m cd cX6_init 1 s _ lw_all RX6 := ⟨hx, hb, hml, hown, hts⟩
  have hl : lv_has ls 1 [(0, .ref a)] := hl
  have hS : va_S (fun q => q = a) s.heap s.heap [] := va_S.rf
  refine lv_aload_n hx hb dX6_init_0 rfl (lv_at hl 0 rfl) ?_
  refine va_callv (va_runIN (As := []) (rest := []) S (ck_X5_7 l D t a ) ⟨va_cnB 0 hts (lw_meth q165) rfl rfl rfl (hKK.2.1 _ q173 rfl) (hts _ q100) ⟨by decide, by decide, by decide +kernel⟩ ⟨Nat.le_of_ble_eq_true rfl, Nat.le_of_ble_eq_true rfl⟩, rfl, hts _ q164⟩ ⟨zBlind, fun U hU hW => ⟨rfl, by rw [hU]; exact hO, hKK.warm hW⟩⟩ rfl rfl hl.1 rfl (lv_room (Nat.le_of_ble_eq_true rfl)) dX6_init_1 ⟨Nat.le_of_ble_eq_true rfl, Nat.le_of_ble_eq_true rfl⟩) hS (fun q _ h => h) (fun q h => h) (fun u tt H locs ht _ _ hO _ _ hS => ?_)
  rw [ht] at hO
  have hO : OB D a 7 [] H := hO
  exact W.vret hx hb hr (fun tt ht _ => ⟨⟨(), rfl, trivial, by show OB D a 7 [] tt.heap; rw [ht]; exact hO⟩, hS.F ht⟩) hS.2.2 dX6_init_4 hlk
set_option maxHeartbeats 800000 in
theorem ck_X1_8 (l : Launch) (D : va_G) (t : Nat → ClassId) (a : Nat) : Met l yX1_init (ws_ yX1_init cX1_init 1 none) ({ frames := 1, cells := 0, slots := 0, locals := 20 }) (zPc [.ref a] (OB D a 8 []) (KK D t)) (va_Qv (fun _ => True) (fun (_ : Unit) U => OB D a 8 [] U.heap) (fun q => q = a)) 0 0 (fun q => q = a) := by
  refine zOf (cc := cX1_init) (maxL := 1) (ret := none) (by decide) (Nat.le_of_ble_eq_true rfl) (fun pg ev s m below meth cd ls F hO hKK hl hnm => ?_)
  obtain ⟨hx, hb, hml, hown, hts, hr, hlk⟩ := F
  have S : CallFix pg m cd cX1_init 1 s _ lw_all RX1 := ⟨hx, hb, hml, hown, hts⟩
  have hl : lv_has ls 1 [(0, .ref a)] := hl
  have hS : va_S (fun q => q = a) s.heap s.heap [] := va_S.rf
  refine lv_aload_n hx hb dX1_init_0 rfl (lv_at hl 0 rfl) ?_
  refine W.objInit hx hb hown (hts _ q145) (hts _ q133) (by rw [← ex_b2]; exact hts _ q134) rfl (hl.1.trans hml.symm) rfl dX1_init_1 (Nat.le_of_ble_eq_true rfl) (Nat.le_of_ble_eq_true rfl) ?_
  exact W.vret hx hb hr (fun tt ht _ => ⟨⟨(), rfl, trivial, by show OB D a 8 [] tt.heap; rw [ht]; exact hO⟩, hS.F ht⟩) hS.2.2 dX1_init_4 hlk
set_option maxHeartbeats 800000 in
theorem ck_X2_8 (l : Launch) (D : va_G) (t : Nat → ClassId) (a : Nat) : Met l yX2_init (ws_ yX2_init cX2_init 1 none) ({ frames := 2, cells := 0, slots := 0, locals := 40 }) (zPc [.ref a] (OB D a 8 []) (KK D t)) (va_Qv (fun _ => True) (fun (_ : Unit) U => OB D a 8 [] U.heap) (fun q => q = a)) 0 0 (fun q => q = a) := by
  refine zOf (cc := cX2_init) (maxL := 1) (ret := none) (by decide) (Nat.le_of_ble_eq_true rfl) (fun pg ev s m below meth cd ls F hO hKK hl hnm => ?_)
  obtain ⟨hx, hb, hml, hown, hts, hr, hlk⟩ := F
  have S : CallFix pg m cd cX2_init 1 s _ lw_all RX2 := ⟨hx, hb, hml, hown, hts⟩
  have hl : lv_has ls 1 [(0, .ref a)] := hl
  have hS : va_S (fun q => q = a) s.heap s.heap [] := va_S.rf
  refine lv_aload_n hx hb dX2_init_0 rfl (lv_at hl 0 rfl) ?_
  refine va_callv (va_runIN (As := []) (rest := []) S (ck_X1_8 l D t a ) ⟨va_cnB 0 hts (lw_meth q144) rfl rfl rfl (hKK.2.1 _ q142 rfl) (hts _ q96) ⟨by decide, by decide, by decide +kernel⟩ ⟨Nat.le_of_ble_eq_true rfl, Nat.le_of_ble_eq_true rfl⟩, rfl, hts _ q143⟩ ⟨zBlind, fun U hU hW => ⟨rfl, by rw [hU]; exact hO, hKK.warm hW⟩⟩ rfl rfl hl.1 rfl (lv_room (Nat.le_of_ble_eq_true rfl)) dX2_init_1 ⟨Nat.le_of_ble_eq_true rfl, Nat.le_of_ble_eq_true rfl⟩) hS (fun q _ h => h) (fun q h => h) (fun u tt H locs ht _ _ hO _ _ hS => ?_)
  rw [ht] at hO
  have hO : OB D a 8 [] H := hO
  exact W.vret hx hb hr (fun tt ht _ => ⟨⟨(), rfl, trivial, by show OB D a 8 [] tt.heap; rw [ht]; exact hO⟩, hS.F ht⟩) hS.2.2 dX2_init_4 hlk
set_option maxHeartbeats 800000 in
theorem ck_X3_8 (l : Launch) (D : va_G) (t : Nat → ClassId) (a : Nat) : Met l yX3_init (ws_ yX3_init cX3_init 1 none) ({ frames := 3, cells := 0, slots := 0, locals := 60 }) (zPc [.ref a] (OB D a 8 []) (KK D t)) (va_Qv (fun _ => True) (fun (_ : Unit) U => OB D a 8 [] U.heap) (fun q => q = a)) 0 0 (fun q => q = a) := by
  refine zOf (cc := cX3_init) (maxL := 1) (ret := none) (by decide) (Nat.le_of_ble_eq_true rfl) (fun pg ev s m below meth cd ls F hO hKK hl hnm => ?_)
  obtain ⟨hx, hb, hml, hown, hts, hr, hlk⟩ := F
  have S : CallFix pg m cd cX3_init 1 s _ lw_all RX3 := ⟨hx, hb, hml, hown, hts⟩
  have hl : lv_has ls 1 [(0, .ref a)] := hl
  have hS : va_S (fun q => q = a) s.heap s.heap [] := va_S.rf
  refine lv_aload_n hx hb dX3_init_0 rfl (lv_at hl 0 rfl) ?_
  refine va_callv (va_runIN (As := []) (rest := []) S (ck_X2_8 l D t a ) ⟨va_cnB 0 hts (lw_meth q141) rfl rfl rfl (hKK.2.1 _ q152 rfl) (hts _ q97) ⟨by decide, by decide, by decide +kernel⟩ ⟨Nat.le_of_ble_eq_true rfl, Nat.le_of_ble_eq_true rfl⟩, rfl, hts _ q140⟩ ⟨zBlind, fun U hU hW => ⟨rfl, by rw [hU]; exact hO, hKK.warm hW⟩⟩ rfl rfl hl.1 rfl (lv_room (Nat.le_of_ble_eq_true rfl)) dX3_init_1 ⟨Nat.le_of_ble_eq_true rfl, Nat.le_of_ble_eq_true rfl⟩) hS (fun q _ h => h) (fun q h => h) (fun u tt H locs ht _ _ hO _ _ hS => ?_)
  rw [ht] at hO
  have hO : OB D a 8 [] H := hO
  exact W.vret hx hb hr (fun tt ht _ => ⟨⟨(), rfl, trivial, by show OB D a 8 [] tt.heap; rw [ht]; exact hO⟩, hS.F ht⟩) hS.2.2 dX3_init_4 hlk
set_option maxHeartbeats 800000 in
theorem ck_X7_8 (l : Launch) (D : va_G) (t : Nat → ClassId) (a : Nat) : Met l yX7_init (ws_ yX7_init cX7_init 1 none) ({ frames := 4, cells := 0, slots := 0, locals := 80 }) (zPc [.ref a] (OB D a 8 []) (KK D t)) (va_Qv (fun _ => True) (fun (_ : Unit) U => OB D a 8 [] U.heap) (fun q => q = a)) 0 0 (fun q => q = a) := by
  refine zOf (cc := cX7_init) (maxL := 1) (ret := none) (by decide) (Nat.le_of_ble_eq_true rfl) (fun pg ev s m below meth cd ls F hO hKK hl hnm => ?_)
  obtain ⟨hx, hb, hml, hown, hts, hr, hlk⟩ := F
  have S : CallFix pg m cd cX7_init 1 s _ lw_all RX7 := ⟨hx, hb, hml, hown, hts⟩
  have hl : lv_has ls 1 [(0, .ref a)] := hl
  have hS : va_S (fun q => q = a) s.heap s.heap [] := va_S.rf
  refine lv_aload_n hx hb dX7_init_0 rfl (lv_at hl 0 rfl) ?_
  refine va_callv (va_runIN (As := []) (rest := []) S (ck_X3_8 l D t a ) ⟨va_cnB 0 hts (lw_meth q151) rfl rfl rfl (hKK.2.1 _ q180 rfl) (hts _ q98) ⟨by decide, by decide, by decide +kernel⟩ ⟨Nat.le_of_ble_eq_true rfl, Nat.le_of_ble_eq_true rfl⟩, rfl, hts _ q150⟩ ⟨zBlind, fun U hU hW => ⟨rfl, by rw [hU]; exact hO, hKK.warm hW⟩⟩ rfl rfl hl.1 rfl (lv_room (Nat.le_of_ble_eq_true rfl)) dX7_init_1 ⟨Nat.le_of_ble_eq_true rfl, Nat.le_of_ble_eq_true rfl⟩) hS (fun q _ h => h) (fun q h => h) (fun u tt H locs ht _ _ hO _ _ hS => ?_)
  rw [ht] at hO
  have hO : OB D a 8 [] H := hO
  exact W.vret hx hb hr (fun tt ht _ => ⟨⟨(), rfl, trivial, by show OB D a 8 [] tt.heap; rw [ht]; exact hO⟩, hS.F ht⟩) hS.2.2 dX7_init_4 hlk
set_option maxHeartbeats 800000 in
theorem ck_X14_18 (l : Launch) (D : va_G) (t : Nat → ClassId) (a : Nat) (v0 : Int32) (v1 : Int32) (v2 : Int32) : Met l yX14_init (ws_ yX14_init cX14_init 4 none) ({ frames := 1, cells := 0, slots := 0, locals := 20 }) (zPc [.ref a, .int v0, .int v1, .int v2] (OB D a 18 [(.int 0), (.int 0), (.int 0)]) (KK D t)) (va_Qv (fun _ => True) (fun (_ : Unit) U => OB D a 18 [(.int v0), (.int v1), (.int v2)] U.heap) (fun q => q = a)) 0 0 (fun q => q = a) := by
  refine zOf (cc := cX14_init) (maxL := 4) (ret := none) (by decide) (Nat.le_of_ble_eq_true rfl) (fun pg ev s m below meth cd ls F hO hKK hl hnm => ?_)
  obtain ⟨hx, hb, hml, hown, hts, hr, hlk⟩ := F
  have S : CallFix pg m cd cX14_init 4 s _ lw_all RX14 := ⟨hx, hb, hml, hown, hts⟩
  have hl : lv_has ls 4 [(0, .ref a), (1, .int v0), (2, .int v1), (3, .int v2)] := hl
  have hS : va_S (fun q => q = a) s.heap s.heap [] := va_S.rf
  refine lv_aload_n hx hb dX14_init_0 rfl (lv_at hl 0 rfl) ?_
  refine W.objInit hx hb hown (hts _ q490) (hts _ q133) (by rw [← ex_b2]; exact hts _ q134) rfl (hl.1.trans hml.symm) rfl dX14_init_1 (Nat.le_of_ble_eq_true rfl) (Nat.le_of_ble_eq_true rfl) ?_
  refine lv_aload_n hx hb dX14_init_4 rfl (lv_at hl 0 rfl) ?_
  refine lv_iload_n hx hb dX14_init_5 rfl (lv_at hl 1 rfl) ?_
  refine va_putF (D := D) (ci := 18) (C := RX15) (T := TX15) (N := 3) hx hb hts in_X15 tyX15 tyX15_ok nmX15 hown hKK.1 hO (ob_D (A := fun q => q = a) rfl) hS 0 rfl rfl 0 (by decide) (hts _ q491) (fun _ h => h) rfl hnm rfl (ty := .int) (by decide +kernel) rfl rfl (Nat.le_of_ble_eq_true rfl) dX14_init_6 (fun H locs hP1 _ hS => ?_)
  have hO : OB D a 18 [(.int v0), (.int 0), (.int 0)] H := hP1
  refine lv_aload_n hx hb dX14_init_9 rfl (lv_at hl 0 rfl) ?_
  refine lv_iload_n hx hb dX14_init_10 rfl (lv_at hl 2 rfl) ?_
  refine va_putF (D := D) (ci := 18) (C := RX15) (T := TX15) (N := 3) hx hb hts in_X15 tyX15 tyX15_ok nmX15 hown hKK.1 hO (ob_D (A := fun q => q = a) rfl) hS 0 rfl rfl 1 (by decide) (hts _ q493) (fun _ h => h) rfl hnm rfl (ty := .int) (by decide +kernel) rfl rfl (Nat.le_of_ble_eq_true rfl) dX14_init_11 (fun H locs hP1 _ hS => ?_)
  have hO : OB D a 18 [(.int v0), (.int v1), (.int 0)] H := hP1
  refine lv_aload_n hx hb dX14_init_14 rfl (lv_at hl 0 rfl) ?_
  refine lv_iload_n hx hb dX14_init_15 rfl (lv_at hl 3 rfl) ?_
  refine va_putF (D := D) (ci := 18) (C := RX15) (T := TX15) (N := 3) hx hb hts in_X15 tyX15 tyX15_ok nmX15 hown hKK.1 hO (ob_D (A := fun q => q = a) rfl) hS 0 rfl rfl 2 (by decide) (hts _ q504) (fun _ h => h) rfl hnm rfl (ty := .int) (by decide +kernel) rfl rfl (Nat.le_of_ble_eq_true rfl) dX14_init_16 (fun H locs hP1 _ hS => ?_)
  have hO : OB D a 18 [(.int v0), (.int v1), (.int v2)] H := hP1
  exact W.vret hx hb hr (fun tt ht _ => ⟨⟨(), rfl, trivial, by show OB D a 18 [(.int v0), (.int v1), (.int v2)] tt.heap; rw [ht]; exact hO⟩, hS.F ht⟩) hS.2.2 dX14_init_19 hlk
set_option maxHeartbeats 800000 in
theorem ck_X14_19 (l : Launch) (D : va_G) (t : Nat → ClassId) (a : Nat) (v0 : Int32) (v1 : Int32) (v2 : Int32) : Met l yX14_init (ws_ yX14_init cX14_init 4 none) ({ frames := 1, cells := 0, slots := 0, locals := 20 }) (zPc [.ref a, .int v0, .int v1, .int v2] (OB D a 19 [(.int 0), (.int 0), (.int 0), (.int 0)]) (KK D t)) (va_Qv (fun _ => True) (fun (_ : Unit) U => OB D a 19 [(.int v0), (.int v1), (.int v2), (.int 0)] U.heap) (fun q => q = a)) 0 0 (fun q => q = a) := by
  refine zOf (cc := cX14_init) (maxL := 4) (ret := none) (by decide) (Nat.le_of_ble_eq_true rfl) (fun pg ev s m below meth cd ls F hO hKK hl hnm => ?_)
  obtain ⟨hx, hb, hml, hown, hts, hr, hlk⟩ := F
  have S : CallFix pg m cd cX14_init 4 s _ lw_all RX14 := ⟨hx, hb, hml, hown, hts⟩
  have hl : lv_has ls 4 [(0, .ref a), (1, .int v0), (2, .int v1), (3, .int v2)] := hl
  have hS : va_S (fun q => q = a) s.heap s.heap [] := va_S.rf
  refine lv_aload_n hx hb dX14_init_0 rfl (lv_at hl 0 rfl) ?_
  refine W.objInit hx hb hown (hts _ q490) (hts _ q133) (by rw [← ex_b2]; exact hts _ q134) rfl (hl.1.trans hml.symm) rfl dX14_init_1 (Nat.le_of_ble_eq_true rfl) (Nat.le_of_ble_eq_true rfl) ?_
  refine lv_aload_n hx hb dX14_init_4 rfl (lv_at hl 0 rfl) ?_
  refine lv_iload_n hx hb dX14_init_5 rfl (lv_at hl 1 rfl) ?_
  refine va_putF (D := D) (ci := 19) (C := RX16) (T := TX16) (N := 4) hx hb hts in_X16 tyX16 tyX16_ok nmX16 hown hKK.1 hO (ob_D (A := fun q => q = a) rfl) hS 0 rfl rfl 0 (by decide) (hts _ q491) (fun _ h => h) rfl hnm rfl (ty := .int) (by decide +kernel) rfl rfl (Nat.le_of_ble_eq_true rfl) dX14_init_6 (fun H locs hP1 _ hS => ?_)
  have hO : OB D a 19 [(.int v0), (.int 0), (.int 0), (.int 0)] H := hP1
  refine lv_aload_n hx hb dX14_init_9 rfl (lv_at hl 0 rfl) ?_
  refine lv_iload_n hx hb dX14_init_10 rfl (lv_at hl 2 rfl) ?_
  refine va_putF (D := D) (ci := 19) (C := RX16) (T := TX16) (N := 4) hx hb hts in_X16 tyX16 tyX16_ok nmX16 hown hKK.1 hO (ob_D (A := fun q => q = a) rfl) hS 0 rfl rfl 1 (by decide) (hts _ q493) (fun _ h => h) rfl hnm rfl (ty := .int) (by decide +kernel) rfl rfl (Nat.le_of_ble_eq_true rfl) dX14_init_11 (fun H locs hP1 _ hS => ?_)
  have hO : OB D a 19 [(.int v0), (.int v1), (.int 0), (.int 0)] H := hP1
  refine lv_aload_n hx hb dX14_init_14 rfl (lv_at hl 0 rfl) ?_
  refine lv_iload_n hx hb dX14_init_15 rfl (lv_at hl 3 rfl) ?_
  refine va_putF (D := D) (ci := 19) (C := RX16) (T := TX16) (N := 4) hx hb hts in_X16 tyX16 tyX16_ok nmX16 hown hKK.1 hO (ob_D (A := fun q => q = a) rfl) hS 0 rfl rfl 2 (by decide) (hts _ q504) (fun _ h => h) rfl hnm rfl (ty := .int) (by decide +kernel) rfl rfl (Nat.le_of_ble_eq_true rfl) dX14_init_16 (fun H locs hP1 _ hS => ?_)
  have hO : OB D a 19 [(.int v0), (.int v1), (.int v2), (.int 0)] H := hP1
  exact W.vret hx hb hr (fun tt ht _ => ⟨⟨(), rfl, trivial, by show OB D a 19 [(.int v0), (.int v1), (.int v2), (.int 0)] tt.heap; rw [ht]; exact hO⟩, hS.F ht⟩) hS.2.2 dX14_init_19 hlk
set_option maxHeartbeats 800000 in
theorem ck_X14_20 (l : Launch) (D : va_G) (t : Nat → ClassId) (a : Nat) (v0 : Int32) (v1 : Int32) (v2 : Int32) : Met l yX14_init (ws_ yX14_init cX14_init 4 none) ({ frames := 1, cells := 0, slots := 0, locals := 20 }) (zPc [.ref a, .int v0, .int v1, .int v2] (OB D a 20 [(.int 0), (.int 0), (.int 0), (.null)]) (KK D t)) (va_Qv (fun _ => True) (fun (_ : Unit) U => OB D a 20 [(.int v0), (.int v1), (.int v2), (.null)] U.heap) (fun q => q = a)) 0 0 (fun q => q = a) := by
  refine zOf (cc := cX14_init) (maxL := 4) (ret := none) (by decide) (Nat.le_of_ble_eq_true rfl) (fun pg ev s m below meth cd ls F hO hKK hl hnm => ?_)
  obtain ⟨hx, hb, hml, hown, hts, hr, hlk⟩ := F
  have S : CallFix pg m cd cX14_init 4 s _ lw_all RX14 := ⟨hx, hb, hml, hown, hts⟩
  have hl : lv_has ls 4 [(0, .ref a), (1, .int v0), (2, .int v1), (3, .int v2)] := hl
  have hS : va_S (fun q => q = a) s.heap s.heap [] := va_S.rf
  refine lv_aload_n hx hb dX14_init_0 rfl (lv_at hl 0 rfl) ?_
  refine W.objInit hx hb hown (hts _ q490) (hts _ q133) (by rw [← ex_b2]; exact hts _ q134) rfl (hl.1.trans hml.symm) rfl dX14_init_1 (Nat.le_of_ble_eq_true rfl) (Nat.le_of_ble_eq_true rfl) ?_
  refine lv_aload_n hx hb dX14_init_4 rfl (lv_at hl 0 rfl) ?_
  refine lv_iload_n hx hb dX14_init_5 rfl (lv_at hl 1 rfl) ?_
  refine va_putF (D := D) (ci := 20) (C := RX17) (T := TX17) (N := 4) hx hb hts in_X17 tyX17 tyX17_ok nmX17 hown hKK.1 hO (ob_D (A := fun q => q = a) rfl) hS 0 rfl rfl 0 (by decide) (hts _ q491) (fun _ h => h) rfl hnm rfl (ty := .int) (by decide +kernel) rfl rfl (Nat.le_of_ble_eq_true rfl) dX14_init_6 (fun H locs hP1 _ hS => ?_)
  have hO : OB D a 20 [(.int v0), (.int 0), (.int 0), (.null)] H := hP1
  refine lv_aload_n hx hb dX14_init_9 rfl (lv_at hl 0 rfl) ?_
  refine lv_iload_n hx hb dX14_init_10 rfl (lv_at hl 2 rfl) ?_
  refine va_putF (D := D) (ci := 20) (C := RX17) (T := TX17) (N := 4) hx hb hts in_X17 tyX17 tyX17_ok nmX17 hown hKK.1 hO (ob_D (A := fun q => q = a) rfl) hS 0 rfl rfl 1 (by decide) (hts _ q493) (fun _ h => h) rfl hnm rfl (ty := .int) (by decide +kernel) rfl rfl (Nat.le_of_ble_eq_true rfl) dX14_init_11 (fun H locs hP1 _ hS => ?_)
  have hO : OB D a 20 [(.int v0), (.int v1), (.int 0), (.null)] H := hP1
  refine lv_aload_n hx hb dX14_init_14 rfl (lv_at hl 0 rfl) ?_
  refine lv_iload_n hx hb dX14_init_15 rfl (lv_at hl 3 rfl) ?_
  refine va_putF (D := D) (ci := 20) (C := RX17) (T := TX17) (N := 4) hx hb hts in_X17 tyX17 tyX17_ok nmX17 hown hKK.1 hO (ob_D (A := fun q => q = a) rfl) hS 0 rfl rfl 2 (by decide) (hts _ q504) (fun _ h => h) rfl hnm rfl (ty := .int) (by decide +kernel) rfl rfl (Nat.le_of_ble_eq_true rfl) dX14_init_16 (fun H locs hP1 _ hS => ?_)
  have hO : OB D a 20 [(.int v0), (.int v1), (.int v2), (.null)] H := hP1
  exact W.vret hx hb hr (fun tt ht _ => ⟨⟨(), rfl, trivial, by show OB D a 20 [(.int v0), (.int v1), (.int v2), (.null)] tt.heap; rw [ht]; exact hO⟩, hS.F ht⟩) hS.2.2 dX14_init_19 hlk
set_option maxHeartbeats 800000 in
theorem ck_X14_21 (l : Launch) (D : va_G) (t : Nat → ClassId) (a : Nat) (v0 : Int32) (v1 : Int32) (v2 : Int32) : Met l yX14_init (ws_ yX14_init cX14_init 4 none) ({ frames := 1, cells := 0, slots := 0, locals := 20 }) (zPc [.ref a, .int v0, .int v1, .int v2] (OB D a 21 [(.int 0), (.int 0), (.int 0)]) (KK D t)) (va_Qv (fun _ => True) (fun (_ : Unit) U => OB D a 21 [(.int v0), (.int v1), (.int v2)] U.heap) (fun q => q = a)) 0 0 (fun q => q = a) := by
  refine zOf (cc := cX14_init) (maxL := 4) (ret := none) (by decide) (Nat.le_of_ble_eq_true rfl) (fun pg ev s m below meth cd ls F hO hKK hl hnm => ?_)
  obtain ⟨hx, hb, hml, hown, hts, hr, hlk⟩ := F
  have S : CallFix pg m cd cX14_init 4 s _ lw_all RX14 := ⟨hx, hb, hml, hown, hts⟩
  have hl : lv_has ls 4 [(0, .ref a), (1, .int v0), (2, .int v1), (3, .int v2)] := hl
  have hS : va_S (fun q => q = a) s.heap s.heap [] := va_S.rf
  refine lv_aload_n hx hb dX14_init_0 rfl (lv_at hl 0 rfl) ?_
  refine W.objInit hx hb hown (hts _ q490) (hts _ q133) (by rw [← ex_b2]; exact hts _ q134) rfl (hl.1.trans hml.symm) rfl dX14_init_1 (Nat.le_of_ble_eq_true rfl) (Nat.le_of_ble_eq_true rfl) ?_
  refine lv_aload_n hx hb dX14_init_4 rfl (lv_at hl 0 rfl) ?_
  refine lv_iload_n hx hb dX14_init_5 rfl (lv_at hl 1 rfl) ?_
  refine va_putF (D := D) (ci := 21) (C := RX18) (T := TX18) (N := 3) hx hb hts in_X18 tyX18 tyX18_ok nmX18 hown hKK.1 hO (ob_D (A := fun q => q = a) rfl) hS 0 rfl rfl 0 (by decide) (hts _ q491) (fun _ h => h) rfl hnm rfl (ty := .int) (by decide +kernel) rfl rfl (Nat.le_of_ble_eq_true rfl) dX14_init_6 (fun H locs hP1 _ hS => ?_)
  have hO : OB D a 21 [(.int v0), (.int 0), (.int 0)] H := hP1
  refine lv_aload_n hx hb dX14_init_9 rfl (lv_at hl 0 rfl) ?_
  refine lv_iload_n hx hb dX14_init_10 rfl (lv_at hl 2 rfl) ?_
  refine va_putF (D := D) (ci := 21) (C := RX18) (T := TX18) (N := 3) hx hb hts in_X18 tyX18 tyX18_ok nmX18 hown hKK.1 hO (ob_D (A := fun q => q = a) rfl) hS 0 rfl rfl 1 (by decide) (hts _ q493) (fun _ h => h) rfl hnm rfl (ty := .int) (by decide +kernel) rfl rfl (Nat.le_of_ble_eq_true rfl) dX14_init_11 (fun H locs hP1 _ hS => ?_)
  have hO : OB D a 21 [(.int v0), (.int v1), (.int 0)] H := hP1
  refine lv_aload_n hx hb dX14_init_14 rfl (lv_at hl 0 rfl) ?_
  refine lv_iload_n hx hb dX14_init_15 rfl (lv_at hl 3 rfl) ?_
  refine va_putF (D := D) (ci := 21) (C := RX18) (T := TX18) (N := 3) hx hb hts in_X18 tyX18 tyX18_ok nmX18 hown hKK.1 hO (ob_D (A := fun q => q = a) rfl) hS 0 rfl rfl 2 (by decide) (hts _ q504) (fun _ h => h) rfl hnm rfl (ty := .int) (by decide +kernel) rfl rfl (Nat.le_of_ble_eq_true rfl) dX14_init_16 (fun H locs hP1 _ hS => ?_)
  have hO : OB D a 21 [(.int v0), (.int v1), (.int v2)] H := hP1
  exact W.vret hx hb hr (fun tt ht _ => ⟨⟨(), rfl, trivial, by show OB D a 21 [(.int v0), (.int v1), (.int v2)] tt.heap; rw [ht]; exact hO⟩, hS.F ht⟩) hS.2.2 dX14_init_19 hlk
set_option maxHeartbeats 800000 in
theorem ck_X14_22 (l : Launch) (D : va_G) (t : Nat → ClassId) (a : Nat) (v0 : Int32) (v1 : Int32) (v2 : Int32) : Met l yX14_init (ws_ yX14_init cX14_init 4 none) ({ frames := 1, cells := 0, slots := 0, locals := 20 }) (zPc [.ref a, .int v0, .int v1, .int v2] (OB D a 22 [(.int 0), (.int 0), (.int 0)]) (KK D t)) (va_Qv (fun _ => True) (fun (_ : Unit) U => OB D a 22 [(.int v0), (.int v1), (.int v2)] U.heap) (fun q => q = a)) 0 0 (fun q => q = a) := by
  refine zOf (cc := cX14_init) (maxL := 4) (ret := none) (by decide) (Nat.le_of_ble_eq_true rfl) (fun pg ev s m below meth cd ls F hO hKK hl hnm => ?_)
  obtain ⟨hx, hb, hml, hown, hts, hr, hlk⟩ := F
  have S : CallFix pg m cd cX14_init 4 s _ lw_all RX14 := ⟨hx, hb, hml, hown, hts⟩
  have hl : lv_has ls 4 [(0, .ref a), (1, .int v0), (2, .int v1), (3, .int v2)] := hl
  have hS : va_S (fun q => q = a) s.heap s.heap [] := va_S.rf
  refine lv_aload_n hx hb dX14_init_0 rfl (lv_at hl 0 rfl) ?_
  refine W.objInit hx hb hown (hts _ q490) (hts _ q133) (by rw [← ex_b2]; exact hts _ q134) rfl (hl.1.trans hml.symm) rfl dX14_init_1 (Nat.le_of_ble_eq_true rfl) (Nat.le_of_ble_eq_true rfl) ?_
  refine lv_aload_n hx hb dX14_init_4 rfl (lv_at hl 0 rfl) ?_
  refine lv_iload_n hx hb dX14_init_5 rfl (lv_at hl 1 rfl) ?_
  refine va_putF (D := D) (ci := 22) (C := RX19) (T := TX19) (N := 3) hx hb hts in_X19 tyX19 tyX19_ok nmX19 hown hKK.1 hO (ob_D (A := fun q => q = a) rfl) hS 0 rfl rfl 0 (by decide) (hts _ q491) (fun _ h => h) rfl hnm rfl (ty := .int) (by decide +kernel) rfl rfl (Nat.le_of_ble_eq_true rfl) dX14_init_6 (fun H locs hP1 _ hS => ?_)
  have hO : OB D a 22 [(.int v0), (.int 0), (.int 0)] H := hP1
  refine lv_aload_n hx hb dX14_init_9 rfl (lv_at hl 0 rfl) ?_
  refine lv_iload_n hx hb dX14_init_10 rfl (lv_at hl 2 rfl) ?_
  refine va_putF (D := D) (ci := 22) (C := RX19) (T := TX19) (N := 3) hx hb hts in_X19 tyX19 tyX19_ok nmX19 hown hKK.1 hO (ob_D (A := fun q => q = a) rfl) hS 0 rfl rfl 1 (by decide) (hts _ q493) (fun _ h => h) rfl hnm rfl (ty := .int) (by decide +kernel) rfl rfl (Nat.le_of_ble_eq_true rfl) dX14_init_11 (fun H locs hP1 _ hS => ?_)
  have hO : OB D a 22 [(.int v0), (.int v1), (.int 0)] H := hP1
  refine lv_aload_n hx hb dX14_init_14 rfl (lv_at hl 0 rfl) ?_
  refine lv_iload_n hx hb dX14_init_15 rfl (lv_at hl 3 rfl) ?_
  refine va_putF (D := D) (ci := 22) (C := RX19) (T := TX19) (N := 3) hx hb hts in_X19 tyX19 tyX19_ok nmX19 hown hKK.1 hO (ob_D (A := fun q => q = a) rfl) hS 0 rfl rfl 2 (by decide) (hts _ q504) (fun _ h => h) rfl hnm rfl (ty := .int) (by decide +kernel) rfl rfl (Nat.le_of_ble_eq_true rfl) dX14_init_16 (fun H locs hP1 _ hS => ?_)
  have hO : OB D a 22 [(.int v0), (.int v1), (.int v2)] H := hP1
  exact W.vret hx hb hr (fun tt ht _ => ⟨⟨(), rfl, trivial, by show OB D a 22 [(.int v0), (.int v1), (.int v2)] tt.heap; rw [ht]; exact hO⟩, hS.F ht⟩) hS.2.2 dX14_init_19 hlk
set_option maxHeartbeats 800000 in
theorem ck_X15_18 (l : Launch) (D : va_G) (t : Nat → ClassId) (a : Nat) (v0 : Int32) (v1 : Int32) : Met l yX15_init (ws_ yX15_init cX15_init 3 none) ({ frames := 2, cells := 0, slots := 0, locals := 43 }) (zPc [.ref a, .int v0, .int v1] (OB D a 18 [(.int 0), (.int 0), (.int 0)]) (KK D t)) (va_Qv (fun _ => True) (fun (_ : Unit) U => OB D a 18 [(.int v0), (.int v1), (.int 0)] U.heap) (fun q => q = a)) 0 0 (fun q => q = a) := by
  refine zOf (cc := cX15_init) (maxL := 3) (ret := none) (by decide) (Nat.le_of_ble_eq_true rfl) (fun pg ev s m below meth cd ls F hO hKK hl hnm => ?_)
  obtain ⟨hx, hb, hml, hown, hts, hr, hlk⟩ := F
  have S : CallFix pg m cd cX15_init 3 s _ lw_all RX15 := ⟨hx, hb, hml, hown, hts⟩
  have hl : lv_has ls 3 [(0, .ref a), (1, .int v0), (2, .int v1)] := hl
  have hS : va_S (fun q => q = a) s.heap s.heap [] := va_S.rf
  refine lv_aload_n hx hb dX15_init_0 rfl (lv_at hl 0 rfl) ?_
  refine lv_iload_n hx hb dX15_init_1 rfl (lv_at hl 1 rfl) ?_
  refine lv_iload_n hx hb dX15_init_2 rfl (lv_at hl 2 rfl) ?_
  refine lv_iconst (v := 0) hx hb dX15_init_3 (by decide) ?_
  refine va_callv (va_runI (As := [.int v0, .int v1, .int 0]) (rest := []) S (ck_X14_18 l D t a v0 v1 0) (cwI 3 hts (lw_meth q489) rfl rfl rfl (hts _ q112) (hts _ q487) (hts _ q488) rfl ⟨by decide, by decide, by decide +kernel⟩ ⟨Nat.le_of_ble_eq_true rfl, Nat.le_of_ble_eq_true rfl⟩) ⟨zBlind, fun U hU hW => ⟨rfl, by rw [hU]; exact hO, hKK.warm hW⟩⟩ rfl rfl hl.1 rfl (lv_room (Nat.le_of_ble_eq_true rfl)) dX15_init_4 ⟨Nat.le_of_ble_eq_true rfl, Nat.le_of_ble_eq_true rfl⟩) hS (fun q _ h => h) (fun q h => h) (fun u tt H locs ht _ _ hO _ _ hS => ?_)
  rw [ht] at hO
  have hO : OB D a 18 [(.int v0), (.int v1), (.int 0)] H := hO
  exact W.vret hx hb hr (fun tt ht _ => ⟨⟨(), rfl, trivial, by show OB D a 18 [(.int v0), (.int v1), (.int 0)] tt.heap; rw [ht]; exact hO⟩, hS.F ht⟩) hS.2.2 dX15_init_7 hlk
set_option maxHeartbeats 800000 in
theorem ck_X16_19 (l : Launch) (D : va_G) (t : Nat → ClassId) (a : Nat) (v0 : Int32) (v3 : Int32) (v1 : Int32) (v2 : Int32) : Met l yX16_init (ws_ yX16_init cX16_init 5 none) ({ frames := 2, cells := 0, slots := 0, locals := 43 }) (zPc [.ref a, .int v0, .int v3, .int v1, .int v2] (OB D a 19 [(.int 0), (.int 0), (.int 0), (.int 0)]) (KK D t)) (va_Qv (fun _ => True) (fun (_ : Unit) U => OB D a 19 [(.int v0), (.int v1), (.int v2), (.int v3)] U.heap) (fun q => q = a)) 0 0 (fun q => q = a) := by
  refine zOf (cc := cX16_init) (maxL := 5) (ret := none) (by decide) (Nat.le_of_ble_eq_true rfl) (fun pg ev s m below meth cd ls F hO hKK hl hnm => ?_)
  obtain ⟨hx, hb, hml, hown, hts, hr, hlk⟩ := F
  have S : CallFix pg m cd cX16_init 5 s _ lw_all RX16 := ⟨hx, hb, hml, hown, hts⟩
  have hl : lv_has ls 5 [(0, .ref a), (1, .int v0), (2, .int v3), (3, .int v1), (4, .int v2)] := hl
  have hS : va_S (fun q => q = a) s.heap s.heap [] := va_S.rf
  refine lv_aload_n hx hb dX16_init_0 rfl (lv_at hl 0 rfl) ?_
  refine lv_iload_n hx hb dX16_init_1 rfl (lv_at hl 1 rfl) ?_
  refine lv_iload_n hx hb dX16_init_2 rfl (lv_at hl 3 rfl) ?_
  refine lv_iload hx hb dX16_init_3 (lv_at hl 4 rfl) ?_
  refine va_callv (va_runI (As := [.int v0, .int v1, .int v2]) (rest := []) S (ck_X14_19 l D t a v0 v1 v2) (cwI 3 hts (lw_meth q489) rfl rfl rfl (hts _ q112) (hts _ q533) (hts _ q488) rfl ⟨by decide, by decide, by decide +kernel⟩ ⟨Nat.le_of_ble_eq_true rfl, Nat.le_of_ble_eq_true rfl⟩) ⟨zBlind, fun U hU hW => ⟨rfl, by rw [hU]; exact hO, hKK.warm hW⟩⟩ rfl rfl hl.1 rfl (lv_room (Nat.le_of_ble_eq_true rfl)) dX16_init_5 ⟨Nat.le_of_ble_eq_true rfl, Nat.le_of_ble_eq_true rfl⟩) hS (fun q _ h => h) (fun q h => h) (fun u tt H locs ht _ _ hO _ _ hS => ?_)
  rw [ht] at hO
  have hO : OB D a 19 [(.int v0), (.int v1), (.int v2), (.int 0)] H := hO
  refine lv_aload_n hx hb dX16_init_8 rfl (lv_at hl 0 rfl) ?_
  refine lv_iload_n hx hb dX16_init_9 rfl (lv_at hl 2 rfl) ?_
  refine va_putF (D := D) (ci := 19) (C := RX16) (T := TX16) (N := 4) hx hb hts in_X16 tyX16 tyX16_ok nmX16 hown hKK.1 hO (ob_D (A := fun q => q = a) rfl) hS 0 rfl rfl 3 (by decide) (hts _ q534) (fun _ h => h) rfl hnm rfl (ty := .int) (by decide +kernel) rfl rfl (Nat.le_of_ble_eq_true rfl) dX16_init_10 (fun H locs hP1 _ hS => ?_)
  have hO : OB D a 19 [(.int v0), (.int v1), (.int v2), (.int v3)] H := hP1
  exact W.vret hx hb hr (fun tt ht _ => ⟨⟨(), rfl, trivial, by show OB D a 19 [(.int v0), (.int v1), (.int v2), (.int v3)] tt.heap; rw [ht]; exact hO⟩, hS.F ht⟩) hS.2.2 dX16_init_13 hlk
set_option maxHeartbeats 800000 in
theorem ck_X17_20 (l : Launch) (D : va_G) (t : Nat → ClassId) (a : Nat) (v0 : Int32) (v3 : Nat) (v1 : Int32) (v2 : Int32) : Met l yX17_init (ws_ yX17_init cX17_init 5 none) ({ frames := 2, cells := 0, slots := 0, locals := 43 }) (zPc [.ref a, .int v0, .ref v3, .int v1, .int v2] (OB D a 20 [(.int 0), (.int 0), (.int 0), (.null)]) (KK D t)) (va_Qv (fun _ => True) (fun (_ : Unit) U => OB D a 20 [(.int v0), (.int v1), (.int v2), (.ref v3)] U.heap) (fun q => q = a)) 0 0 (fun q => q = a) := by
  refine zOf (cc := cX17_init) (maxL := 5) (ret := none) (by decide) (Nat.le_of_ble_eq_true rfl) (fun pg ev s m below meth cd ls F hO hKK hl hnm => ?_)
  obtain ⟨hx, hb, hml, hown, hts, hr, hlk⟩ := F
  have S : CallFix pg m cd cX17_init 5 s _ lw_all RX17 := ⟨hx, hb, hml, hown, hts⟩
  have hl : lv_has ls 5 [(0, .ref a), (1, .int v0), (2, .ref v3), (3, .int v1), (4, .int v2)] := hl
  have hS : va_S (fun q => q = a) s.heap s.heap [] := va_S.rf
  refine lv_aload_n hx hb dX17_init_0 rfl (lv_at hl 0 rfl) ?_
  refine lv_iload_n hx hb dX17_init_1 rfl (lv_at hl 1 rfl) ?_
  refine lv_iload_n hx hb dX17_init_2 rfl (lv_at hl 3 rfl) ?_
  refine lv_iload hx hb dX17_init_3 (lv_at hl 4 rfl) ?_
  refine va_callv (va_runI (As := [.int v0, .int v1, .int v2]) (rest := []) S (ck_X14_20 l D t a v0 v1 v2) (cwI 3 hts (lw_meth q489) rfl rfl rfl (hts _ q112) (hts _ q554) (hts _ q488) rfl ⟨by decide, by decide, by decide +kernel⟩ ⟨Nat.le_of_ble_eq_true rfl, Nat.le_of_ble_eq_true rfl⟩) ⟨zBlind, fun U hU hW => ⟨rfl, by rw [hU]; exact hO, hKK.warm hW⟩⟩ rfl rfl hl.1 rfl (lv_room (Nat.le_of_ble_eq_true rfl)) dX17_init_5 ⟨Nat.le_of_ble_eq_true rfl, Nat.le_of_ble_eq_true rfl⟩) hS (fun q _ h => h) (fun q h => h) (fun u tt H locs ht _ _ hO _ _ hS => ?_)
  rw [ht] at hO
  have hO : OB D a 20 [(.int v0), (.int v1), (.int v2), (.null)] H := hO
  refine lv_aload_n hx hb dX17_init_8 rfl (lv_at hl 0 rfl) ?_
  refine lv_aload_n hx hb dX17_init_9 rfl (lv_at hl 2 rfl) ?_
  refine va_putF (D := D) (ci := 20) (C := RX17) (T := TX17) (N := 4) hx hb hts in_X17 tyX17 tyX17_ok nmX17 hown hKK.1 hO (ob_D (A := fun q => q = a) rfl) hS 0 rfl rfl 3 (by decide) (hts _ q555) (fun _ h => h) rfl hnm rfl (ty := .object "SongThatStays$Kind") (by decide +kernel) rfl rfl (Nat.le_of_ble_eq_true rfl) dX17_init_10 (fun H locs hP1 _ hS => ?_)
  have hO : OB D a 20 [(.int v0), (.int v1), (.int v2), (.ref v3)] H := hP1
  exact W.vret hx hb hr (fun tt ht _ => ⟨⟨(), rfl, trivial, by show OB D a 20 [(.int v0), (.int v1), (.int v2), (.ref v3)] tt.heap; rw [ht]; exact hO⟩, hS.F ht⟩) hS.2.2 dX17_init_13 hlk
set_option maxHeartbeats 800000 in
theorem ck_X18_21 (l : Launch) (D : va_G) (t : Nat → ClassId) (a : Nat) (v0 : Int32) (v1 : Int32) (v2 : Int32) : Met l yX18_init (ws_ yX18_init cX18_init 4 none) ({ frames := 2, cells := 0, slots := 0, locals := 43 }) (zPc [.ref a, .int v0, .int v1, .int v2] (OB D a 21 [(.int 0), (.int 0), (.int 0)]) (KK D t)) (va_Qv (fun _ => True) (fun (_ : Unit) U => OB D a 21 [(.int v0), (.int v1), (.int v2)] U.heap) (fun q => q = a)) 0 0 (fun q => q = a) := by
  refine zOf (cc := cX18_init) (maxL := 4) (ret := none) (by decide) (Nat.le_of_ble_eq_true rfl) (fun pg ev s m below meth cd ls F hO hKK hl hnm => ?_)
  obtain ⟨hx, hb, hml, hown, hts, hr, hlk⟩ := F
  have S : CallFix pg m cd cX18_init 4 s _ lw_all RX18 := ⟨hx, hb, hml, hown, hts⟩
  have hl : lv_has ls 4 [(0, .ref a), (1, .int v0), (2, .int v1), (3, .int v2)] := hl
  have hS : va_S (fun q => q = a) s.heap s.heap [] := va_S.rf
  refine lv_aload_n hx hb dX18_init_0 rfl (lv_at hl 0 rfl) ?_
  refine lv_iload_n hx hb dX18_init_1 rfl (lv_at hl 1 rfl) ?_
  refine lv_iload_n hx hb dX18_init_2 rfl (lv_at hl 2 rfl) ?_
  refine lv_iload_n hx hb dX18_init_3 rfl (lv_at hl 3 rfl) ?_
  refine va_callv (va_runI (As := [.int v0, .int v1, .int v2]) (rest := []) S (ck_X14_21 l D t a v0 v1 v2) (cwI 3 hts (lw_meth q489) rfl rfl rfl (hts _ q112) (hts _ q567) (hts _ q488) rfl ⟨by decide, by decide, by decide +kernel⟩ ⟨Nat.le_of_ble_eq_true rfl, Nat.le_of_ble_eq_true rfl⟩) ⟨zBlind, fun U hU hW => ⟨rfl, by rw [hU]; exact hO, hKK.warm hW⟩⟩ rfl rfl hl.1 rfl (lv_room (Nat.le_of_ble_eq_true rfl)) dX18_init_4 ⟨Nat.le_of_ble_eq_true rfl, Nat.le_of_ble_eq_true rfl⟩) hS (fun q _ h => h) (fun q h => h) (fun u tt H locs ht _ _ hO _ _ hS => ?_)
  rw [ht] at hO
  have hO : OB D a 21 [(.int v0), (.int v1), (.int v2)] H := hO
  exact W.vret hx hb hr (fun tt ht _ => ⟨⟨(), rfl, trivial, by show OB D a 21 [(.int v0), (.int v1), (.int v2)] tt.heap; rw [ht]; exact hO⟩, hS.F ht⟩) hS.2.2 dX18_init_7 hlk
set_option maxHeartbeats 800000 in
theorem ck_X19_22 (l : Launch) (D : va_G) (t : Nat → ClassId) (a : Nat) (v0 : Int32) (v1 : Int32) (v2 : Int32) : Met l yX19_init (ws_ yX19_init cX19_init 4 none) ({ frames := 2, cells := 0, slots := 0, locals := 43 }) (zPc [.ref a, .int v0, .int v1, .int v2] (OB D a 22 [(.int 0), (.int 0), (.int 0)]) (KK D t)) (va_Qv (fun _ => True) (fun (_ : Unit) U => OB D a 22 [(.int v0), (.int v1), (.int v2)] U.heap) (fun q => q = a)) 0 0 (fun q => q = a) := by
  refine zOf (cc := cX19_init) (maxL := 4) (ret := none) (by decide) (Nat.le_of_ble_eq_true rfl) (fun pg ev s m below meth cd ls F hO hKK hl hnm => ?_)
  obtain ⟨hx, hb, hml, hown, hts, hr, hlk⟩ := F
  have S : CallFix pg m cd cX19_init 4 s _ lw_all RX19 := ⟨hx, hb, hml, hown, hts⟩
  have hl : lv_has ls 4 [(0, .ref a), (1, .int v0), (2, .int v1), (3, .int v2)] := hl
  have hS : va_S (fun q => q = a) s.heap s.heap [] := va_S.rf
  refine lv_aload_n hx hb dX19_init_0 rfl (lv_at hl 0 rfl) ?_
  refine lv_iload_n hx hb dX19_init_1 rfl (lv_at hl 1 rfl) ?_
  refine lv_iload_n hx hb dX19_init_2 rfl (lv_at hl 2 rfl) ?_
  refine lv_iload_n hx hb dX19_init_3 rfl (lv_at hl 3 rfl) ?_
  refine va_callv (va_runI (As := [.int v0, .int v1, .int v2]) (rest := []) S (ck_X14_22 l D t a v0 v1 v2) (cwI 3 hts (lw_meth q489) rfl rfl rfl (hts _ q112) (hts _ q577) (hts _ q488) rfl ⟨by decide, by decide, by decide +kernel⟩ ⟨Nat.le_of_ble_eq_true rfl, Nat.le_of_ble_eq_true rfl⟩) ⟨zBlind, fun U hU hW => ⟨rfl, by rw [hU]; exact hO, hKK.warm hW⟩⟩ rfl rfl hl.1 rfl (lv_room (Nat.le_of_ble_eq_true rfl)) dX19_init_4 ⟨Nat.le_of_ble_eq_true rfl, Nat.le_of_ble_eq_true rfl⟩) hS (fun q _ h => h) (fun q h => h) (fun u tt H locs ht _ _ hO _ _ hS => ?_)
  rw [ht] at hO
  have hO : OB D a 22 [(.int v0), (.int v1), (.int v2)] H := hO
  exact W.vret hx hb hr (fun tt ht _ => ⟨⟨(), rfl, trivial, by show OB D a 22 [(.int v0), (.int v1), (.int v2)] tt.heap; rw [ht]; exact hO⟩, hS.F ht⟩) hS.2.2 dX19_init_7 hlk
