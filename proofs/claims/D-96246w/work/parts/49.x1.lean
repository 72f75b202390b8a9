/-! THE CLASS's METHODS (1): printed by wip/D-96246w/gen/gen_x1.py -/
set_option maxRecDepth 100000
theorem fM {cb q : Nat} {s : State} (h : oA (cb + 23) q) : fA (cA cb) s q := Or.inl ⟨by have := h.1; omega, by have := h.2; omega⟩
theorem fO {cb q : Nat} {s : State} (h : oA (cb + 8) q) : fA (cA cb) s q := Or.inl ⟨by have := h.1; omega, by have := h.2; omega⟩
theorem fI {cb q : Nat} {s : State} (h : oA (cb + 38) q) : fA (cA cb) s q := Or.inl ⟨by have := h.1; omega, by have := h.2; omega⟩
theorem fC {cb q : Nat} {s : State} (h : cO cb q) : fA (cA cb) s q := Or.inl (by unfold cO at h; exact ⟨by omega, by omega⟩)
section ZB
variable {p : Program} {l : Launch} {e : Env} {R : Room} {s : State} {m : MethodId} {args : Array Value} {below : List Frame} {meth : Method} {c : Code} {H : Heap} {locs : List Loc} {cells slots : Nat} {Q : State → Prop} {cc : ByteArray} {pc : Nat} {ls : Array Slot} {rest : List Value} {D : va_G} {cl : List vw_C} {a : Nat} {tys : List (ClassId × FieldType)} {ws : va_W}
theorem z_bald (hexec : p.tables.exec = Jvm.exec) (hb : c.code = cc) (hK : va_K D cl tys s) (hP : va_P D cl ws H) (q0 t0 : Nat) {cA : ClassId} {n : Nat} {f : Nat → Int32} (ha : ws[q0]? = some (a, .inl (cA, n, .inl f))) (ht : tys[t0]? = some (cA, .byte)) {i : Int32} {k : Nat} (hi : i = nI k) (hk : k < n) (hn : n < 2 ^ 31) (hdg : decode cc pc = .ok (.baload, 1))
    (kk : W p l e R s m args below meth c H locs cells slots Q (F0 m (pc + 1) ls (.int (f k) :: rest))) : W p l e R s m args below meth c H locs cells slots Q (F0 m pc ls (.int i :: .ref a :: rest)) := by
  subst hi
  refine va_bald hexec hb hK hP q0 t0 ha ht (vp_in_nI hk hn) hdg ?_
  rw [nI_clamp (Nat.lt_trans hk hn)]
  exact kk
theorem z_cald (hexec : p.tables.exec = Jvm.exec) (hb : c.code = cc) (hK : va_K D cl tys s) (hP : va_P D cl ws H) (q0 t0 : Nat) {cA : ClassId} {n : Nat} {f : Nat → Int32} (ha : ws[q0]? = some (a, .inl (cA, n, .inl f))) (ht : tys[t0]? = some (cA, .char)) {i : Int32} {k : Nat} (hi : i = nI k) (hk : k < n) (hn : n < 2 ^ 31) (hdg : decode cc pc = .ok (.caload, 1))
    (kk : W p l e R s m args below meth c H locs cells slots Q (F0 m (pc + 1) ls (.int (f k) :: rest))) : W p l e R s m args below meth c H locs cells slots Q (F0 m pc ls (.int i :: .ref a :: rest)) := by
  subst hi
  refine va_cald hexec hb hK hP q0 t0 ha ht (vp_in_nI hk hn) hdg ?_
  rw [nI_clamp (Nat.lt_trans hk hn)]
  exact kk
end ZB
theorem i64_le {a b : Int32} : a.toInt64 ≤ b.toInt64 ↔ a ≤ b := by
  rw [Int64.le_iff_toInt_le, Int32.le_iff_toInt_le, Int32.toInt_toInt64, Int32.toInt_toInt64]
theorem i64_lt {a b : Int32} : a.toInt64 < b.toInt64 ↔ a < b := by
  rw [Int64.lt_iff_toInt_lt, Int32.lt_iff_toInt_lt, Int32.toInt_toInt64, Int32.toInt_toInt64]
def inL (x y z : Int64) : Bool := decide (y ≤ x ∧ x ≤ z)
def wiL (x y z : Int64) : Int32 := if x < y then -4 else if z < x then -6 else 0
theorem wiL_eq {x a b : Int32} : wiL x.toInt64 a.toInt64 b.toInt64 = wiS x a b := by
  unfold wiL wiS
  by_cases h : x < a
  · rw [if_pos h, if_pos (i64_lt.mpr h)]
  · rw [if_neg h, if_neg (fun q => h (i64_lt.mp q))]
    by_cases g : b < x
    · rw [if_pos g, if_pos (i64_lt.mpr g)]
    · rw [if_neg g, if_neg (fun q => g (i64_lt.mp q))]
theorem inL_eq {x a b : Int32} : inL x.toInt64 a.toInt64 b.toInt64 = decide (a ≤ x ∧ x ≤ b) := by
  unfold inL
  rw [decide_eq_decide, i64_le, i64_le]
theorem le_pred {x : Int32} {n : Nat} (hn : n < 2 ^ 30) (h0 : 0 ≤ x) : x ≤ nI n - 1 ↔ x < nI n := by
  cases n with
  | zero =>
    rw [Int32.le_iff_toInt_le] at *
    rw [Int32.lt_iff_toInt_lt]
    rw [show (nI 0 - 1).toInt = -1 by decide +kernel, show (nI 0).toInt = 0 by decide +kernel]
    rw [show (0 : Int32).toInt = 0 by decide +kernel] at h0
    omega
  | succ n =>
    rw [nI_pred, Int32.le_iff_toInt_le, Int32.lt_iff_toInt_lt, nI_toInt (by omega), nI_toInt (by omega)]
    omega
theorem in_isI {x n : Int32} {k : Nat} (hn : n = nI k) (hk : k < 2 ^ 30) : inL x.toInt64 0 (n - 1).toInt64 = isI x n := by
  rw [show (0 : Int64) = (0 : Int32).toInt64 by decide +kernel, inL_eq]
  unfold isI
  subst hn
  rw [decide_eq_decide]
  exact ⟨fun h => ⟨h.1, (le_pred hk h.1).mp h.2⟩, fun h => ⟨h.1, (le_pred hk h.1).mpr h.2⟩⟩
theorem in_isN {r : RT} {x : Int32} {k : Nat} (hn : r 2 = nI k) (hk : k < 2 ^ 30) : inL x.toInt64 (-1) (r 2 - 1).toInt64 = isN r x := by
  rw [show (-1 : Int64) = (-1 : Int32).toInt64 by decide +kernel, inL_eq]
  unfold isN isS
  rw [hn]
  by_cases h : x = -1
  · subst h
    have : (-1 : Int32) ≤ nI k - 1 := by
      rw [Int32.le_iff_toInt_le]
      cases k with
      | zero => decide +kernel
      | succ k => rw [nI_pred, nI_toInt (by omega), show (-1 : Int32).toInt = -1 by decide +kernel]; omega
    simp [this]
  · have hx : (-1 : Int32) ≤ x ↔ 0 ≤ x := by
      rw [Int32.le_iff_toInt_le, Int32.le_iff_toInt_le, show (-1 : Int32).toInt = -1 by decide +kernel, show (0 : Int32).toInt = 0 by decide +kernel]
      have : x.toInt ≠ -1 := fun q => h (Int32.toInt_inj.mp (by rw [q]; decide +kernel))
      omega
    rw [decide_eq_false h, Bool.false_or, decide_eq_decide, hx]
    exact ⟨fun h => ⟨h.1, (le_pred hk h.1).mp h.2⟩, fun h => ⟨h.1, (le_pred hk h.1).mpr h.2⟩⟩
set_option maxHeartbeats 800000 in
theorem cx_in (l : Launch) (D : va_G) (t : Nat → ClassId) (x y z : Int64) : Met l yX0_in (ws_ yX0_in cX0_in 6 (some .boolean)) ({ frames := 0, cells := 0, slots := 0, locals := 0 }) (zPc [.long x, .long y, .long z] (fun _ => True) (KK D t)) (QcRead (bI (inL x y z))) 0 0 (fun _ => False) := by
  refine zOf (cc := cX0_in) (maxL := 6) (ret := (some .boolean)) (by decide) (Nat.le_of_ble_eq_true rfl) (fun pg ev s m below meth cd ls F hP hKK hl hnm => ?_)
  obtain ⟨hx, hb, hml, hown, hts, hr, hlk⟩ := F
  have S : CallFix pg m cd cX0_in 6 s _ lw_all RX0 := ⟨hx, hb, hml, hown, hts⟩
  have hl : lv_has ls 6 [(0, .long x), (2, .long y), (4, .long z)] := hl
  refine lv_lload_n hx hb dX0_in_0 rfl (lv_at hl 0 rfl) ?_
  refine lv_lload_n hx hb dX0_in_1 rfl (lv_at hl 1 rfl) ?_
  refine W.lcmp hx hb dX0_in_2 ?_
  refine lv_if_lt (tgt := 17) hx hb dX0_in_3 (by decide) (fun c3 => ?_) (fun c3 => ?_)
  · refine lv_iconst (v := 0) hx hb dX0_in_17 (by decide) ?_
    exact z_bretR hx hb hr (b := inL x y z) (by rw [show inL x y z = false from decide_eq_false (fun h => absurd ((lg_cmp_lt _ _).mp c3) (Int64.not_lt.mpr h.1))]; rfl) (fun q h => by cases h) rfl dX0_in_18 hlk
  · refine lv_lload_n hx hb dX0_in_6 rfl (lv_at hl 0 rfl) ?_
    refine lv_lload hx hb dX0_in_7 (lv_at hl 2 rfl) ?_
    refine W.lcmp hx hb dX0_in_9 ?_
    refine lv_if_gt (tgt := 17) hx hb dX0_in_10 (by decide) (fun c10 => ?_) (fun c10 => ?_)
    · refine lv_iconst (v := 0) hx hb dX0_in_17 (by decide) ?_
      exact z_bretR hx hb hr (b := inL x y z) (by rw [show inL x y z = false from decide_eq_false (fun h => absurd ((lg_cmp_gt _ _).mp c10) (Int64.not_lt.mpr h.2))]; rfl) (fun q h => by cases h) rfl dX0_in_18 hlk
    · refine lv_iconst (v := 1) hx hb dX0_in_13 (by decide) ?_
      refine lv_goto (tgt := 18) hx hb dX0_in_14 (by decide) ?_
      exact z_bretR hx hb hr (b := inL x y z) (by rw [show inL x y z = true from decide_eq_true ⟨Int64.not_lt.mp (fun h => c3 ((lg_cmp_lt _ _).mpr h)), Int64.not_lt.mp (fun h => c10 ((lg_cmp_gt _ _).mpr h))⟩]; rfl) (fun q h => by cases h) rfl dX0_in_18 hlk
set_option maxHeartbeats 800000 in
theorem cx_within (l : Launch) (htr : l.stackTraces = false) (D : va_G) (t : Nat → ClassId) (Z : Nat × Cell) (x y z : Int64) : MetX l yX0_within (ws_ yX0_within cX0_within 6 none) ({ frames := 8, cells := 2, slots := 14, locals := 142 }) (zPc [.long x, .long y, .long z] (fun H => H[Z.1]? = some Z.2) (KX D t Z)) (QM D (wiL x y z)) 2 14 (fun _ => False) := by
  refine zOfX (cc := cX0_within) (maxL := 6) (ret := none) (by decide) (Nat.le_of_ble_eq_true rfl) (fun pg ev s m below meth cd ls F hnh hZ hK hl => ?_)
  obtain ⟨hx, hb, hml, hown, hts, hr, hlk⟩ := F
  have S : CallFix pg m cd cX0_within 6 s _ lw_all RX0 := ⟨hx, hb, hml, hown, hts⟩
  have hl : lv_has ls 6 [(0, .long x), (2, .long y), (4, .long z)] := hl
  have hKK := hK.1
  have hS : va_S (fA (fun _ => False) s) s.heap s.heap [] := va_S.rf
  refine W.join (fun vJ => F0 m 11 ls (.int vJ :: [])) (fun vJ => vJ = bI (decide (y ≤ x))) (fun vJ hJ => ?_) (fun J1 => ?_)
  · subst hJ
    refine lv_bipush (v := (-4)) hx hb dX0_within_11 (by decide) ?_
    refine xm_M (xx_runS (As := [.int (bI (decide (y ≤ x))), .int (-4)]) (rest := []) S hK hZ (cx_must l htr D t Z (decide (y ≤ x)) (-4) (by decide)) (va_cwS 2 hts (lw_S q339 q340 q95 q341) rfl rfl rfl (by decide +kernel) ⟨Nat.le_of_ble_eq_true rfl, Nat.le_of_ble_eq_true rfl⟩) rfl hl.1 rfl (Nat.le_of_ble_eq_true rfl) dX0_within_13 ⟨Nat.le_of_ble_eq_true rfl, Nat.le_of_ble_eq_true rfl⟩) hS hnh hlk (Nat.le_of_ble_eq_true rfl) (Nat.le_of_ble_eq_true rfl) (fun h => by unfold wiL; by_cases q : y ≤ x; (rw [decide_eq_true q] at h; exact absurd rfl h); (rw [if_pos (Int64.not_le.mp q), decide_eq_false q]; rfl)) (fun n13 locs hS => ?_)
    refine W.join (fun vJ => F0 m 28 ls (.int vJ :: [])) (fun vJ => vJ = bI (decide (x ≤ z))) (fun vJ hJ => ?_) (fun J2 => ?_)
    · subst hJ
      refine lv_bipush (v := (-6)) hx hb dX0_within_28 (by decide) ?_
      refine xm_M (xx_runS (As := [.int (bI (decide (x ≤ z))), .int (-6)]) (rest := []) S hK hZ (cx_must l htr D t Z (decide (x ≤ z)) (-6) (by decide)) (va_cwS 2 hts (lw_S q339 q340 q95 q341) rfl rfl rfl (by decide +kernel) ⟨Nat.le_of_ble_eq_true rfl, Nat.le_of_ble_eq_true rfl⟩) rfl hl.1 rfl (Nat.le_of_ble_eq_true rfl) dX0_within_30 ⟨Nat.le_of_ble_eq_true rfl, Nat.le_of_ble_eq_true rfl⟩) hS hnh hlk (Nat.le_of_ble_eq_true rfl) (Nat.le_of_ble_eq_true rfl) (fun h => by have q1 : y ≤ x := by { by_cases q : y ≤ x; exact q; rw [decide_eq_false q] at n13; exact absurd n13 (by decide) }; unfold wiL; rw [if_neg (Int64.not_lt.mpr q1)]; by_cases q : x ≤ z; (rw [decide_eq_true q] at h; exact absurd rfl h); (rw [if_pos (Int64.not_le.mp q), decide_eq_false q]; rfl)) (fun n30 locs hS => ?_)
      exact x_vretM hx hb hr (by have q1 : y ≤ x := by { by_cases q : y ≤ x; exact q; rw [decide_eq_false q] at n13; exact absurd n13 (by decide) }; have q2 : x ≤ z := by { by_cases q : x ≤ z; exact q; rw [decide_eq_false q] at n30; exact absurd n30 (by decide) }; unfold wiL; rw [if_neg (Int64.not_lt.mpr q1), if_neg (Int64.not_lt.mpr q2)]) rfl hS (Nat.le_of_ble_eq_true rfl) (Nat.le_of_ble_eq_true rfl) dX0_within_33 hlk
    · refine lv_lload_n hx hb dX0_within_16 rfl (lv_at hl 0 rfl) ?_
      refine lv_lload hx hb dX0_within_17 (lv_at hl 2 rfl) ?_
      refine W.lcmp hx hb dX0_within_19 ?_
      refine lv_if_gt (tgt := 27) hx hb dX0_within_20 (by decide) (fun c20 => ?_) (fun c20 => ?_)
      · refine lv_iconst (v := 0) hx hb dX0_within_27 (by decide) ?_
        exact J2 _ (by first | (rw [decide_eq_true (Int64.not_lt.mp (fun h => c20 ((lg_cmp_gt _ _).mpr h)))]; rfl) | (rw [decide_eq_false (fun h => absurd ((lg_cmp_gt _ _).mp c20) (Int64.not_lt.mpr h))]; rfl))
      · refine lv_iconst (v := 1) hx hb dX0_within_23 (by decide) ?_
        refine lv_goto (tgt := 28) hx hb dX0_within_24 (by decide) ?_
        exact J2 _ (by first | (rw [decide_eq_true (Int64.not_lt.mp (fun h => c20 ((lg_cmp_gt _ _).mpr h)))]; rfl) | (rw [decide_eq_false (fun h => absurd ((lg_cmp_gt _ _).mp c20) (Int64.not_lt.mpr h))]; rfl))
  · refine lv_lload_n hx hb dX0_within_0 rfl (lv_at hl 0 rfl) ?_
    refine lv_lload_n hx hb dX0_within_1 rfl (lv_at hl 1 rfl) ?_
    refine W.lcmp hx hb dX0_within_2 ?_
    refine lv_if_lt (tgt := 10) hx hb dX0_within_3 (by decide) (fun c3 => ?_) (fun c3 => ?_)
    · refine lv_iconst (v := 0) hx hb dX0_within_10 (by decide) ?_
      exact J1 _ (by first | (rw [decide_eq_true (Int64.not_lt.mp (fun h => c3 ((lg_cmp_lt _ _).mpr h)))]; rfl) | (rw [decide_eq_false (fun h => absurd ((lg_cmp_lt _ _).mp c3) (Int64.not_lt.mpr h))]; rfl))
    · refine lv_iconst (v := 1) hx hb dX0_within_6 (by decide) ?_
      refine lv_goto (tgt := 11) hx hb dX0_within_7 (by decide) ?_
      exact J1 _ (by first | (rw [decide_eq_true (Int64.not_lt.mp (fun h => c3 ((lg_cmp_lt _ _).mpr h)))]; rfl) | (rw [decide_eq_false (fun h => absurd ((lg_cmp_lt _ _).mp c3) (Int64.not_lt.mpr h))]; rfl))
set_option maxHeartbeats 800000 in
theorem cx_mustBe (l : Launch) (htr : l.stackTraces = false) (D : va_G) (t : Nat → ClassId) (Z : Nat × Cell) (x n : Int32) (k : Nat) (hn : n = nI k) (hk : k < 2 ^ 30) : MetX l yX0_mustBe (ws_ yX0_mustBe cX0_mustBe 2 none) ({ frames := 8, cells := 1, slots := 7, locals := 142 }) (zPc [.int x, .int n] (fun H => H[Z.1]? = some Z.2) (KX D t Z)) (QM D (if isI x n = true then 0 else -1)) 1 7 (fun _ => False) := by
  refine zOfX (cc := cX0_mustBe) (maxL := 2) (ret := none) (by decide) (Nat.le_of_ble_eq_true rfl) (fun pg ev s m below meth cd ls F hnh hZ hK hl => ?_)
  obtain ⟨hx, hb, hml, hown, hts, hr, hlk⟩ := F
  have S : CallFix pg m cd cX0_mustBe 2 s _ lw_all RX0 := ⟨hx, hb, hml, hown, hts⟩
  have hl : lv_has ls 2 [(0, .int x), (1, .int n)] := hl
  have hKK := hK.1
  have hS : va_S (fA (fun _ => False) s) s.heap s.heap [] := va_S.rf
  refine lv_iload_n hx hb dX0_mustBe_0 rfl (lv_at hl 0 rfl) ?_
  refine lv_i2l hx hb dX0_mustBe_1 rfl ?_
  refine lv_lconst (v := 0) hx hb dX0_mustBe_2 (by decide) ?_
  refine lv_iload_n hx hb dX0_mustBe_3 rfl (lv_at hl 1 rfl) ?_
  refine lv_iconst (v := 1) hx hb dX0_mustBe_4 (by decide) ?_
  refine lv_isub hx hb dX0_mustBe_5 ?_
  refine lv_i2l hx hb dX0_mustBe_6 rfl ?_
  refine g_r (g_runS (As := [.long ((x).toInt64), .long 0, .long (((n - 1)).toInt64)]) (rest := []) S hKK trivial (cx_in l D t ((x).toInt64) 0 (((n - 1)).toInt64)) (va_cwS 3 hts (lw_S q749 q482 q95 q483) rfl rfl rfl (by decide +kernel) ⟨Nat.le_of_ble_eq_true rfl, Nat.le_of_ble_eq_true rfl⟩) rfl hl.1 rfl (Nat.le_of_ble_eq_true rfl) dX0_mustBe_7 ⟨Nat.le_of_ble_eq_true rfl, Nat.le_of_ble_eq_true rfl⟩) ?_
  refine z_top (y := bI (isI x n)) (by rw [in_isI hn hk]) ?_
  refine lv_iconst (v := (-1)) hx hb dX0_mustBe_10 (by decide) ?_
  refine xm_M (xx_runS (As := [.int (bI (isI x n)), .int (-1)]) (rest := []) S hK hZ (cx_must l htr D t Z (isI x n) (-1) (by decide)) (va_cwS 2 hts (lw_S q339 q340 q95 q341) rfl rfl rfl (by decide +kernel) ⟨Nat.le_of_ble_eq_true rfl, Nat.le_of_ble_eq_true rfl⟩) rfl hl.1 rfl (Nat.le_of_ble_eq_true rfl) dX0_mustBe_11 ⟨Nat.le_of_ble_eq_true rfl, Nat.le_of_ble_eq_true rfl⟩) hS hnh hlk (Nat.le_of_ble_eq_true rfl) (Nat.le_of_ble_eq_true rfl) (fun _ => rfl) (fun n11 locs hS => ?_)
  exact x_vretM hx hb hr n11 rfl hS (Nat.le_of_ble_eq_true rfl) (Nat.le_of_ble_eq_true rfl) dX0_mustBe_14 hlk
set_option maxHeartbeats 800000 in
theorem cx_mustBeHours (l : Launch) (htr : l.stackTraces = false) (D : va_G) (t : Nat → ClassId) (Z : Nat × Cell) (x : Int32) : MetX l yX0_mustBeHours (ws_ yX0_mustBeHours cX0_mustBeHours 1 none) ({ frames := 9, cells := 2, slots := 14, locals := 167 }) (zPc [.int x] (fun H => H[Z.1]? = some Z.2) (KX D t Z)) (QM D (wiS x 0 60)) 2 14 (fun _ => False) := by
  refine zOfX (cc := cX0_mustBeHours) (maxL := 1) (ret := none) (by decide) (Nat.le_of_ble_eq_true rfl) (fun pg ev s m below meth cd ls F hnh hZ hK hl => ?_)
  obtain ⟨hx, hb, hml, hown, hts, hr, hlk⟩ := F
  have S : CallFix pg m cd cX0_mustBeHours 1 s _ lw_all RX0 := ⟨hx, hb, hml, hown, hts⟩
  have hl : lv_has ls 1 [(0, .int x)] := hl
  have hKK := hK.1
  have hS : va_S (fA (fun _ => False) s) s.heap s.heap [] := va_S.rf
  refine lv_iload_n hx hb dX0_mustBeHours_0 rfl (lv_at hl 0 rfl) ?_
  refine lv_i2l hx hb dX0_mustBeHours_1 rfl ?_
  refine lv_lconst (v := 0) hx hb dX0_mustBeHours_2 (by decide) ?_
  refine lv_ldc2 (v := 60) hx hb hown (hts _ q967) dX0_mustBeHours_3 ?_
  refine xm_M (xx_runS (As := [.long ((x).toInt64), .long 0, .long 60]) (rest := []) S hK hZ (cx_within l htr D t Z ((x).toInt64) 0 60) (va_cwS 3 hts (lw_S q336 q337 q95 q338) rfl rfl rfl (by decide +kernel) ⟨Nat.le_of_ble_eq_true rfl, Nat.le_of_ble_eq_true rfl⟩) rfl hl.1 rfl (Nat.le_of_ble_eq_true rfl) dX0_mustBeHours_6 ⟨Nat.le_of_ble_eq_true rfl, Nat.le_of_ble_eq_true rfl⟩) hS hnh hlk (Nat.le_of_ble_eq_true rfl) (Nat.le_of_ble_eq_true rfl) (fun _ => (wiL_eq (x := x) (a := 0) (b := 60)).symm) (fun n6 locs hS => ?_)
  exact x_vretM hx hb hr ((wiL_eq (x := x) (a := 0) (b := 60)).symm.trans n6) rfl hS (Nat.le_of_ble_eq_true rfl) (Nat.le_of_ble_eq_true rfl) dX0_mustBeHours_9 hlk
set_option maxHeartbeats 800000 in
theorem cx_mustBeBit (l : Launch) (htr : l.stackTraces = false) (D : va_G) (t : Nat → ClassId) (Z : Nat × Cell) (x : Int32) : MetX l yX0_mustBeBit (ws_ yX0_mustBeBit cX0_mustBeBit 1 none) ({ frames := 8, cells := 1, slots := 7, locals := 142 }) (zPc [.int x] (fun H => H[Z.1]? = some Z.2) (KX D t Z)) (QM D (if isI x 2 = true then 0 else -2)) 1 7 (fun _ => False) := by
  refine zOfX (cc := cX0_mustBeBit) (maxL := 1) (ret := none) (by decide) (Nat.le_of_ble_eq_true rfl) (fun pg ev s m below meth cd ls F hnh hZ hK hl => ?_)
  obtain ⟨hx, hb, hml, hown, hts, hr, hlk⟩ := F
  have S : CallFix pg m cd cX0_mustBeBit 1 s _ lw_all RX0 := ⟨hx, hb, hml, hown, hts⟩
  have hl : lv_has ls 1 [(0, .int x)] := hl
  have hKK := hK.1
  have hS : va_S (fA (fun _ => False) s) s.heap s.heap [] := va_S.rf
  refine lv_iload_n hx hb dX0_mustBeBit_0 rfl (lv_at hl 0 rfl) ?_
  refine lv_i2l hx hb dX0_mustBeBit_1 rfl ?_
  refine lv_lconst (v := 0) hx hb dX0_mustBeBit_2 (by decide) ?_
  refine lv_lconst (v := 1) hx hb dX0_mustBeBit_3 (by decide) ?_
  refine g_r (g_runS (As := [.long ((x).toInt64), .long 0, .long 1]) (rest := []) S hKK trivial (cx_in l D t ((x).toInt64) 0 1) (va_cwS 3 hts (lw_S q749 q482 q95 q483) rfl rfl rfl (by decide +kernel) ⟨Nat.le_of_ble_eq_true rfl, Nat.le_of_ble_eq_true rfl⟩) rfl hl.1 rfl (Nat.le_of_ble_eq_true rfl) dX0_mustBeBit_4 ⟨Nat.le_of_ble_eq_true rfl, Nat.le_of_ble_eq_true rfl⟩) ?_
  refine z_top (y := bI (isI x 2)) (by rw [show (1 : Int64) = ((2 : Int32) - 1).toInt64 by decide +kernel, in_isI (n := 2) (k := 2) (by decide +kernel) (by decide)]) ?_
  refine lv_bipush (v := (-2)) hx hb dX0_mustBeBit_7 (by decide) ?_
  refine xm_M (xx_runS (As := [.int (bI (isI x 2)), .int (-2)]) (rest := []) S hK hZ (cx_must l htr D t Z (isI x 2) (-2) (by decide)) (va_cwS 2 hts (lw_S q339 q340 q95 q341) rfl rfl rfl (by decide +kernel) ⟨Nat.le_of_ble_eq_true rfl, Nat.le_of_ble_eq_true rfl⟩) rfl hl.1 rfl (Nat.le_of_ble_eq_true rfl) dX0_mustBeBit_9 ⟨Nat.le_of_ble_eq_true rfl, Nat.le_of_ble_eq_true rfl⟩) hS hnh hlk (Nat.le_of_ble_eq_true rfl) (Nat.le_of_ble_eq_true rfl) (fun _ => rfl) (fun n9 locs hS => ?_)
  exact x_vretM hx hb hr n9 rfl hS (Nat.le_of_ble_eq_true rfl) (Nat.le_of_ble_eq_true rfl) dX0_mustBeBit_12 hlk
set_option maxHeartbeats 800000 in
theorem cx_mustBeHead (l : Launch) (htr : l.stackTraces = false) (D : va_G) (t : Nat → ClassId) (Z : Nat × Cell) (cb : Nat) (B : BT) (x : Int32) (hOk : Ok (B 2) 999) : MetX l yX0_mustBeHead (ws_ yX0_mustBeHead cX0_mustBeHead 2 none) ({ frames := 9, cells := 1, slots := 7, locals := 163 }) (zPc [.ref cb, .int x] (CM D t Z cb B) (KX D t Z)) (QM D (if isH (B 2) x = true then 0 else -1)) 1 7 (fun _ => False) := by
  refine zOfX (cc := cX0_mustBeHead) (maxL := 2) (ret := none) (by decide) (Nat.le_of_ble_eq_true rfl) (fun pg ev s m below meth cd ls F hnh hC hK hl => ?_)
  obtain ⟨hx, hb, hml, hown, hts, hr, hlk⟩ := F
  have S : CallFix pg m cd cX0_mustBeHead 2 s _ lw_all RX0 := ⟨hx, hb, hml, hown, hts⟩
  have hl : lv_has ls 2 [(0, .ref cb), (1, .int x)] := hl
  have hKK := hK.1
  have hS : va_S (fA (fun _ => False) s) s.heap s.heap [] := va_S.rf
  refine lv_iload_n hx hb dX0_mustBeHead_0 rfl (lv_at hl 1 rfl) ?_
  refine lv_aload_n hx hb dX0_mustBeHead_1 rfl (lv_at hl 0 rfl) ?_
  refine c_xget (v := .ref (cb + 8)) hx hb hts hown hKK hC 1 (by decide) (Or.inl q284) rfl rfl dX0_mustBeHead_2 ?_
  refine c_oget (v := .int ((B 2) 3)) hx hb hts hown hKK hC 6 (by decide) (Or.inr ⟨_, q211⟩) rfl (fun _ => rfl) dX0_mustBeHead_5 ?_
  refine xm_M (xx_runS (As := [.int x, .int ((B 2) 3)]) (rest := []) S hK hC.1.2.1 (cx_mustBe l htr D t Z x (B 2 3) (nH (B 2)) hOk.hr3 (by have := hOk.h6; omega)) (va_cwS 2 hts (lw_S q746 q747 q95 q748) rfl rfl rfl (by decide +kernel) ⟨Nat.le_of_ble_eq_true rfl, Nat.le_of_ble_eq_true rfl⟩) rfl hl.1 rfl (Nat.le_of_ble_eq_true rfl) dX0_mustBeHead_8 ⟨Nat.le_of_ble_eq_true rfl, Nat.le_of_ble_eq_true rfl⟩) hS hnh hlk (Nat.le_of_ble_eq_true rfl) (Nat.le_of_ble_eq_true rfl) (fun _ => rfl) (fun n8 locs hS => ?_)
  exact x_vretM hx hb hr n8 rfl hS (Nat.le_of_ble_eq_true rfl) (Nat.le_of_ble_eq_true rfl) dX0_mustBeHead_11 hlk
set_option maxHeartbeats 800000 in
theorem cx_mustBeSong (l : Launch) (htr : l.stackTraces = false) (D : va_G) (t : Nat → ClassId) (Z : Nat × Cell) (cb : Nat) (B : BT) (x : Int32) (hOk : Ok (B 2) 999) : MetX l yX0_mustBeSong (ws_ yX0_mustBeSong cX0_mustBeSong 2 none) ({ frames := 9, cells := 1, slots := 7, locals := 163 }) (zPc [.ref cb, .int x] (CM D t Z cb B) (KX D t Z)) (QM D (if isS (B 2) x = true then 0 else -1)) 1 7 (fun _ => False) := by
  refine zOfX (cc := cX0_mustBeSong) (maxL := 2) (ret := none) (by decide) (Nat.le_of_ble_eq_true rfl) (fun pg ev s m below meth cd ls F hnh hC hK hl => ?_)
  obtain ⟨hx, hb, hml, hown, hts, hr, hlk⟩ := F
  have S : CallFix pg m cd cX0_mustBeSong 2 s _ lw_all RX0 := ⟨hx, hb, hml, hown, hts⟩
  have hl : lv_has ls 2 [(0, .ref cb), (1, .int x)] := hl
  have hKK := hK.1
  have hS : va_S (fA (fun _ => False) s) s.heap s.heap [] := va_S.rf
  refine lv_iload_n hx hb dX0_mustBeSong_0 rfl (lv_at hl 1 rfl) ?_
  refine lv_aload_n hx hb dX0_mustBeSong_1 rfl (lv_at hl 0 rfl) ?_
  refine c_xget (v := .ref (cb + 8)) hx hb hts hown hKK hC 1 (by decide) (Or.inl q284) rfl rfl dX0_mustBeSong_2 ?_
  refine c_oget (v := .int ((B 2) 2)) hx hb hts hown hKK hC 4 (by decide) (Or.inr ⟨_, q204⟩) rfl (fun _ => rfl) dX0_mustBeSong_5 ?_
  refine xm_M (xx_runS (As := [.int x, .int ((B 2) 2)]) (rest := []) S hK hC.1.2.1 (cx_mustBe l htr D t Z x (B 2 2) (nS (B 2)) hOk.hr2 (by have := hOk.s5; omega)) (va_cwS 2 hts (lw_S q746 q747 q95 q748) rfl rfl rfl (by decide +kernel) ⟨Nat.le_of_ble_eq_true rfl, Nat.le_of_ble_eq_true rfl⟩) rfl hl.1 rfl (Nat.le_of_ble_eq_true rfl) dX0_mustBeSong_8 ⟨Nat.le_of_ble_eq_true rfl, Nat.le_of_ble_eq_true rfl⟩) hS hnh hlk (Nat.le_of_ble_eq_true rfl) (Nat.le_of_ble_eq_true rfl) (fun _ => rfl) (fun n8 locs hS => ?_)
  exact x_vretM hx hb hr n8 rfl hS (Nat.le_of_ble_eq_true rfl) (Nat.le_of_ble_eq_true rfl) dX0_mustBeSong_11 hlk
set_option maxHeartbeats 800000 in
theorem cx_mustBeSongOrNone (l : Launch) (htr : l.stackTraces = false) (D : va_G) (t : Nat → ClassId) (Z : Nat × Cell) (cb : Nat) (B : BT) (x : Int32) (hOk : Ok (B 2) 999) : MetX l yX0_mustBeSongOrNone (ws_ yX0_mustBeSongOrNone cX0_mustBeSongOrNone 2 none) ({ frames := 8, cells := 1, slots := 7, locals := 142 }) (zPc [.ref cb, .int x] (CM D t Z cb B) (KX D t Z)) (QM D (if isN (B 2) x = true then 0 else -1)) 1 7 (fun _ => False) := by
  refine zOfX (cc := cX0_mustBeSongOrNone) (maxL := 2) (ret := none) (by decide) (Nat.le_of_ble_eq_true rfl) (fun pg ev s m below meth cd ls F hnh hC hK hl => ?_)
  obtain ⟨hx, hb, hml, hown, hts, hr, hlk⟩ := F
  have S : CallFix pg m cd cX0_mustBeSongOrNone 2 s _ lw_all RX0 := ⟨hx, hb, hml, hown, hts⟩
  have hl : lv_has ls 2 [(0, .ref cb), (1, .int x)] := hl
  have hKK := hK.1
  have hS : va_S (fA (fun _ => False) s) s.heap s.heap [] := va_S.rf
  refine lv_iload_n hx hb dX0_mustBeSongOrNone_0 rfl (lv_at hl 1 rfl) ?_
  refine lv_i2l hx hb dX0_mustBeSongOrNone_1 rfl ?_
  refine lv_ldc2 (v := (-1)) hx hb hown (hts _ q883) dX0_mustBeSongOrNone_2 ?_
  refine lv_aload_n hx hb dX0_mustBeSongOrNone_5 rfl (lv_at hl 0 rfl) ?_
  refine c_xget (v := .ref (cb + 8)) hx hb hts hown hKK hC 1 (by decide) (Or.inl q284) rfl rfl dX0_mustBeSongOrNone_6 ?_
  refine c_oget (v := .int ((B 2) 2)) hx hb hts hown hKK hC 4 (by decide) (Or.inr ⟨_, q204⟩) rfl (fun _ => rfl) dX0_mustBeSongOrNone_9 ?_
  refine lv_iconst (v := 1) hx hb dX0_mustBeSongOrNone_12 (by decide) ?_
  refine lv_isub hx hb dX0_mustBeSongOrNone_13 ?_
  refine lv_i2l hx hb dX0_mustBeSongOrNone_14 rfl ?_
  refine g_r (g_runS (As := [.long ((x).toInt64), .long (-1), .long (((((B 2) 2) - 1)).toInt64)]) (rest := []) S hKK trivial (cx_in l D t ((x).toInt64) (-1) (((((B 2) 2) - 1)).toInt64)) (va_cwS 3 hts (lw_S q749 q482 q95 q483) rfl rfl rfl (by decide +kernel) ⟨Nat.le_of_ble_eq_true rfl, Nat.le_of_ble_eq_true rfl⟩) rfl hl.1 rfl (Nat.le_of_ble_eq_true rfl) dX0_mustBeSongOrNone_15 ⟨Nat.le_of_ble_eq_true rfl, Nat.le_of_ble_eq_true rfl⟩) ?_
  refine z_top (y := bI (isN (B 2) x)) (by rw [in_isN hOk.hr2 (by have := hOk.s5; omega)]) ?_
  refine lv_iconst (v := (-1)) hx hb dX0_mustBeSongOrNone_18 (by decide) ?_
  refine xm_M (xx_runS (As := [.int (bI (isN (B 2) x)), .int (-1)]) (rest := []) S hK hC.1.2.1 (cx_must l htr D t Z (isN (B 2) x) (-1) (by decide)) (va_cwS 2 hts (lw_S q339 q340 q95 q341) rfl rfl rfl (by decide +kernel) ⟨Nat.le_of_ble_eq_true rfl, Nat.le_of_ble_eq_true rfl⟩) rfl hl.1 rfl (Nat.le_of_ble_eq_true rfl) dX0_mustBeSongOrNone_19 ⟨Nat.le_of_ble_eq_true rfl, Nat.le_of_ble_eq_true rfl⟩) hS hnh hlk (Nat.le_of_ble_eq_true rfl) (Nat.le_of_ble_eq_true rfl) (fun _ => rfl) (fun n19 locs hS => ?_)
  exact x_vretM hx hb hr n19 rfl hS (Nat.le_of_ble_eq_true rfl) (Nat.le_of_ble_eq_true rfl) dX0_mustBeSongOrNone_22 hlk
set_option maxHeartbeats 800000 in
theorem cx_mustHaveSong (l : Launch) (htr : l.stackTraces = false) (D : va_G) (t : Nat → ClassId) (Z : Nat × Cell) (cb : Nat) (B : BT) (j : Nat) (hj : j < 6) : MetX l yX0_mustHaveSong (ws_ yX0_mustHaveSong cX0_mustHaveSong 2 none) ({ frames := 8, cells := 2, slots := 14, locals := 142 }) (zPc [.ref cb, .int (nI j)] (CM D t Z cb B) (KX D t Z)) (QM D (if hd (B 2) j 3 = -9 then -3 else 0)) 2 14 (fun _ => False) := by
  refine zOfX (cc := cX0_mustHaveSong) (maxL := 2) (ret := none) (by decide) (Nat.le_of_ble_eq_true rfl) (fun pg ev s m below meth cd ls F hnh hC hK hl => ?_)
  obtain ⟨hx, hb, hml, hown, hts, hr, hlk⟩ := F
  have S : CallFix pg m cd cX0_mustHaveSong 2 s _ lw_all RX0 := ⟨hx, hb, hml, hown, hts⟩
  have hl : lv_has ls 2 [(0, .ref cb), (1, .int (nI j))] := hl
  have hKK := hK.1
  have hS : va_S (fA (fun _ => False) s) s.heap s.heap [] := va_S.rf
  refine lv_aload_n hx hb dX0_mustHaveSong_0 rfl (lv_at hl 0 rfl) ?_
  refine c_xget (v := .ref (cb + 8)) hx hb hts hown hKK hC 1 (by decide) (Or.inl q284) rfl rfl dX0_mustHaveSong_1 ?_
  refine c_oget (v := .ref (cb + 8 + 7)) hx hb hts hown hKK hC 10 (by decide) (Or.inr ⟨_, q222⟩) rfl (fun _ => rfl) dX0_mustHaveSong_4 ?_
  refine lv_iload_n hx hb dX0_mustHaveSong_7 rfl (lv_at hl 1 rfl) ?_
  refine c_oald hx hb hKK hC 7 (fun _ _ _ => rfl) (k := j) (v := hd (B 2) j 3) rfl (by omega) (by decide) (fun _ => rfl) dX0_mustHaveSong_8 ?_
  refine lv_bipush (v := (-9)) hx hb dX0_mustHaveSong_9 (by decide) ?_
  refine lv_icmp_eq (tgt := 18) hx hb dX0_mustHaveSong_11 (by decide) (fun c11 => ?_) (fun c11 => ?_)
  · refine lv_iconst (v := 0) hx hb dX0_mustHaveSong_18 (by decide) ?_
    refine z_top (y := bI false) rfl ?_
    refine lv_bipush (v := (-3)) hx hb dX0_mustHaveSong_19 (by decide) ?_
    refine xm_M (xx_runS (As := [.int (bI false), .int (-3)]) (rest := []) S hK hC.1.2.1 (cx_must l htr D t Z false (-3) (by decide)) (va_cwS 2 hts (lw_S q339 q340 q95 q341) rfl rfl rfl (by decide +kernel) ⟨Nat.le_of_ble_eq_true rfl, Nat.le_of_ble_eq_true rfl⟩) rfl hl.1 rfl (Nat.le_of_ble_eq_true rfl) dX0_mustHaveSong_21 ⟨Nat.le_of_ble_eq_true rfl, Nat.le_of_ble_eq_true rfl⟩) hS hnh hlk (Nat.le_of_ble_eq_true rfl) (Nat.le_of_ble_eq_true rfl) (fun _ => by rw [if_pos c11]; rfl) (fun n21 locs hS => ?_)
    exact x_vretM hx hb hr (absurd n21 (by decide)) rfl hS (Nat.le_of_ble_eq_true rfl) (Nat.le_of_ble_eq_true rfl) dX0_mustHaveSong_24 hlk
  · refine lv_iconst (v := 1) hx hb dX0_mustHaveSong_14 (by decide) ?_
    refine lv_goto (tgt := 19) hx hb dX0_mustHaveSong_15 (by decide) ?_
    refine z_top (y := bI true) rfl ?_
    refine lv_bipush (v := (-3)) hx hb dX0_mustHaveSong_19 (by decide) ?_
    refine xm_M (xx_runS (As := [.int (bI true), .int (-3)]) (rest := []) S hK hC.1.2.1 (cx_must l htr D t Z true (-3) (by decide)) (va_cwS 2 hts (lw_S q339 q340 q95 q341) rfl rfl rfl (by decide +kernel) ⟨Nat.le_of_ble_eq_true rfl, Nat.le_of_ble_eq_true rfl⟩) rfl hl.1 rfl (Nat.le_of_ble_eq_true rfl) dX0_mustHaveSong_21 ⟨Nat.le_of_ble_eq_true rfl, Nat.le_of_ble_eq_true rfl⟩) hS hnh hlk (Nat.le_of_ble_eq_true rfl) (Nat.le_of_ble_eq_true rfl) (fun h => absurd rfl h) (fun n21 locs hS => ?_)
    exact x_vretM hx hb hr (by rw [if_neg c11]) rfl hS (Nat.le_of_ble_eq_true rfl) (Nat.le_of_ble_eq_true rfl) dX0_mustHaveSong_24 hlk
theorem oset_fr {cb q : Nat} {s : State} (h : sA (cb + 23) (cb + 8) q) : cA cb q := by
  rcases h with h | h <;> exact ⟨by have := h.1; omega, by have := h.2; omega⟩
set_option maxHeartbeats 4000000 in
theorem cx_openMind (l : Launch) (htr : l.stackTraces = false) (D : va_G) (t : Nat → ClassId) (Z : Nat × Cell) (cb : Nat) (B : BT) : Met l yX0_openMind (ws_ yX0_openMind cX0_openMind 1 (some (.object "SongThatStays$Office"))) ({ frames := 2, cells := 0, slots := 0, locals := 85 }) (zPc [.ref cb] (CW D t Z cb B) (KX D t Z)) (va_Qr (fun _ => True) (fun (u : GT × GT × BT) a U => a = cb + 23 ∧ CM D t Z cb B U.heap ∧ OV D t (cb + 23) (cb + 2) (cb + 70) u.1 u.2.1 (B 2) u.2.2 U.heap) (cA cb)) 0 0 (cA cb) := by
  refine zOf (cc := cX0_openMind) (maxL := 1) (ret := some (.object "SongThatStays$Office")) (by decide) (Nat.le_of_ble_eq_true rfl) (fun pg ev s m below meth cd ls F hW hK hl hnm => ?_)
  obtain ⟨hx, hb, hml, hown, hts, hr, hlk⟩ := F
  have S : CallFix pg m cd cX0_openMind 1 s _ lw_all RX0 := ⟨hx, hb, hml, hown, hts⟩
  have hl : lv_has ls 1 [(0, .ref cb)] := hl
  have hKK := hK.1
  obtain ⟨hC, O, sgM, kdM, hM⟩ := hW
  have hS : va_S (cA cb) s.heap s.heap [] := va_S.rf
  refine lv_aload_n hx hb dX0_openMind_0 rfl (lv_at hl 0 rfl) ?_
  refine c_xget (v := .ref (cb + 23)) hx hb hts hown hKK hC 2 (by decide) (Or.inl q285) rfl rfl dX0_openMind_1 ?_
  refine lv_aload_n hx hb dX0_openMind_4 rfl (lv_at hl 0 rfl) ?_
  refine c_xget (v := .ref (cb + 8)) hx hb hts hown hKK hC 1 (by decide) (Or.inl q284) rfl rfl dX0_openMind_5 ?_
  obtain ⟨sgO, kdO, AO, hV⟩ := hC.2.2.1
  refine va_callv (g_runV (As := [.ref (cb + 8)]) (rest := []) S hKK (P := fun H => OR D t (cb + 23) O sgM kdM H ∧ OV D t (cb + 8) (cb + 2) (cb + 70) sgO kdO (B 2) AO H) ⟨hM, hV⟩ (va_recv hKK.1 hM (ci := 2) (q0 := 0) rfl rfl) (co_X8_set l D t (cb + 23) (cb + 2) (cb + 70) sgM kdM O (cb + 8) sgO kdO (B 2) AO (by omega) (by omega) (by omega) (by omega) (by omega)) (cwV 1 hts (lw_V q586 q587 q588 q103 q589) rfl rfl rfl (by decide +kernel) ⟨Nat.le_of_ble_eq_true rfl, Nat.le_of_ble_eq_true rfl⟩) rfl hl.1 rfl (Nat.le_of_ble_eq_true rfl) dX0_openMind_8 ⟨Nat.le_of_ble_eq_true rfl, Nat.le_of_ble_eq_true rfl⟩) hS (fun q _ h => oset_fr (s := s) h) (fun q h => oset_fr (s := s) h) (fun u tt H locs ht _ _ hP _ hq hS => ?_)
  rw [ht] at hP
  obtain ⟨hN, hV⟩ := hP
  have hC : CM D t Z cb B H := ⟨ct_Z hC.1 (fun q h1 h2 => hq q h1 (fun z => by unfold sA oA at z; omega)), hC.2.1.kept (fun q h1 h2 => hq q h1 (fun z => by unfold cO at h2; unfold sA oA at z; omega)), ⟨sgO, kdO, AO, hV⟩, hC.2.2.2.kept (fun q h1 h2 => hq q h1 (fun z => by unfold oA at h2; unfold sA oA at z; omega))⟩
  refine lv_aload_n hx hb dX0_openMind_11 rfl (lv_at hl 0 rfl) ?_
  refine c_xget (v := .ref (cb + 23)) hx hb hts hown hKK hC 2 (by decide) (Or.inl q285) rfl rfl dX0_openMind_12 ?_
  exact W.aret (v := .ref (cb + 23)) hx hb hr (Or.inl ⟨_, rfl⟩) (Or.inr ⟨_, rfl⟩) (fun tt ht _ => ⟨⟨(sgO, kdO, O), cb + 23, rfl, trivial, rfl, by rw [ht]; exact hC, by show OV D t (cb + 23) (cb + 2) (cb + 70) sgO kdO (B 2) O tt.heap; rw [ht]; exact hN⟩, hS.F ht⟩) hS.2.2 dX0_openMind_15 hlk
