/-! SONGS AND KINDS: printed by wip/D-96246w/gen/gen_c1.py -/
set_option maxRecDepth 100000
theorem cm_X21_fresh_9 (l : Launch) (D : va_G) (t : Nat → ClassId) (a : Nat) (v0 v1 : Int32) : Met l yX21_fresh (ws_ yX21_fresh cX21_fresh 1 (some .int)) ({ frames := 0, cells := 0, slots := 0, locals := 0 }) (zPc [.ref a] (OB D a 9 [.int v0, .int v1]) (KK D t)) (QcRead (2 * v0 + v1)) 0 0 (fun _ => False) := by
  refine zOf (cc := cX21_fresh) (maxL := 1) (ret := (some .int)) (by decide) (Nat.le_of_ble_eq_true rfl) (fun pg ev s m below meth cd ls F hP hKK hl hnm => ?_)
  obtain ⟨hx, hb, hml, hown, hts, hr, hlk⟩ := F
  have S : CallFix pg m cd cX21_fresh 1 s _ lw_all RX21 := ⟨hx, hb, hml, hown, hts⟩
  have hl : lv_has ls 1 [(0, .ref a)] := hl
  refine lv_iconst (v := 2) hx hb dX21_fresh_0 (by decide) ?_
  refine lv_aload_n hx hb dX21_fresh_1 rfl (lv_at hl 0 rfl) ?_
  refine c_get (C := RX21) (T := TX21) (N := 2) hx hb hts in_X21 hown hKK hP rfl 0 (by decide) q680 (Or.inr q681) rfl dX21_fresh_2 ?_
  refine lv_imul hx hb dX21_fresh_5 ?_
  refine lv_aload_n hx hb dX21_fresh_6 rfl (lv_at hl 0 rfl) ?_
  refine c_get (C := RX21) (T := TX21) (N := 2) hx hb hts in_X21 hown hKK hP rfl 1 (by decide) q685 (Or.inr q686) rfl dX21_fresh_7 ?_
  refine lv_iadd hx hb dX21_fresh_10 ?_
  exact z_iretR hx hb hr rfl (fun q h => by cases h) rfl dX21_fresh_11 hlk
theorem cm_X21_fresh_10 (l : Launch) (D : va_G) (t : Nat → ClassId) (a : Nat) (v0 v1 : Int32) : Met l yX21_fresh (ws_ yX21_fresh cX21_fresh 1 (some .int)) ({ frames := 0, cells := 0, slots := 0, locals := 0 }) (zPc [.ref a] (OB D a 10 [.int v0, .int v1]) (KK D t)) (QcRead (2 * v0 + v1)) 0 0 (fun _ => False) := by
  refine zOf (cc := cX21_fresh) (maxL := 1) (ret := (some .int)) (by decide) (Nat.le_of_ble_eq_true rfl) (fun pg ev s m below meth cd ls F hP hKK hl hnm => ?_)
  obtain ⟨hx, hb, hml, hown, hts, hr, hlk⟩ := F
  have S : CallFix pg m cd cX21_fresh 1 s _ lw_all RX21 := ⟨hx, hb, hml, hown, hts⟩
  have hl : lv_has ls 1 [(0, .ref a)] := hl
  refine lv_iconst (v := 2) hx hb dX21_fresh_0 (by decide) ?_
  refine lv_aload_n hx hb dX21_fresh_1 rfl (lv_at hl 0 rfl) ?_
  refine c_get (C := RX22) (T := TX22) (N := 2) hx hb hts in_X22 hown hKK hP rfl 0 (by decide) q680 (Or.inr q681) rfl dX21_fresh_2 ?_
  refine lv_imul hx hb dX21_fresh_5 ?_
  refine lv_aload_n hx hb dX21_fresh_6 rfl (lv_at hl 0 rfl) ?_
  refine c_get (C := RX22) (T := TX22) (N := 2) hx hb hts in_X22 hown hKK hP rfl 1 (by decide) q685 (Or.inr q686) rfl dX21_fresh_7 ?_
  refine lv_iadd hx hb dX21_fresh_10 ?_
  exact z_iretR hx hb hr rfl (fun q h => by cases h) rfl dX21_fresh_11 hlk
theorem cm_X21_fresh_11 (l : Launch) (D : va_G) (t : Nat → ClassId) (a : Nat) (v0 v1 : Int32) : Met l yX21_fresh (ws_ yX21_fresh cX21_fresh 1 (some .int)) ({ frames := 0, cells := 0, slots := 0, locals := 0 }) (zPc [.ref a] (OB D a 11 [.int v0, .int v1]) (KK D t)) (QcRead (2 * v0 + v1)) 0 0 (fun _ => False) := by
  refine zOf (cc := cX21_fresh) (maxL := 1) (ret := (some .int)) (by decide) (Nat.le_of_ble_eq_true rfl) (fun pg ev s m below meth cd ls F hP hKK hl hnm => ?_)
  obtain ⟨hx, hb, hml, hown, hts, hr, hlk⟩ := F
  have S : CallFix pg m cd cX21_fresh 1 s _ lw_all RX21 := ⟨hx, hb, hml, hown, hts⟩
  have hl : lv_has ls 1 [(0, .ref a)] := hl
  refine lv_iconst (v := 2) hx hb dX21_fresh_0 (by decide) ?_
  refine lv_aload_n hx hb dX21_fresh_1 rfl (lv_at hl 0 rfl) ?_
  refine c_get (C := RX23) (T := TX23) (N := 2) hx hb hts in_X23 hown hKK hP rfl 0 (by decide) q680 (Or.inr q681) rfl dX21_fresh_2 ?_
  refine lv_imul hx hb dX21_fresh_5 ?_
  refine lv_aload_n hx hb dX21_fresh_6 rfl (lv_at hl 0 rfl) ?_
  refine c_get (C := RX23) (T := TX23) (N := 2) hx hb hts in_X23 hown hKK hP rfl 1 (by decide) q685 (Or.inr q686) rfl dX21_fresh_7 ?_
  refine lv_iadd hx hb dX21_fresh_10 ?_
  exact z_iretR hx hb hr rfl (fun q h => by cases h) rfl dX21_fresh_11 hlk
theorem cm_X21_fresh_12 (l : Launch) (D : va_G) (t : Nat → ClassId) (a : Nat) (v0 v1 : Int32) : Met l yX21_fresh (ws_ yX21_fresh cX21_fresh 1 (some .int)) ({ frames := 0, cells := 0, slots := 0, locals := 0 }) (zPc [.ref a] (OB D a 12 [.int v0, .int v1]) (KK D t)) (QcRead (2 * v0 + v1)) 0 0 (fun _ => False) := by
  refine zOf (cc := cX21_fresh) (maxL := 1) (ret := (some .int)) (by decide) (Nat.le_of_ble_eq_true rfl) (fun pg ev s m below meth cd ls F hP hKK hl hnm => ?_)
  obtain ⟨hx, hb, hml, hown, hts, hr, hlk⟩ := F
  have S : CallFix pg m cd cX21_fresh 1 s _ lw_all RX21 := ⟨hx, hb, hml, hown, hts⟩
  have hl : lv_has ls 1 [(0, .ref a)] := hl
  refine lv_iconst (v := 2) hx hb dX21_fresh_0 (by decide) ?_
  refine lv_aload_n hx hb dX21_fresh_1 rfl (lv_at hl 0 rfl) ?_
  refine c_get (C := RX24) (T := TX24) (N := 2) hx hb hts in_X24 hown hKK hP rfl 0 (by decide) q680 (Or.inr q681) rfl dX21_fresh_2 ?_
  refine lv_imul hx hb dX21_fresh_5 ?_
  refine lv_aload_n hx hb dX21_fresh_6 rfl (lv_at hl 0 rfl) ?_
  refine c_get (C := RX24) (T := TX24) (N := 2) hx hb hts in_X24 hown hKK hP rfl 1 (by decide) q685 (Or.inr q686) rfl dX21_fresh_7 ?_
  refine lv_iadd hx hb dX21_fresh_10 ?_
  exact z_iretR hx hb hr rfl (fun q h => by cases h) rfl dX21_fresh_11 hlk
theorem cm_X21_fresh_13 (l : Launch) (D : va_G) (t : Nat → ClassId) (a : Nat) (v0 v1 : Int32) : Met l yX21_fresh (ws_ yX21_fresh cX21_fresh 1 (some .int)) ({ frames := 0, cells := 0, slots := 0, locals := 0 }) (zPc [.ref a] (OB D a 13 [.int v0, .int v1]) (KK D t)) (QcRead (2 * v0 + v1)) 0 0 (fun _ => False) := by
  refine zOf (cc := cX21_fresh) (maxL := 1) (ret := (some .int)) (by decide) (Nat.le_of_ble_eq_true rfl) (fun pg ev s m below meth cd ls F hP hKK hl hnm => ?_)
  obtain ⟨hx, hb, hml, hown, hts, hr, hlk⟩ := F
  have S : CallFix pg m cd cX21_fresh 1 s _ lw_all RX21 := ⟨hx, hb, hml, hown, hts⟩
  have hl : lv_has ls 1 [(0, .ref a)] := hl
  refine lv_iconst (v := 2) hx hb dX21_fresh_0 (by decide) ?_
  refine lv_aload_n hx hb dX21_fresh_1 rfl (lv_at hl 0 rfl) ?_
  refine c_get (C := RX25) (T := TX25) (N := 2) hx hb hts in_X25 hown hKK hP rfl 0 (by decide) q680 (Or.inr q681) rfl dX21_fresh_2 ?_
  refine lv_imul hx hb dX21_fresh_5 ?_
  refine lv_aload_n hx hb dX21_fresh_6 rfl (lv_at hl 0 rfl) ?_
  refine c_get (C := RX25) (T := TX25) (N := 2) hx hb hts in_X25 hown hKK hP rfl 1 (by decide) q685 (Or.inr q686) rfl dX21_fresh_7 ?_
  refine lv_iadd hx hb dX21_fresh_10 ?_
  exact z_iretR hx hb hr rfl (fun q h => by cases h) rfl dX21_fresh_11 hlk
theorem cm_X21_fresh_14 (l : Launch) (D : va_G) (t : Nat → ClassId) (a : Nat) (v0 v1 : Int32) : Met l yX21_fresh (ws_ yX21_fresh cX21_fresh 1 (some .int)) ({ frames := 0, cells := 0, slots := 0, locals := 0 }) (zPc [.ref a] (OB D a 14 [.int v0, .int v1]) (KK D t)) (QcRead (2 * v0 + v1)) 0 0 (fun _ => False) := by
  refine zOf (cc := cX21_fresh) (maxL := 1) (ret := (some .int)) (by decide) (Nat.le_of_ble_eq_true rfl) (fun pg ev s m below meth cd ls F hP hKK hl hnm => ?_)
  obtain ⟨hx, hb, hml, hown, hts, hr, hlk⟩ := F
  have S : CallFix pg m cd cX21_fresh 1 s _ lw_all RX21 := ⟨hx, hb, hml, hown, hts⟩
  have hl : lv_has ls 1 [(0, .ref a)] := hl
  refine lv_iconst (v := 2) hx hb dX21_fresh_0 (by decide) ?_
  refine lv_aload_n hx hb dX21_fresh_1 rfl (lv_at hl 0 rfl) ?_
  refine c_get (C := RX26) (T := TX26) (N := 2) hx hb hts in_X26 hown hKK hP rfl 0 (by decide) q680 (Or.inr q681) rfl dX21_fresh_2 ?_
  refine lv_imul hx hb dX21_fresh_5 ?_
  refine lv_aload_n hx hb dX21_fresh_6 rfl (lv_at hl 0 rfl) ?_
  refine c_get (C := RX26) (T := TX26) (N := 2) hx hb hts in_X26 hown hKK hP rfl 1 (by decide) q685 (Or.inr q686) rfl dX21_fresh_7 ?_
  refine lv_iadd hx hb dX21_fresh_10 ?_
  exact z_iretR hx hb hr rfl (fun q h => by cases h) rfl dX21_fresh_11 hlk
theorem cm_X23_fresh_11 (l : Launch) (D : va_G) (t : Nat → ClassId) (a : Nat) (v0 v1 : Int32) : Met l yX23_fresh (ws_ yX23_fresh cX23_fresh 1 (some .int)) ({ frames := 1, cells := 0, slots := 0, locals := 20 }) (zPc [.ref a] (OB D a 11 [.int v0, .int v1]) (KK D t)) (QcRead (2 * v0 + v1 + 3)) 0 0 (fun _ => False) := by
  refine zOf (cc := cX23_fresh) (maxL := 1) (ret := (some .int)) (by decide) (Nat.le_of_ble_eq_true rfl) (fun pg ev s m below meth cd ls F hP hKK hl hnm => ?_)
  obtain ⟨hx, hb, hml, hown, hts, hr, hlk⟩ := F
  have S : CallFix pg m cd cX23_fresh 1 s _ lw_all RX23 := ⟨hx, hb, hml, hown, hts⟩
  have hl : lv_has ls 1 [(0, .ref a)] := hl
  refine lv_aload_n hx hb dX23_fresh_0 rfl (lv_at hl 0 rfl) ?_
  refine c_callU (C := RX23) (As := []) (rest := []) S hKK hP hP rfl (cm_X21_fresh_11 l D t a v0 v1) (va_cwSU 0 hts (lw_SU q649 q1582 q650 q639 q121 q640) rfl rfl rfl ⟨by decide, by decide +kernel⟩ ⟨Nat.le_of_ble_eq_true rfl, Nat.le_of_ble_eq_true rfl⟩) rfl hl.1 rfl (Nat.le_of_ble_eq_true rfl) dX23_fresh_1 ⟨Nat.le_of_ble_eq_true rfl, Nat.le_of_ble_eq_true rfl⟩ ?_
  refine lv_iconst (v := 3) hx hb dX23_fresh_4 (by decide) ?_
  refine lv_iadd hx hb dX23_fresh_5 ?_
  exact z_iretR hx hb hr rfl (fun q h => by cases h) rfl dX23_fresh_6 hlk
theorem cm_X23_fresh_13 (l : Launch) (D : va_G) (t : Nat → ClassId) (a : Nat) (v0 v1 : Int32) : Met l yX23_fresh (ws_ yX23_fresh cX23_fresh 1 (some .int)) ({ frames := 1, cells := 0, slots := 0, locals := 20 }) (zPc [.ref a] (OB D a 13 [.int v0, .int v1]) (KK D t)) (QcRead (2 * v0 + v1 + 3)) 0 0 (fun _ => False) := by
  refine zOf (cc := cX23_fresh) (maxL := 1) (ret := (some .int)) (by decide) (Nat.le_of_ble_eq_true rfl) (fun pg ev s m below meth cd ls F hP hKK hl hnm => ?_)
  obtain ⟨hx, hb, hml, hown, hts, hr, hlk⟩ := F
  have S : CallFix pg m cd cX23_fresh 1 s _ lw_all RX23 := ⟨hx, hb, hml, hown, hts⟩
  have hl : lv_has ls 1 [(0, .ref a)] := hl
  refine lv_aload_n hx hb dX23_fresh_0 rfl (lv_at hl 0 rfl) ?_
  refine c_callU (C := RX25) (As := []) (rest := []) S hKK hP hP rfl (cm_X21_fresh_13 l D t a v0 v1) (va_cwSU 0 hts (lw_SU q649 q1582 q650 q639 q121 q640) rfl rfl rfl ⟨by decide, by decide +kernel⟩ ⟨Nat.le_of_ble_eq_true rfl, Nat.le_of_ble_eq_true rfl⟩) rfl hl.1 rfl (Nat.le_of_ble_eq_true rfl) dX23_fresh_1 ⟨Nat.le_of_ble_eq_true rfl, Nat.le_of_ble_eq_true rfl⟩ ?_
  refine lv_iconst (v := 3) hx hb dX23_fresh_4 (by decide) ?_
  refine lv_iadd hx hb dX23_fresh_5 ?_
  exact z_iretR hx hb hr rfl (fun q h => by cases h) rfl dX23_fresh_6 hlk
theorem cm_X25_fresh_13 (l : Launch) (D : va_G) (t : Nat → ClassId) (a : Nat) (v0 v1 : Int32) : Met l yX25_fresh (ws_ yX25_fresh cX25_fresh 1 (some .int)) ({ frames := 2, cells := 0, slots := 0, locals := 40 }) (zPc [.ref a] (OB D a 13 [.int v0, .int v1]) (KK D t)) (QcRead (2 * (2 * v0 + v1 + 3))) 0 0 (fun _ => False) := by
  refine zOf (cc := cX25_fresh) (maxL := 1) (ret := (some .int)) (by decide) (Nat.le_of_ble_eq_true rfl) (fun pg ev s m below meth cd ls F hP hKK hl hnm => ?_)
  obtain ⟨hx, hb, hml, hown, hts, hr, hlk⟩ := F
  have S : CallFix pg m cd cX25_fresh 1 s _ lw_all RX25 := ⟨hx, hb, hml, hown, hts⟩
  have hl : lv_has ls 1 [(0, .ref a)] := hl
  refine lv_iconst (v := 2) hx hb dX25_fresh_0 (by decide) ?_
  refine lv_aload_n hx hb dX25_fresh_1 rfl (lv_at hl 0 rfl) ?_
  refine c_callU (C := RX25) (As := []) (rest := [.int 2]) S hKK hP hP rfl (cm_X23_fresh_13 l D t a v0 v1) (va_cwSU 0 hts (lw_SU q645 q1581 q646 q647 q123 q648) rfl rfl rfl ⟨by decide, by decide +kernel⟩ ⟨Nat.le_of_ble_eq_true rfl, Nat.le_of_ble_eq_true rfl⟩) rfl hl.1 rfl (Nat.le_of_ble_eq_true rfl) dX25_fresh_2 ⟨Nat.le_of_ble_eq_true rfl, Nat.le_of_ble_eq_true rfl⟩ ?_
  refine lv_imul hx hb dX25_fresh_5 ?_
  exact z_iretR hx hb hr rfl (fun q h => by cases h) rfl dX25_fresh_6 hlk
theorem cm_X21_kind_9 (l : Launch) (D : va_G) (t : Nat → ClassId) (a : Nat) (v0 v1 : Int32) : Met l yX21_kind (ws_ yX21_kind cX21_kind 1 (some .int)) ({ frames := 0, cells := 0, slots := 0, locals := 0 }) (zPc [.ref a] (OB D a 9 [.int v0, .int v1]) (KK D t)) (QcRead 0) 0 0 (fun _ => False) := by
  refine zOf (cc := cX21_kind) (maxL := 1) (ret := (some .int)) (by decide) (Nat.le_of_ble_eq_true rfl) (fun pg ev s m below meth cd ls F hP hKK hl hnm => ?_)
  obtain ⟨hx, hb, hml, hown, hts, hr, hlk⟩ := F
  have S : CallFix pg m cd cX21_kind 1 s _ lw_all RX21 := ⟨hx, hb, hml, hown, hts⟩
  have hl : lv_has ls 1 [(0, .ref a)] := hl
  refine lv_iconst (v := 0) hx hb dX21_kind_0 (by decide) ?_
  exact z_iretR hx hb hr rfl (fun q h => by cases h) rfl dX21_kind_1 hlk
theorem cm_X22_kind_10 (l : Launch) (D : va_G) (t : Nat → ClassId) (a : Nat) (v0 v1 : Int32) : Met l yX22_kind (ws_ yX22_kind cX22_kind 1 (some .int)) ({ frames := 0, cells := 0, slots := 0, locals := 0 }) (zPc [.ref a] (OB D a 10 [.int v0, .int v1]) (KK D t)) (QcRead 1) 0 0 (fun _ => False) := by
  refine zOf (cc := cX22_kind) (maxL := 1) (ret := (some .int)) (by decide) (Nat.le_of_ble_eq_true rfl) (fun pg ev s m below meth cd ls F hP hKK hl hnm => ?_)
  obtain ⟨hx, hb, hml, hown, hts, hr, hlk⟩ := F
  have S : CallFix pg m cd cX22_kind 1 s _ lw_all RX22 := ⟨hx, hb, hml, hown, hts⟩
  have hl : lv_has ls 1 [(0, .ref a)] := hl
  refine lv_iconst (v := 1) hx hb dX22_kind_0 (by decide) ?_
  exact z_iretR hx hb hr rfl (fun q h => by cases h) rfl dX22_kind_1 hlk
theorem cm_X23_kind_11 (l : Launch) (D : va_G) (t : Nat → ClassId) (a : Nat) (v0 v1 : Int32) : Met l yX23_kind (ws_ yX23_kind cX23_kind 1 (some .int)) ({ frames := 0, cells := 0, slots := 0, locals := 0 }) (zPc [.ref a] (OB D a 11 [.int v0, .int v1]) (KK D t)) (QcRead 2) 0 0 (fun _ => False) := by
  refine zOf (cc := cX23_kind) (maxL := 1) (ret := (some .int)) (by decide) (Nat.le_of_ble_eq_true rfl) (fun pg ev s m below meth cd ls F hP hKK hl hnm => ?_)
  obtain ⟨hx, hb, hml, hown, hts, hr, hlk⟩ := F
  have S : CallFix pg m cd cX23_kind 1 s _ lw_all RX23 := ⟨hx, hb, hml, hown, hts⟩
  have hl : lv_has ls 1 [(0, .ref a)] := hl
  refine lv_iconst (v := 2) hx hb dX23_kind_0 (by decide) ?_
  exact z_iretR hx hb hr rfl (fun q h => by cases h) rfl dX23_kind_1 hlk
theorem cm_X24_kind_12 (l : Launch) (D : va_G) (t : Nat → ClassId) (a : Nat) (v0 v1 : Int32) : Met l yX24_kind (ws_ yX24_kind cX24_kind 1 (some .int)) ({ frames := 0, cells := 0, slots := 0, locals := 0 }) (zPc [.ref a] (OB D a 12 [.int v0, .int v1]) (KK D t)) (QcRead 3) 0 0 (fun _ => False) := by
  refine zOf (cc := cX24_kind) (maxL := 1) (ret := (some .int)) (by decide) (Nat.le_of_ble_eq_true rfl) (fun pg ev s m below meth cd ls F hP hKK hl hnm => ?_)
  obtain ⟨hx, hb, hml, hown, hts, hr, hlk⟩ := F
  have S : CallFix pg m cd cX24_kind 1 s _ lw_all RX24 := ⟨hx, hb, hml, hown, hts⟩
  have hl : lv_has ls 1 [(0, .ref a)] := hl
  refine lv_iconst (v := 3) hx hb dX24_kind_0 (by decide) ?_
  exact z_iretR hx hb hr rfl (fun q h => by cases h) rfl dX24_kind_1 hlk
theorem cm_X25_kind_13 (l : Launch) (D : va_G) (t : Nat → ClassId) (a : Nat) (v0 v1 : Int32) : Met l yX25_kind (ws_ yX25_kind cX25_kind 1 (some .int)) ({ frames := 0, cells := 0, slots := 0, locals := 0 }) (zPc [.ref a] (OB D a 13 [.int v0, .int v1]) (KK D t)) (QcRead 4) 0 0 (fun _ => False) := by
  refine zOf (cc := cX25_kind) (maxL := 1) (ret := (some .int)) (by decide) (Nat.le_of_ble_eq_true rfl) (fun pg ev s m below meth cd ls F hP hKK hl hnm => ?_)
  obtain ⟨hx, hb, hml, hown, hts, hr, hlk⟩ := F
  have S : CallFix pg m cd cX25_kind 1 s _ lw_all RX25 := ⟨hx, hb, hml, hown, hts⟩
  have hl : lv_has ls 1 [(0, .ref a)] := hl
  refine lv_iconst (v := 4) hx hb dX25_kind_0 (by decide) ?_
  exact z_iretR hx hb hr rfl (fun q h => by cases h) rfl dX25_kind_1 hlk
theorem cm_X26_kind_14 (l : Launch) (D : va_G) (t : Nat → ClassId) (a : Nat) (v0 v1 : Int32) : Met l yX26_kind (ws_ yX26_kind cX26_kind 1 (some .int)) ({ frames := 0, cells := 0, slots := 0, locals := 0 }) (zPc [.ref a] (OB D a 14 [.int v0, .int v1]) (KK D t)) (QcRead 5) 0 0 (fun _ => False) := by
  refine zOf (cc := cX26_kind) (maxL := 1) (ret := (some .int)) (by decide) (Nat.le_of_ble_eq_true rfl) (fun pg ev s m below meth cd ls F hP hKK hl hnm => ?_)
  obtain ⟨hx, hb, hml, hown, hts, hr, hlk⟩ := F
  have S : CallFix pg m cd cX26_kind 1 s _ lw_all RX26 := ⟨hx, hb, hml, hown, hts⟩
  have hl : lv_has ls 1 [(0, .ref a)] := hl
  refine lv_iconst (v := 5) hx hb dX26_kind_0 (by decide) ?_
  exact z_iretR hx hb hr rfl (fun q h => by cases h) rfl dX26_kind_1 hlk
theorem cm_X21_fades_9 (l : Launch) (D : va_G) (t : Nat → ClassId) (a : Nat) (v0 v1 : Int32) (x : Int32) : Met l yX21_fades (ws_ yX21_fades cX21_fades 2 (some .int)) ({ frames := 0, cells := 0, slots := 0, locals := 0 }) (zPc [.ref a, .int x] (OB D a 9 [.int v0, .int v1]) (KK D t)) (QcRead 2) 0 0 (fun _ => False) := by
  refine zOf (cc := cX21_fades) (maxL := 2) (ret := (some .int)) (by decide) (Nat.le_of_ble_eq_true rfl) (fun pg ev s m below meth cd ls F hP hKK hl hnm => ?_)
  obtain ⟨hx, hb, hml, hown, hts, hr, hlk⟩ := F
  have S : CallFix pg m cd cX21_fades 2 s _ lw_all RX21 := ⟨hx, hb, hml, hown, hts⟩
  have hl : lv_has ls 2 [(0, .ref a), (1, .int x)] := hl
  refine lv_iconst (v := 2) hx hb dX21_fades_0 (by decide) ?_
  exact z_iretR hx hb hr rfl (fun q h => by cases h) rfl dX21_fades_1 hlk
theorem cm_X21_fades_10 (l : Launch) (D : va_G) (t : Nat → ClassId) (a : Nat) (v0 v1 : Int32) (x : Int32) : Met l yX21_fades (ws_ yX21_fades cX21_fades 2 (some .int)) ({ frames := 0, cells := 0, slots := 0, locals := 0 }) (zPc [.ref a, .int x] (OB D a 10 [.int v0, .int v1]) (KK D t)) (QcRead 2) 0 0 (fun _ => False) := by
  refine zOf (cc := cX21_fades) (maxL := 2) (ret := (some .int)) (by decide) (Nat.le_of_ble_eq_true rfl) (fun pg ev s m below meth cd ls F hP hKK hl hnm => ?_)
  obtain ⟨hx, hb, hml, hown, hts, hr, hlk⟩ := F
  have S : CallFix pg m cd cX21_fades 2 s _ lw_all RX21 := ⟨hx, hb, hml, hown, hts⟩
  have hl : lv_has ls 2 [(0, .ref a), (1, .int x)] := hl
  refine lv_iconst (v := 2) hx hb dX21_fades_0 (by decide) ?_
  exact z_iretR hx hb hr rfl (fun q h => by cases h) rfl dX21_fades_1 hlk
theorem cm_X21_fades_11 (l : Launch) (D : va_G) (t : Nat → ClassId) (a : Nat) (v0 v1 : Int32) (x : Int32) : Met l yX21_fades (ws_ yX21_fades cX21_fades 2 (some .int)) ({ frames := 0, cells := 0, slots := 0, locals := 0 }) (zPc [.ref a, .int x] (OB D a 11 [.int v0, .int v1]) (KK D t)) (QcRead 2) 0 0 (fun _ => False) := by
  refine zOf (cc := cX21_fades) (maxL := 2) (ret := (some .int)) (by decide) (Nat.le_of_ble_eq_true rfl) (fun pg ev s m below meth cd ls F hP hKK hl hnm => ?_)
  obtain ⟨hx, hb, hml, hown, hts, hr, hlk⟩ := F
  have S : CallFix pg m cd cX21_fades 2 s _ lw_all RX21 := ⟨hx, hb, hml, hown, hts⟩
  have hl : lv_has ls 2 [(0, .ref a), (1, .int x)] := hl
  refine lv_iconst (v := 2) hx hb dX21_fades_0 (by decide) ?_
  exact z_iretR hx hb hr rfl (fun q h => by cases h) rfl dX21_fades_1 hlk
theorem cm_X21_fades_12 (l : Launch) (D : va_G) (t : Nat → ClassId) (a : Nat) (v0 v1 : Int32) (x : Int32) : Met l yX21_fades (ws_ yX21_fades cX21_fades 2 (some .int)) ({ frames := 0, cells := 0, slots := 0, locals := 0 }) (zPc [.ref a, .int x] (OB D a 12 [.int v0, .int v1]) (KK D t)) (QcRead 2) 0 0 (fun _ => False) := by
  refine zOf (cc := cX21_fades) (maxL := 2) (ret := (some .int)) (by decide) (Nat.le_of_ble_eq_true rfl) (fun pg ev s m below meth cd ls F hP hKK hl hnm => ?_)
  obtain ⟨hx, hb, hml, hown, hts, hr, hlk⟩ := F
  have S : CallFix pg m cd cX21_fades 2 s _ lw_all RX21 := ⟨hx, hb, hml, hown, hts⟩
  have hl : lv_has ls 2 [(0, .ref a), (1, .int x)] := hl
  refine lv_iconst (v := 2) hx hb dX21_fades_0 (by decide) ?_
  exact z_iretR hx hb hr rfl (fun q h => by cases h) rfl dX21_fades_1 hlk
theorem cm_X21_fades_13 (l : Launch) (D : va_G) (t : Nat → ClassId) (a : Nat) (v0 v1 : Int32) (x : Int32) : Met l yX21_fades (ws_ yX21_fades cX21_fades 2 (some .int)) ({ frames := 0, cells := 0, slots := 0, locals := 0 }) (zPc [.ref a, .int x] (OB D a 13 [.int v0, .int v1]) (KK D t)) (QcRead 2) 0 0 (fun _ => False) := by
  refine zOf (cc := cX21_fades) (maxL := 2) (ret := (some .int)) (by decide) (Nat.le_of_ble_eq_true rfl) (fun pg ev s m below meth cd ls F hP hKK hl hnm => ?_)
  obtain ⟨hx, hb, hml, hown, hts, hr, hlk⟩ := F
  have S : CallFix pg m cd cX21_fades 2 s _ lw_all RX21 := ⟨hx, hb, hml, hown, hts⟩
  have hl : lv_has ls 2 [(0, .ref a), (1, .int x)] := hl
  refine lv_iconst (v := 2) hx hb dX21_fades_0 (by decide) ?_
  exact z_iretR hx hb hr rfl (fun q h => by cases h) rfl dX21_fades_1 hlk
theorem cm_X21_fades_14 (l : Launch) (D : va_G) (t : Nat → ClassId) (a : Nat) (v0 v1 : Int32) (x : Int32) : Met l yX21_fades (ws_ yX21_fades cX21_fades 2 (some .int)) ({ frames := 0, cells := 0, slots := 0, locals := 0 }) (zPc [.ref a, .int x] (OB D a 14 [.int v0, .int v1]) (KK D t)) (QcRead 2) 0 0 (fun _ => False) := by
  refine zOf (cc := cX21_fades) (maxL := 2) (ret := (some .int)) (by decide) (Nat.le_of_ble_eq_true rfl) (fun pg ev s m below meth cd ls F hP hKK hl hnm => ?_)
  obtain ⟨hx, hb, hml, hown, hts, hr, hlk⟩ := F
  have S : CallFix pg m cd cX21_fades 2 s _ lw_all RX21 := ⟨hx, hb, hml, hown, hts⟩
  have hl : lv_has ls 2 [(0, .ref a), (1, .int x)] := hl
  refine lv_iconst (v := 2) hx hb dX21_fades_0 (by decide) ?_
  exact z_iretR hx hb hr rfl (fun q h => by cases h) rfl dX21_fades_1 hlk
theorem cm_X22_fades_10 (l : Launch) (D : va_G) (t : Nat → ClassId) (a : Nat) (v0 v1 : Int32) (x : Int32) : Met l yX22_fades (ws_ yX22_fades cX22_fades 2 (some .int)) ({ frames := 1, cells := 0, slots := 0, locals := 21 }) (zPc [.ref a, .int x] (OB D a 10 [.int v0, .int v1]) (KK D t)) (QcRead 1) 0 0 (fun _ => False) := by
  refine zOf (cc := cX22_fades) (maxL := 2) (ret := (some .int)) (by decide) (Nat.le_of_ble_eq_true rfl) (fun pg ev s m below meth cd ls F hP hKK hl hnm => ?_)
  obtain ⟨hx, hb, hml, hown, hts, hr, hlk⟩ := F
  have S : CallFix pg m cd cX22_fades 2 s _ lw_all RX22 := ⟨hx, hb, hml, hown, hts⟩
  have hl : lv_has ls 2 [(0, .ref a), (1, .int x)] := hl
  refine lv_aload_n hx hb dX22_fades_0 rfl (lv_at hl 0 rfl) ?_
  refine lv_iload_n hx hb dX22_fades_1 rfl (lv_at hl 1 rfl) ?_
  refine c_callU (C := RX22) (As := [.int x]) (rest := []) S hKK hP hP rfl (cm_X21_fades_10 l D t a v0 v1 x) (va_cwSU 1 hts (lw_SU q939 q1588 q701 q940 q121 q941) rfl rfl rfl ⟨by decide, by decide +kernel⟩ ⟨Nat.le_of_ble_eq_true rfl, Nat.le_of_ble_eq_true rfl⟩) rfl hl.1 rfl (Nat.le_of_ble_eq_true rfl) dX22_fades_2 ⟨Nat.le_of_ble_eq_true rfl, Nat.le_of_ble_eq_true rfl⟩ ?_
  refine lv_iconst (v := 1) hx hb dX22_fades_5 (by decide) ?_
  refine lv_isub hx hb dX22_fades_6 ?_
  exact z_iretR hx hb hr rfl (fun q h => by cases h) rfl dX22_fades_7 hlk
theorem cm_X22_fades_12 (l : Launch) (D : va_G) (t : Nat → ClassId) (a : Nat) (v0 v1 : Int32) (x : Int32) : Met l yX22_fades (ws_ yX22_fades cX22_fades 2 (some .int)) ({ frames := 1, cells := 0, slots := 0, locals := 21 }) (zPc [.ref a, .int x] (OB D a 12 [.int v0, .int v1]) (KK D t)) (QcRead 1) 0 0 (fun _ => False) := by
  refine zOf (cc := cX22_fades) (maxL := 2) (ret := (some .int)) (by decide) (Nat.le_of_ble_eq_true rfl) (fun pg ev s m below meth cd ls F hP hKK hl hnm => ?_)
  obtain ⟨hx, hb, hml, hown, hts, hr, hlk⟩ := F
  have S : CallFix pg m cd cX22_fades 2 s _ lw_all RX22 := ⟨hx, hb, hml, hown, hts⟩
  have hl : lv_has ls 2 [(0, .ref a), (1, .int x)] := hl
  refine lv_aload_n hx hb dX22_fades_0 rfl (lv_at hl 0 rfl) ?_
  refine lv_iload_n hx hb dX22_fades_1 rfl (lv_at hl 1 rfl) ?_
  refine c_callU (C := RX24) (As := [.int x]) (rest := []) S hKK hP hP rfl (cm_X21_fades_12 l D t a v0 v1 x) (va_cwSU 1 hts (lw_SU q939 q1588 q701 q940 q121 q941) rfl rfl rfl ⟨by decide, by decide +kernel⟩ ⟨Nat.le_of_ble_eq_true rfl, Nat.le_of_ble_eq_true rfl⟩) rfl hl.1 rfl (Nat.le_of_ble_eq_true rfl) dX22_fades_2 ⟨Nat.le_of_ble_eq_true rfl, Nat.le_of_ble_eq_true rfl⟩ ?_
  refine lv_iconst (v := 1) hx hb dX22_fades_5 (by decide) ?_
  refine lv_isub hx hb dX22_fades_6 ?_
  exact z_iretR hx hb hr rfl (fun q h => by cases h) rfl dX22_fades_7 hlk
theorem cm_X22_fades_14 (l : Launch) (D : va_G) (t : Nat → ClassId) (a : Nat) (v0 v1 : Int32) (x : Int32) : Met l yX22_fades (ws_ yX22_fades cX22_fades 2 (some .int)) ({ frames := 1, cells := 0, slots := 0, locals := 21 }) (zPc [.ref a, .int x] (OB D a 14 [.int v0, .int v1]) (KK D t)) (QcRead 1) 0 0 (fun _ => False) := by
  refine zOf (cc := cX22_fades) (maxL := 2) (ret := (some .int)) (by decide) (Nat.le_of_ble_eq_true rfl) (fun pg ev s m below meth cd ls F hP hKK hl hnm => ?_)
  obtain ⟨hx, hb, hml, hown, hts, hr, hlk⟩ := F
  have S : CallFix pg m cd cX22_fades 2 s _ lw_all RX22 := ⟨hx, hb, hml, hown, hts⟩
  have hl : lv_has ls 2 [(0, .ref a), (1, .int x)] := hl
  refine lv_aload_n hx hb dX22_fades_0 rfl (lv_at hl 0 rfl) ?_
  refine lv_iload_n hx hb dX22_fades_1 rfl (lv_at hl 1 rfl) ?_
  refine c_callU (C := RX26) (As := [.int x]) (rest := []) S hKK hP hP rfl (cm_X21_fades_14 l D t a v0 v1 x) (va_cwSU 1 hts (lw_SU q939 q1588 q701 q940 q121 q941) rfl rfl rfl ⟨by decide, by decide +kernel⟩ ⟨Nat.le_of_ble_eq_true rfl, Nat.le_of_ble_eq_true rfl⟩) rfl hl.1 rfl (Nat.le_of_ble_eq_true rfl) dX22_fades_2 ⟨Nat.le_of_ble_eq_true rfl, Nat.le_of_ble_eq_true rfl⟩ ?_
  refine lv_iconst (v := 1) hx hb dX22_fades_5 (by decide) ?_
  refine lv_isub hx hb dX22_fades_6 ?_
  exact z_iretR hx hb hr rfl (fun q h => by cases h) rfl dX22_fades_7 hlk
theorem cm_X23_fades_11 (l : Launch) (D : va_G) (t : Nat → ClassId) (a : Nat) (v0 v1 : Int32) (x : Int32) : Met l yX23_fades (ws_ yX23_fades cX23_fades 2 (some .int)) ({ frames := 1, cells := 0, slots := 0, locals := 21 }) (zPc [.ref a, .int x] (OB D a 11 [.int v0, .int v1]) (KK D t)) (QcRead 3) 0 0 (fun _ => False) := by
  refine zOf (cc := cX23_fades) (maxL := 2) (ret := (some .int)) (by decide) (Nat.le_of_ble_eq_true rfl) (fun pg ev s m below meth cd ls F hP hKK hl hnm => ?_)
  obtain ⟨hx, hb, hml, hown, hts, hr, hlk⟩ := F
  have S : CallFix pg m cd cX23_fades 2 s _ lw_all RX23 := ⟨hx, hb, hml, hown, hts⟩
  have hl : lv_has ls 2 [(0, .ref a), (1, .int x)] := hl
  refine lv_aload_n hx hb dX23_fades_0 rfl (lv_at hl 0 rfl) ?_
  refine lv_iload_n hx hb dX23_fades_1 rfl (lv_at hl 1 rfl) ?_
  refine c_callU (C := RX23) (As := [.int x]) (rest := []) S hKK hP hP rfl (cm_X21_fades_11 l D t a v0 v1 x) (va_cwSU 1 hts (lw_SU q952 q1588 q650 q940 q121 q941) rfl rfl rfl ⟨by decide, by decide +kernel⟩ ⟨Nat.le_of_ble_eq_true rfl, Nat.le_of_ble_eq_true rfl⟩) rfl hl.1 rfl (Nat.le_of_ble_eq_true rfl) dX23_fades_2 ⟨Nat.le_of_ble_eq_true rfl, Nat.le_of_ble_eq_true rfl⟩ ?_
  refine lv_iconst (v := 1) hx hb dX23_fades_5 (by decide) ?_
  refine lv_iadd hx hb dX23_fades_6 ?_
  exact z_iretR hx hb hr rfl (fun q h => by cases h) rfl dX23_fades_7 hlk
theorem cm_X23_fades_13 (l : Launch) (D : va_G) (t : Nat → ClassId) (a : Nat) (v0 v1 : Int32) (x : Int32) : Met l yX23_fades (ws_ yX23_fades cX23_fades 2 (some .int)) ({ frames := 1, cells := 0, slots := 0, locals := 21 }) (zPc [.ref a, .int x] (OB D a 13 [.int v0, .int v1]) (KK D t)) (QcRead 3) 0 0 (fun _ => False) := by
  refine zOf (cc := cX23_fades) (maxL := 2) (ret := (some .int)) (by decide) (Nat.le_of_ble_eq_true rfl) (fun pg ev s m below meth cd ls F hP hKK hl hnm => ?_)
  obtain ⟨hx, hb, hml, hown, hts, hr, hlk⟩ := F
  have S : CallFix pg m cd cX23_fades 2 s _ lw_all RX23 := ⟨hx, hb, hml, hown, hts⟩
  have hl : lv_has ls 2 [(0, .ref a), (1, .int x)] := hl
  refine lv_aload_n hx hb dX23_fades_0 rfl (lv_at hl 0 rfl) ?_
  refine lv_iload_n hx hb dX23_fades_1 rfl (lv_at hl 1 rfl) ?_
  refine c_callU (C := RX25) (As := [.int x]) (rest := []) S hKK hP hP rfl (cm_X21_fades_13 l D t a v0 v1 x) (va_cwSU 1 hts (lw_SU q952 q1588 q650 q940 q121 q941) rfl rfl rfl ⟨by decide, by decide +kernel⟩ ⟨Nat.le_of_ble_eq_true rfl, Nat.le_of_ble_eq_true rfl⟩) rfl hl.1 rfl (Nat.le_of_ble_eq_true rfl) dX23_fades_2 ⟨Nat.le_of_ble_eq_true rfl, Nat.le_of_ble_eq_true rfl⟩ ?_
  refine lv_iconst (v := 1) hx hb dX23_fades_5 (by decide) ?_
  refine lv_iadd hx hb dX23_fades_6 ?_
  exact z_iretR hx hb hr rfl (fun q h => by cases h) rfl dX23_fades_7 hlk
theorem cm_X24_fades_12 (l : Launch) (D : va_G) (t : Nat → ClassId) (a : Nat) (v0 v1 : Int32) (x : Int32) : Met l yX24_fades (ws_ yX24_fades cX24_fades 2 (some .int)) ({ frames := 2, cells := 0, slots := 0, locals := 42 }) (zPc [.ref a, .int x] (OB D a 12 [.int v0, .int v1]) (KK D t)) (QcRead (if x - x / 6 * 6 = 0 then -4 else 1)) 0 0 (fun _ => False) := by
  refine zOf (cc := cX24_fades) (maxL := 2) (ret := (some .int)) (by decide) (Nat.le_of_ble_eq_true rfl) (fun pg ev s m below meth cd ls F hP hKK hl hnm => ?_)
  obtain ⟨hx, hb, hml, hown, hts, hr, hlk⟩ := F
  have S : CallFix pg m cd cX24_fades 2 s _ lw_all RX24 := ⟨hx, hb, hml, hown, hts⟩
  have hl : lv_has ls 2 [(0, .ref a), (1, .int x)] := hl
  refine lv_iload_n hx hb dX24_fades_0 rfl (lv_at hl 1 rfl) ?_
  refine lv_bipush (v := 6) hx hb dX24_fades_1 (by decide) ?_
  refine lv_irem hx hb dX24_fades_3 (by decide) ?_
  refine lv_if_ne (tgt := 12) hx hb dX24_fades_4 (by decide) (fun c4 => ?_) (fun c4 => ?_)
  · refine lv_aload_n hx hb dX24_fades_12 rfl (lv_at hl 0 rfl) ?_
    refine lv_iload_n hx hb dX24_fades_13 rfl (lv_at hl 1 rfl) ?_
    refine c_callU (C := RX24) (As := [.int x]) (rest := []) S hKK hP hP rfl (cm_X22_fades_12 l D t a v0 v1 x) (va_cwSU 1 hts (lw_SU q936 q1587 q718 q937 q122 q938) rfl rfl rfl ⟨by decide, by decide +kernel⟩ ⟨Nat.le_of_ble_eq_true rfl, Nat.le_of_ble_eq_true rfl⟩) rfl hl.1 rfl (Nat.le_of_ble_eq_true rfl) dX24_fades_14 ⟨Nat.le_of_ble_eq_true rfl, Nat.le_of_ble_eq_true rfl⟩ ?_
    exact z_iretR hx hb hr (by first | (rw [if_pos c4]; done) | (rw [if_neg c4]; done)) (fun q h => by cases h) rfl dX24_fades_17 hlk
  · refine lv_bipush (v := (-4)) hx hb dX24_fades_7 (by decide) ?_
    refine lv_goto (tgt := 17) hx hb dX24_fades_9 (by decide) ?_
    exact z_iretR hx hb hr (by first | (rw [if_pos c4]; done) | (rw [if_neg c4]; done)) (fun q h => by cases h) rfl dX24_fades_17 hlk
theorem cm_X25_fades_13 (l : Launch) (D : va_G) (t : Nat → ClassId) (a : Nat) (v0 v1 : Int32) (x : Int32) : Met l yX25_fades (ws_ yX25_fades cX25_fades 2 (some .int)) ({ frames := 2, cells := 0, slots := 0, locals := 42 }) (zPc [.ref a, .int x] (OB D a 13 [.int v0, .int v1]) (KK D t)) (QcRead 6) 0 0 (fun _ => False) := by
  refine zOf (cc := cX25_fades) (maxL := 2) (ret := (some .int)) (by decide) (Nat.le_of_ble_eq_true rfl) (fun pg ev s m below meth cd ls F hP hKK hl hnm => ?_)
  obtain ⟨hx, hb, hml, hown, hts, hr, hlk⟩ := F
  have S : CallFix pg m cd cX25_fades 2 s _ lw_all RX25 := ⟨hx, hb, hml, hown, hts⟩
  have hl : lv_has ls 2 [(0, .ref a), (1, .int x)] := hl
  refine lv_iconst (v := 2) hx hb dX25_fades_0 (by decide) ?_
  refine lv_aload_n hx hb dX25_fades_1 rfl (lv_at hl 0 rfl) ?_
  refine lv_iload_n hx hb dX25_fades_2 rfl (lv_at hl 1 rfl) ?_
  refine c_callU (C := RX25) (As := [.int x]) (rest := [.int 2]) S hKK hP hP rfl (cm_X23_fades_13 l D t a v0 v1 x) (va_cwSU 1 hts (lw_SU q949 q1589 q646 q950 q123 q951) rfl rfl rfl ⟨by decide, by decide +kernel⟩ ⟨Nat.le_of_ble_eq_true rfl, Nat.le_of_ble_eq_true rfl⟩) rfl hl.1 rfl (Nat.le_of_ble_eq_true rfl) dX25_fades_3 ⟨Nat.le_of_ble_eq_true rfl, Nat.le_of_ble_eq_true rfl⟩ ?_
  refine lv_imul hx hb dX25_fades_6 ?_
  exact z_iretR hx hb hr rfl (fun q h => by cases h) rfl dX25_fades_7 hlk
theorem cm_X26_fades_14 (l : Launch) (D : va_G) (t : Nat → ClassId) (a : Nat) (v0 v1 : Int32) (x : Int32) : Met l yX26_fades (ws_ yX26_fades cX26_fades 2 (some .int)) ({ frames := 2, cells := 0, slots := 0, locals := 42 }) (zPc [.ref a, .int x] (OB D a 14 [.int v0, .int v1]) (KK D t)) (QcRead (if x - x / 2 * 2 = 0 then 1 else 0)) 0 0 (fun _ => False) := by
  refine zOf (cc := cX26_fades) (maxL := 2) (ret := (some .int)) (by decide) (Nat.le_of_ble_eq_true rfl) (fun pg ev s m below meth cd ls F hP hKK hl hnm => ?_)
  obtain ⟨hx, hb, hml, hown, hts, hr, hlk⟩ := F
  have S : CallFix pg m cd cX26_fades 2 s _ lw_all RX26 := ⟨hx, hb, hml, hown, hts⟩
  have hl : lv_has ls 2 [(0, .ref a), (1, .int x)] := hl
  refine lv_iload_n hx hb dX26_fades_0 rfl (lv_at hl 1 rfl) ?_
  refine lv_iconst (v := 2) hx hb dX26_fades_1 (by decide) ?_
  refine lv_irem hx hb dX26_fades_2 (by decide) ?_
  refine lv_if_ne (tgt := 14) hx hb dX26_fades_3 (by decide) (fun c3 => ?_) (fun c3 => ?_)
  · refine lv_iconst (v := 0) hx hb dX26_fades_14 (by decide) ?_
    exact z_iretR hx hb hr (by first | (rw [if_pos c3]; done) | (rw [if_neg c3]; done)) (fun q h => by cases h) rfl dX26_fades_15 hlk
  · refine lv_aload_n hx hb dX26_fades_6 rfl (lv_at hl 0 rfl) ?_
    refine lv_iload_n hx hb dX26_fades_7 rfl (lv_at hl 1 rfl) ?_
    refine c_callU (C := RX26) (As := [.int x]) (rest := []) S hKK hP hP rfl (cm_X22_fades_14 l D t a v0 v1 x) (va_cwSU 1 hts (lw_SU q945 q1587 q735 q937 q122 q938) rfl rfl rfl ⟨by decide, by decide +kernel⟩ ⟨Nat.le_of_ble_eq_true rfl, Nat.le_of_ble_eq_true rfl⟩) rfl hl.1 rfl (Nat.le_of_ble_eq_true rfl) dX26_fades_8 ⟨Nat.le_of_ble_eq_true rfl, Nat.le_of_ble_eq_true rfl⟩ ?_
    refine lv_goto (tgt := 15) hx hb dX26_fades_11 (by decide) ?_
    exact z_iretR hx hb hr (by first | (rw [if_pos c3]; done) | (rw [if_neg c3]; done)) (fun q h => by cases h) rfl dX26_fades_15 hlk
theorem cm_X2_kind_3 (l : Launch) (D : va_G) (t : Nat → ClassId) (a : Nat) : Met l yX2_kind (ws_ yX2_kind cX2_kind 1 (some .int)) ({ frames := 0, cells := 0, slots := 0, locals := 0 }) (zPc [.ref a] (OB D a 3 []) (KK D t)) (QcRead 0) 0 0 (fun _ => False) := by
  refine zOf (cc := cX2_kind) (maxL := 1) (ret := (some .int)) (by decide) (Nat.le_of_ble_eq_true rfl) (fun pg ev s m below meth cd ls F hP hKK hl hnm => ?_)
  obtain ⟨hx, hb, hml, hown, hts, hr, hlk⟩ := F
  have S : CallFix pg m cd cX2_kind 1 s _ lw_all RX2 := ⟨hx, hb, hml, hown, hts⟩
  have hl : lv_has ls 1 [(0, .ref a)] := hl
  refine lv_iconst (v := 0) hx hb dX2_kind_0 (by decide) ?_
  exact z_iretR hx hb hr rfl (fun q h => by cases h) rfl dX2_kind_1 hlk
theorem cm_X3_kind_4 (l : Launch) (D : va_G) (t : Nat → ClassId) (a : Nat) : Met l yX3_kind (ws_ yX3_kind cX3_kind 1 (some .int)) ({ frames := 0, cells := 0, slots := 0, locals := 0 }) (zPc [.ref a] (OB D a 4 []) (KK D t)) (QcRead 1) 0 0 (fun _ => False) := by
  refine zOf (cc := cX3_kind) (maxL := 1) (ret := (some .int)) (by decide) (Nat.le_of_ble_eq_true rfl) (fun pg ev s m below meth cd ls F hP hKK hl hnm => ?_)
  obtain ⟨hx, hb, hml, hown, hts, hr, hlk⟩ := F
  have S : CallFix pg m cd cX3_kind 1 s _ lw_all RX3 := ⟨hx, hb, hml, hown, hts⟩
  have hl : lv_has ls 1 [(0, .ref a)] := hl
  refine lv_iconst (v := 1) hx hb dX3_kind_0 (by decide) ?_
  exact z_iretR hx hb hr rfl (fun q h => by cases h) rfl dX3_kind_1 hlk
theorem cm_X4_kind_5 (l : Launch) (D : va_G) (t : Nat → ClassId) (a : Nat) : Met l yX4_kind (ws_ yX4_kind cX4_kind 1 (some .int)) ({ frames := 0, cells := 0, slots := 0, locals := 0 }) (zPc [.ref a] (OB D a 5 []) (KK D t)) (QcRead 2) 0 0 (fun _ => False) := by
  refine zOf (cc := cX4_kind) (maxL := 1) (ret := (some .int)) (by decide) (Nat.le_of_ble_eq_true rfl) (fun pg ev s m below meth cd ls F hP hKK hl hnm => ?_)
  obtain ⟨hx, hb, hml, hown, hts, hr, hlk⟩ := F
  have S : CallFix pg m cd cX4_kind 1 s _ lw_all RX4 := ⟨hx, hb, hml, hown, hts⟩
  have hl : lv_has ls 1 [(0, .ref a)] := hl
  refine lv_iconst (v := 2) hx hb dX4_kind_0 (by decide) ?_
  exact z_iretR hx hb hr rfl (fun q h => by cases h) rfl dX4_kind_1 hlk
theorem cm_X5_kind_6 (l : Launch) (D : va_G) (t : Nat → ClassId) (a : Nat) : Met l yX5_kind (ws_ yX5_kind cX5_kind 1 (some .int)) ({ frames := 0, cells := 0, slots := 0, locals := 0 }) (zPc [.ref a] (OB D a 6 []) (KK D t)) (QcRead 3) 0 0 (fun _ => False) := by
  refine zOf (cc := cX5_kind) (maxL := 1) (ret := (some .int)) (by decide) (Nat.le_of_ble_eq_true rfl) (fun pg ev s m below meth cd ls F hP hKK hl hnm => ?_)
  obtain ⟨hx, hb, hml, hown, hts, hr, hlk⟩ := F
  have S : CallFix pg m cd cX5_kind 1 s _ lw_all RX5 := ⟨hx, hb, hml, hown, hts⟩
  have hl : lv_has ls 1 [(0, .ref a)] := hl
  refine lv_iconst (v := 3) hx hb dX5_kind_0 (by decide) ?_
  exact z_iretR hx hb hr rfl (fun q h => by cases h) rfl dX5_kind_1 hlk
theorem cm_X6_kind_7 (l : Launch) (D : va_G) (t : Nat → ClassId) (a : Nat) : Met l yX6_kind (ws_ yX6_kind cX6_kind 1 (some .int)) ({ frames := 0, cells := 0, slots := 0, locals := 0 }) (zPc [.ref a] (OB D a 7 []) (KK D t)) (QcRead 4) 0 0 (fun _ => False) := by
  refine zOf (cc := cX6_kind) (maxL := 1) (ret := (some .int)) (by decide) (Nat.le_of_ble_eq_true rfl) (fun pg ev s m below meth cd ls F hP hKK hl hnm => ?_)
  obtain ⟨hx, hb, hml, hown, hts, hr, hlk⟩ := F
  have S : CallFix pg m cd cX6_kind 1 s _ lw_all RX6 := ⟨hx, hb, hml, hown, hts⟩
  have hl : lv_has ls 1 [(0, .ref a)] := hl
  refine lv_iconst (v := 4) hx hb dX6_kind_0 (by decide) ?_
  exact z_iretR hx hb hr rfl (fun q h => by cases h) rfl dX6_kind_1 hlk
theorem cm_X7_kind_8 (l : Launch) (D : va_G) (t : Nat → ClassId) (a : Nat) : Met l yX7_kind (ws_ yX7_kind cX7_kind 1 (some .int)) ({ frames := 0, cells := 0, slots := 0, locals := 0 }) (zPc [.ref a] (OB D a 8 []) (KK D t)) (QcRead 5) 0 0 (fun _ => False) := by
  refine zOf (cc := cX7_kind) (maxL := 1) (ret := (some .int)) (by decide) (Nat.le_of_ble_eq_true rfl) (fun pg ev s m below meth cd ls F hP hKK hl hnm => ?_)
  obtain ⟨hx, hb, hml, hown, hts, hr, hlk⟩ := F
  have S : CallFix pg m cd cX7_kind 1 s _ lw_all RX7 := ⟨hx, hb, hml, hown, hts⟩
  have hl : lv_has ls 1 [(0, .ref a)] := hl
  refine lv_iconst (v := 5) hx hb dX7_kind_0 (by decide) ?_
  exact z_iretR hx hb hr rfl (fun q h => by cases h) rfl dX7_kind_1 hlk
theorem cm_X2_bar_3 (l : Launch) (D : va_G) (t : Nat → ClassId) (a : Nat) (x : Int32) : Met l yX2_bar (ws_ yX2_bar cX2_bar 2 (some .int)) ({ frames := 0, cells := 0, slots := 0, locals := 0 }) (zPc [.ref a, .int x] (OB D a 3 []) (KK D t)) (QcRead x) 0 0 (fun _ => False) := by
  refine zOf (cc := cX2_bar) (maxL := 2) (ret := (some .int)) (by decide) (Nat.le_of_ble_eq_true rfl) (fun pg ev s m below meth cd ls F hP hKK hl hnm => ?_)
  obtain ⟨hx, hb, hml, hown, hts, hr, hlk⟩ := F
  have S : CallFix pg m cd cX2_bar 2 s _ lw_all RX2 := ⟨hx, hb, hml, hown, hts⟩
  have hl : lv_has ls 2 [(0, .ref a), (1, .int x)] := hl
  refine lv_iload_n hx hb dX2_bar_0 rfl (lv_at hl 1 rfl) ?_
  exact z_iretR hx hb hr rfl (fun q h => by cases h) rfl dX2_bar_1 hlk
theorem cm_X2_bar_4 (l : Launch) (D : va_G) (t : Nat → ClassId) (a : Nat) (x : Int32) : Met l yX2_bar (ws_ yX2_bar cX2_bar 2 (some .int)) ({ frames := 0, cells := 0, slots := 0, locals := 0 }) (zPc [.ref a, .int x] (OB D a 4 []) (KK D t)) (QcRead x) 0 0 (fun _ => False) := by
  refine zOf (cc := cX2_bar) (maxL := 2) (ret := (some .int)) (by decide) (Nat.le_of_ble_eq_true rfl) (fun pg ev s m below meth cd ls F hP hKK hl hnm => ?_)
  obtain ⟨hx, hb, hml, hown, hts, hr, hlk⟩ := F
  have S : CallFix pg m cd cX2_bar 2 s _ lw_all RX2 := ⟨hx, hb, hml, hown, hts⟩
  have hl : lv_has ls 2 [(0, .ref a), (1, .int x)] := hl
  refine lv_iload_n hx hb dX2_bar_0 rfl (lv_at hl 1 rfl) ?_
  exact z_iretR hx hb hr rfl (fun q h => by cases h) rfl dX2_bar_1 hlk
theorem cm_X2_bar_6 (l : Launch) (D : va_G) (t : Nat → ClassId) (a : Nat) (x : Int32) : Met l yX2_bar (ws_ yX2_bar cX2_bar 2 (some .int)) ({ frames := 0, cells := 0, slots := 0, locals := 0 }) (zPc [.ref a, .int x] (OB D a 6 []) (KK D t)) (QcRead x) 0 0 (fun _ => False) := by
  refine zOf (cc := cX2_bar) (maxL := 2) (ret := (some .int)) (by decide) (Nat.le_of_ble_eq_true rfl) (fun pg ev s m below meth cd ls F hP hKK hl hnm => ?_)
  obtain ⟨hx, hb, hml, hown, hts, hr, hlk⟩ := F
  have S : CallFix pg m cd cX2_bar 2 s _ lw_all RX2 := ⟨hx, hb, hml, hown, hts⟩
  have hl : lv_has ls 2 [(0, .ref a), (1, .int x)] := hl
  refine lv_iload_n hx hb dX2_bar_0 rfl (lv_at hl 1 rfl) ?_
  exact z_iretR hx hb hr rfl (fun q h => by cases h) rfl dX2_bar_1 hlk
theorem cm_X2_bar_7 (l : Launch) (D : va_G) (t : Nat → ClassId) (a : Nat) (x : Int32) : Met l yX2_bar (ws_ yX2_bar cX2_bar 2 (some .int)) ({ frames := 0, cells := 0, slots := 0, locals := 0 }) (zPc [.ref a, .int x] (OB D a 7 []) (KK D t)) (QcRead x) 0 0 (fun _ => False) := by
  refine zOf (cc := cX2_bar) (maxL := 2) (ret := (some .int)) (by decide) (Nat.le_of_ble_eq_true rfl) (fun pg ev s m below meth cd ls F hP hKK hl hnm => ?_)
  obtain ⟨hx, hb, hml, hown, hts, hr, hlk⟩ := F
  have S : CallFix pg m cd cX2_bar 2 s _ lw_all RX2 := ⟨hx, hb, hml, hown, hts⟩
  have hl : lv_has ls 2 [(0, .ref a), (1, .int x)] := hl
  refine lv_iload_n hx hb dX2_bar_0 rfl (lv_at hl 1 rfl) ?_
  exact z_iretR hx hb hr rfl (fun q h => by cases h) rfl dX2_bar_1 hlk
theorem cm_X4_bar_5 (l : Launch) (D : va_G) (t : Nat → ClassId) (a : Nat) (x : Int32) : Met l yX4_bar (ws_ yX4_bar cX4_bar 2 (some .int)) ({ frames := 0, cells := 0, slots := 0, locals := 0 }) (zPc [.ref a, .int x] (OB D a 5 []) (KK D t)) (QcRead 99) 0 0 (fun _ => False) := by
  refine zOf (cc := cX4_bar) (maxL := 2) (ret := (some .int)) (by decide) (Nat.le_of_ble_eq_true rfl) (fun pg ev s m below meth cd ls F hP hKK hl hnm => ?_)
  obtain ⟨hx, hb, hml, hown, hts, hr, hlk⟩ := F
  have S : CallFix pg m cd cX4_bar 2 s _ lw_all RX4 := ⟨hx, hb, hml, hown, hts⟩
  have hl : lv_has ls 2 [(0, .ref a), (1, .int x)] := hl
  refine lv_bipush (v := 99) hx hb dX4_bar_0 (by decide) ?_
  exact z_iretR hx hb hr rfl (fun q h => by cases h) rfl dX4_bar_2 hlk
theorem cm_X5_bar_6 (l : Launch) (D : va_G) (t : Nat → ClassId) (a : Nat) (x : Int32) : Met l yX5_bar (ws_ yX5_bar cX5_bar 2 (some .int)) ({ frames := 1, cells := 0, slots := 0, locals := 21 }) (zPc [.ref a, .int x] (OB D a 6 []) (KK D t)) (QcRead (x / 2)) 0 0 (fun _ => False) := by
  refine zOf (cc := cX5_bar) (maxL := 2) (ret := (some .int)) (by decide) (Nat.le_of_ble_eq_true rfl) (fun pg ev s m below meth cd ls F hP hKK hl hnm => ?_)
  obtain ⟨hx, hb, hml, hown, hts, hr, hlk⟩ := F
  have S : CallFix pg m cd cX5_bar 2 s _ lw_all RX5 := ⟨hx, hb, hml, hown, hts⟩
  have hl : lv_has ls 2 [(0, .ref a), (1, .int x)] := hl
  refine lv_aload_n hx hb dX5_bar_0 rfl (lv_at hl 0 rfl) ?_
  refine lv_iload_n hx hb dX5_bar_1 rfl (lv_at hl 1 rfl) ?_
  refine c_callU (C := RX5) (As := [.int x]) (rest := []) S hKK hP hP rfl (cm_X2_bar_6 l D t a x) (va_cwSU 1 hts (lw_SU q820 q1584 q167 q821 q97 q822) rfl rfl rfl ⟨by decide, by decide +kernel⟩ ⟨Nat.le_of_ble_eq_true rfl, Nat.le_of_ble_eq_true rfl⟩) rfl hl.1 rfl (Nat.le_of_ble_eq_true rfl) dX5_bar_2 ⟨Nat.le_of_ble_eq_true rfl, Nat.le_of_ble_eq_true rfl⟩ ?_
  refine lv_iconst (v := 2) hx hb dX5_bar_5 (by decide) ?_
  refine lv_idiv hx hb dX5_bar_6 (by decide) ?_
  exact z_iretR hx hb hr rfl (fun q h => by cases h) rfl dX5_bar_7 hlk
theorem cm_X5_bar_7 (l : Launch) (D : va_G) (t : Nat → ClassId) (a : Nat) (x : Int32) : Met l yX5_bar (ws_ yX5_bar cX5_bar 2 (some .int)) ({ frames := 1, cells := 0, slots := 0, locals := 21 }) (zPc [.ref a, .int x] (OB D a 7 []) (KK D t)) (QcRead (x / 2)) 0 0 (fun _ => False) := by
  refine zOf (cc := cX5_bar) (maxL := 2) (ret := (some .int)) (by decide) (Nat.le_of_ble_eq_true rfl) (fun pg ev s m below meth cd ls F hP hKK hl hnm => ?_)
  obtain ⟨hx, hb, hml, hown, hts, hr, hlk⟩ := F
  have S : CallFix pg m cd cX5_bar 2 s _ lw_all RX5 := ⟨hx, hb, hml, hown, hts⟩
  have hl : lv_has ls 2 [(0, .ref a), (1, .int x)] := hl
  refine lv_aload_n hx hb dX5_bar_0 rfl (lv_at hl 0 rfl) ?_
  refine lv_iload_n hx hb dX5_bar_1 rfl (lv_at hl 1 rfl) ?_
  refine c_callU (C := RX6) (As := [.int x]) (rest := []) S hKK hP hP rfl (cm_X2_bar_7 l D t a x) (va_cwSU 1 hts (lw_SU q820 q1584 q167 q821 q97 q822) rfl rfl rfl ⟨by decide, by decide +kernel⟩ ⟨Nat.le_of_ble_eq_true rfl, Nat.le_of_ble_eq_true rfl⟩) rfl hl.1 rfl (Nat.le_of_ble_eq_true rfl) dX5_bar_2 ⟨Nat.le_of_ble_eq_true rfl, Nat.le_of_ble_eq_true rfl⟩ ?_
  refine lv_iconst (v := 2) hx hb dX5_bar_5 (by decide) ?_
  refine lv_idiv hx hb dX5_bar_6 (by decide) ?_
  exact z_iretR hx hb hr rfl (fun q h => by cases h) rfl dX5_bar_7 hlk
theorem cm_X6_bar_7 (l : Launch) (D : va_G) (t : Nat → ClassId) (a : Nat) (x : Int32) : Met l yX6_bar (ws_ yX6_bar cX6_bar 2 (some .int)) ({ frames := 2, cells := 0, slots := 0, locals := 42 }) (zPc [.ref a, .int x] (OB D a 7 []) (KK D t)) (QcRead ((2 * x) / 2 + 3)) 0 0 (fun _ => False) := by
  refine zOf (cc := cX6_bar) (maxL := 2) (ret := (some .int)) (by decide) (Nat.le_of_ble_eq_true rfl) (fun pg ev s m below meth cd ls F hP hKK hl hnm => ?_)
  obtain ⟨hx, hb, hml, hown, hts, hr, hlk⟩ := F
  have S : CallFix pg m cd cX6_bar 2 s _ lw_all RX6 := ⟨hx, hb, hml, hown, hts⟩
  have hl : lv_has ls 2 [(0, .ref a), (1, .int x)] := hl
  refine lv_aload_n hx hb dX6_bar_0 rfl (lv_at hl 0 rfl) ?_
  refine lv_iconst (v := 2) hx hb dX6_bar_1 (by decide) ?_
  refine lv_iload_n hx hb dX6_bar_2 rfl (lv_at hl 1 rfl) ?_
  refine lv_imul hx hb dX6_bar_3 ?_
  refine c_callU (C := RX6) (As := [.int (2 * x)]) (rest := []) S hKK hP hP rfl (cm_X5_bar_7 l D t a (2 * x)) (va_cwSU 1 hts (lw_SU q817 q1583 q174 q818 q100 q819) rfl rfl rfl ⟨by decide, by decide +kernel⟩ ⟨Nat.le_of_ble_eq_true rfl, Nat.le_of_ble_eq_true rfl⟩) rfl hl.1 rfl (Nat.le_of_ble_eq_true rfl) dX6_bar_4 ⟨Nat.le_of_ble_eq_true rfl, Nat.le_of_ble_eq_true rfl⟩ ?_
  refine lv_iconst (v := 3) hx hb dX6_bar_7 (by decide) ?_
  refine lv_iadd hx hb dX6_bar_8 ?_
  exact z_iretR hx hb hr rfl (fun q h => by cases h) rfl dX6_bar_9 hlk
theorem cm_X7_bar_8 (l : Launch) (D : va_G) (t : Nat → ClassId) (a : Nat) (x : Int32) : Met l yX7_bar (ws_ yX7_bar cX7_bar 2 (some .int)) ({ frames := 0, cells := 0, slots := 0, locals := 0 }) (zPc [.ref a, .int x] (OB D a 8 []) (KK D t)) (QcRead 0) 0 0 (fun _ => False) := by
  refine zOf (cc := cX7_bar) (maxL := 2) (ret := (some .int)) (by decide) (Nat.le_of_ble_eq_true rfl) (fun pg ev s m below meth cd ls F hP hKK hl hnm => ?_)
  obtain ⟨hx, hb, hml, hown, hts, hr, hlk⟩ := F
  have S : CallFix pg m cd cX7_bar 2 s _ lw_all RX7 := ⟨hx, hb, hml, hown, hts⟩
  have hl : lv_has ls 2 [(0, .ref a), (1, .int x)] := hl
  refine lv_iconst (v := 0) hx hb dX7_bar_0 (by decide) ?_
  exact z_iretR hx hb hr rfl (fun q h => by cases h) rfl dX7_bar_1 hlk
theorem cm_X2_hums_3 (l : Launch) (D : va_G) (t : Nat → ClassId) (a : Nat) (x y z : Int32) : Met l yX2_hums (ws_ yX2_hums cX2_hums 4 (some .boolean)) ({ frames := 0, cells := 0, slots := 0, locals := 0 }) (zPc [.ref a, .int x, .int y, .int z] (OB D a 3 []) (KK D t)) (QcRead (bI (decide (y ≤ x)))) 0 0 (fun _ => False) := by
  refine zOf (cc := cX2_hums) (maxL := 4) (ret := (some .boolean)) (by decide) (Nat.le_of_ble_eq_true rfl) (fun pg ev s m below meth cd ls F hP hKK hl hnm => ?_)
  obtain ⟨hx, hb, hml, hown, hts, hr, hlk⟩ := F
  have S : CallFix pg m cd cX2_hums 4 s _ lw_all RX2 := ⟨hx, hb, hml, hown, hts⟩
  have hl : lv_has ls 4 [(0, .ref a), (1, .int x), (2, .int y), (3, .int z)] := hl
  refine lv_iload_n hx hb dX2_hums_0 rfl (lv_at hl 1 rfl) ?_
  refine lv_iload_n hx hb dX2_hums_1 rfl (lv_at hl 2 rfl) ?_
  refine lv_icmp_lt (tgt := 9) hx hb dX2_hums_2 (by decide) (fun c2 => ?_) (fun c2 => ?_)
  · refine lv_iconst (v := 0) hx hb dX2_hums_9 (by decide) ?_
    exact z_bretR hx hb hr (b := decide (y ≤ x)) (by first | (rw [decide_eq_true (show y ≤ x by grind)]; rfl) | (rw [decide_eq_false (show ¬ y ≤ x by grind)]; rfl)) (fun q h => by cases h) rfl dX2_hums_10 hlk
  · refine lv_iconst (v := 1) hx hb dX2_hums_5 (by decide) ?_
    refine lv_goto (tgt := 10) hx hb dX2_hums_6 (by decide) ?_
    exact z_bretR hx hb hr (b := decide (y ≤ x)) (by first | (rw [decide_eq_true (show y ≤ x by grind)]; rfl) | (rw [decide_eq_false (show ¬ y ≤ x by grind)]; rfl)) (fun q h => by cases h) rfl dX2_hums_10 hlk
theorem cm_X2_hums_4 (l : Launch) (D : va_G) (t : Nat → ClassId) (a : Nat) (x y z : Int32) : Met l yX2_hums (ws_ yX2_hums cX2_hums 4 (some .boolean)) ({ frames := 0, cells := 0, slots := 0, locals := 0 }) (zPc [.ref a, .int x, .int y, .int z] (OB D a 4 []) (KK D t)) (QcRead (bI (decide (y ≤ x)))) 0 0 (fun _ => False) := by
  refine zOf (cc := cX2_hums) (maxL := 4) (ret := (some .boolean)) (by decide) (Nat.le_of_ble_eq_true rfl) (fun pg ev s m below meth cd ls F hP hKK hl hnm => ?_)
  obtain ⟨hx, hb, hml, hown, hts, hr, hlk⟩ := F
  have S : CallFix pg m cd cX2_hums 4 s _ lw_all RX2 := ⟨hx, hb, hml, hown, hts⟩
  have hl : lv_has ls 4 [(0, .ref a), (1, .int x), (2, .int y), (3, .int z)] := hl
  refine lv_iload_n hx hb dX2_hums_0 rfl (lv_at hl 1 rfl) ?_
  refine lv_iload_n hx hb dX2_hums_1 rfl (lv_at hl 2 rfl) ?_
  refine lv_icmp_lt (tgt := 9) hx hb dX2_hums_2 (by decide) (fun c2 => ?_) (fun c2 => ?_)
  · refine lv_iconst (v := 0) hx hb dX2_hums_9 (by decide) ?_
    exact z_bretR hx hb hr (b := decide (y ≤ x)) (by first | (rw [decide_eq_true (show y ≤ x by grind)]; rfl) | (rw [decide_eq_false (show ¬ y ≤ x by grind)]; rfl)) (fun q h => by cases h) rfl dX2_hums_10 hlk
  · refine lv_iconst (v := 1) hx hb dX2_hums_5 (by decide) ?_
    refine lv_goto (tgt := 10) hx hb dX2_hums_6 (by decide) ?_
    exact z_bretR hx hb hr (b := decide (y ≤ x)) (by first | (rw [decide_eq_true (show y ≤ x by grind)]; rfl) | (rw [decide_eq_false (show ¬ y ≤ x by grind)]; rfl)) (fun q h => by cases h) rfl dX2_hums_10 hlk
theorem cm_X2_hums_5 (l : Launch) (D : va_G) (t : Nat → ClassId) (a : Nat) (x y z : Int32) : Met l yX2_hums (ws_ yX2_hums cX2_hums 4 (some .boolean)) ({ frames := 0, cells := 0, slots := 0, locals := 0 }) (zPc [.ref a, .int x, .int y, .int z] (OB D a 5 []) (KK D t)) (QcRead (bI (decide (y ≤ x)))) 0 0 (fun _ => False) := by
  refine zOf (cc := cX2_hums) (maxL := 4) (ret := (some .boolean)) (by decide) (Nat.le_of_ble_eq_true rfl) (fun pg ev s m below meth cd ls F hP hKK hl hnm => ?_)
  obtain ⟨hx, hb, hml, hown, hts, hr, hlk⟩ := F
  have S : CallFix pg m cd cX2_hums 4 s _ lw_all RX2 := ⟨hx, hb, hml, hown, hts⟩
  have hl : lv_has ls 4 [(0, .ref a), (1, .int x), (2, .int y), (3, .int z)] := hl
  refine lv_iload_n hx hb dX2_hums_0 rfl (lv_at hl 1 rfl) ?_
  refine lv_iload_n hx hb dX2_hums_1 rfl (lv_at hl 2 rfl) ?_
  refine lv_icmp_lt (tgt := 9) hx hb dX2_hums_2 (by decide) (fun c2 => ?_) (fun c2 => ?_)
  · refine lv_iconst (v := 0) hx hb dX2_hums_9 (by decide) ?_
    exact z_bretR hx hb hr (b := decide (y ≤ x)) (by first | (rw [decide_eq_true (show y ≤ x by grind)]; rfl) | (rw [decide_eq_false (show ¬ y ≤ x by grind)]; rfl)) (fun q h => by cases h) rfl dX2_hums_10 hlk
  · refine lv_iconst (v := 1) hx hb dX2_hums_5 (by decide) ?_
    refine lv_goto (tgt := 10) hx hb dX2_hums_6 (by decide) ?_
    exact z_bretR hx hb hr (b := decide (y ≤ x)) (by first | (rw [decide_eq_true (show y ≤ x by grind)]; rfl) | (rw [decide_eq_false (show ¬ y ≤ x by grind)]; rfl)) (fun q h => by cases h) rfl dX2_hums_10 hlk
theorem cm_X2_hums_6 (l : Launch) (D : va_G) (t : Nat → ClassId) (a : Nat) (x y z : Int32) : Met l yX2_hums (ws_ yX2_hums cX2_hums 4 (some .boolean)) ({ frames := 0, cells := 0, slots := 0, locals := 0 }) (zPc [.ref a, .int x, .int y, .int z] (OB D a 6 []) (KK D t)) (QcRead (bI (decide (y ≤ x)))) 0 0 (fun _ => False) := by
  refine zOf (cc := cX2_hums) (maxL := 4) (ret := (some .boolean)) (by decide) (Nat.le_of_ble_eq_true rfl) (fun pg ev s m below meth cd ls F hP hKK hl hnm => ?_)
  obtain ⟨hx, hb, hml, hown, hts, hr, hlk⟩ := F
  have S : CallFix pg m cd cX2_hums 4 s _ lw_all RX2 := ⟨hx, hb, hml, hown, hts⟩
  have hl : lv_has ls 4 [(0, .ref a), (1, .int x), (2, .int y), (3, .int z)] := hl
  refine lv_iload_n hx hb dX2_hums_0 rfl (lv_at hl 1 rfl) ?_
  refine lv_iload_n hx hb dX2_hums_1 rfl (lv_at hl 2 rfl) ?_
  refine lv_icmp_lt (tgt := 9) hx hb dX2_hums_2 (by decide) (fun c2 => ?_) (fun c2 => ?_)
  · refine lv_iconst (v := 0) hx hb dX2_hums_9 (by decide) ?_
    exact z_bretR hx hb hr (b := decide (y ≤ x)) (by first | (rw [decide_eq_true (show y ≤ x by grind)]; rfl) | (rw [decide_eq_false (show ¬ y ≤ x by grind)]; rfl)) (fun q h => by cases h) rfl dX2_hums_10 hlk
  · refine lv_iconst (v := 1) hx hb dX2_hums_5 (by decide) ?_
    refine lv_goto (tgt := 10) hx hb dX2_hums_6 (by decide) ?_
    exact z_bretR hx hb hr (b := decide (y ≤ x)) (by first | (rw [decide_eq_true (show y ≤ x by grind)]; rfl) | (rw [decide_eq_false (show ¬ y ≤ x by grind)]; rfl)) (fun q h => by cases h) rfl dX2_hums_10 hlk
theorem cm_X2_hums_8 (l : Launch) (D : va_G) (t : Nat → ClassId) (a : Nat) (x y z : Int32) : Met l yX2_hums (ws_ yX2_hums cX2_hums 4 (some .boolean)) ({ frames := 0, cells := 0, slots := 0, locals := 0 }) (zPc [.ref a, .int x, .int y, .int z] (OB D a 8 []) (KK D t)) (QcRead (bI (decide (y ≤ x)))) 0 0 (fun _ => False) := by
  refine zOf (cc := cX2_hums) (maxL := 4) (ret := (some .boolean)) (by decide) (Nat.le_of_ble_eq_true rfl) (fun pg ev s m below meth cd ls F hP hKK hl hnm => ?_)
  obtain ⟨hx, hb, hml, hown, hts, hr, hlk⟩ := F
  have S : CallFix pg m cd cX2_hums 4 s _ lw_all RX2 := ⟨hx, hb, hml, hown, hts⟩
  have hl : lv_has ls 4 [(0, .ref a), (1, .int x), (2, .int y), (3, .int z)] := hl
  refine lv_iload_n hx hb dX2_hums_0 rfl (lv_at hl 1 rfl) ?_
  refine lv_iload_n hx hb dX2_hums_1 rfl (lv_at hl 2 rfl) ?_
  refine lv_icmp_lt (tgt := 9) hx hb dX2_hums_2 (by decide) (fun c2 => ?_) (fun c2 => ?_)
  · refine lv_iconst (v := 0) hx hb dX2_hums_9 (by decide) ?_
    exact z_bretR hx hb hr (b := decide (y ≤ x)) (by first | (rw [decide_eq_true (show y ≤ x by grind)]; rfl) | (rw [decide_eq_false (show ¬ y ≤ x by grind)]; rfl)) (fun q h => by cases h) rfl dX2_hums_10 hlk
  · refine lv_iconst (v := 1) hx hb dX2_hums_5 (by decide) ?_
    refine lv_goto (tgt := 10) hx hb dX2_hums_6 (by decide) ?_
    exact z_bretR hx hb hr (b := decide (y ≤ x)) (by first | (rw [decide_eq_true (show y ≤ x by grind)]; rfl) | (rw [decide_eq_false (show ¬ y ≤ x by grind)]; rfl)) (fun q h => by cases h) rfl dX2_hums_10 hlk
theorem cm_X3_hums_4 (l : Launch) (D : va_G) (t : Nat → ClassId) (a : Nat) (x y z : Int32) : Met l yX3_hums (ws_ yX3_hums cX3_hums 4 (some .boolean)) ({ frames := 1, cells := 0, slots := 0, locals := 23 }) (zPc [.ref a, .int x, .int y, .int z] (OB D a 4 []) (KK D t)) (QcRead (bI (decide (0 ≤ x)))) 0 0 (fun _ => False) := by
  refine zOf (cc := cX3_hums) (maxL := 4) (ret := (some .boolean)) (by decide) (Nat.le_of_ble_eq_true rfl) (fun pg ev s m below meth cd ls F hP hKK hl hnm => ?_)
  obtain ⟨hx, hb, hml, hown, hts, hr, hlk⟩ := F
  have S : CallFix pg m cd cX3_hums 4 s _ lw_all RX3 := ⟨hx, hb, hml, hown, hts⟩
  have hl : lv_has ls 4 [(0, .ref a), (1, .int x), (2, .int y), (3, .int z)] := hl
  refine lv_aload_n hx hb dX3_hums_0 rfl (lv_at hl 0 rfl) ?_
  refine lv_iload_n hx hb dX3_hums_1 rfl (lv_at hl 1 rfl) ?_
  refine lv_iconst (v := 0) hx hb dX3_hums_2 (by decide) ?_
  refine lv_iload_n hx hb dX3_hums_3 rfl (lv_at hl 3 rfl) ?_
  refine c_callU (C := RX3) (As := [.int x, .int 0, .int z]) (rest := []) S hKK hP hP rfl (cm_X2_hums_4 l D t a x 0 z) (va_cwSU 3 hts (lw_SU q850 q1585 q153 q843 q97 q844) rfl rfl rfl ⟨by decide, by decide +kernel⟩ ⟨Nat.le_of_ble_eq_true rfl, Nat.le_of_ble_eq_true rfl⟩) rfl hl.1 rfl (Nat.le_of_ble_eq_true rfl) dX3_hums_4 ⟨Nat.le_of_ble_eq_true rfl, Nat.le_of_ble_eq_true rfl⟩ ?_
  exact z_bretR hx hb hr rfl (fun q h => by cases h) rfl dX3_hums_7 hlk
theorem cm_X3_hums_8 (l : Launch) (D : va_G) (t : Nat → ClassId) (a : Nat) (x y z : Int32) : Met l yX3_hums (ws_ yX3_hums cX3_hums 4 (some .boolean)) ({ frames := 1, cells := 0, slots := 0, locals := 23 }) (zPc [.ref a, .int x, .int y, .int z] (OB D a 8 []) (KK D t)) (QcRead (bI (decide (0 ≤ x)))) 0 0 (fun _ => False) := by
  refine zOf (cc := cX3_hums) (maxL := 4) (ret := (some .boolean)) (by decide) (Nat.le_of_ble_eq_true rfl) (fun pg ev s m below meth cd ls F hP hKK hl hnm => ?_)
  obtain ⟨hx, hb, hml, hown, hts, hr, hlk⟩ := F
  have S : CallFix pg m cd cX3_hums 4 s _ lw_all RX3 := ⟨hx, hb, hml, hown, hts⟩
  have hl : lv_has ls 4 [(0, .ref a), (1, .int x), (2, .int y), (3, .int z)] := hl
  refine lv_aload_n hx hb dX3_hums_0 rfl (lv_at hl 0 rfl) ?_
  refine lv_iload_n hx hb dX3_hums_1 rfl (lv_at hl 1 rfl) ?_
  refine lv_iconst (v := 0) hx hb dX3_hums_2 (by decide) ?_
  refine lv_iload_n hx hb dX3_hums_3 rfl (lv_at hl 3 rfl) ?_
  refine c_callU (C := RX7) (As := [.int x, .int 0, .int z]) (rest := []) S hKK hP hP rfl (cm_X2_hums_8 l D t a x 0 z) (va_cwSU 3 hts (lw_SU q850 q1585 q153 q843 q97 q844) rfl rfl rfl ⟨by decide, by decide +kernel⟩ ⟨Nat.le_of_ble_eq_true rfl, Nat.le_of_ble_eq_true rfl⟩) rfl hl.1 rfl (Nat.le_of_ble_eq_true rfl) dX3_hums_4 ⟨Nat.le_of_ble_eq_true rfl, Nat.le_of_ble_eq_true rfl⟩ ?_
  exact z_bretR hx hb hr rfl (fun q h => by cases h) rfl dX3_hums_7 hlk
theorem cm_X6_hums_7 (l : Launch) (D : va_G) (t : Nat → ClassId) (a : Nat) (x y z : Int32) : Met l yX6_hums (ws_ yX6_hums cX6_hums 4 (some .boolean)) ({ frames := 0, cells := 0, slots := 0, locals := 0 }) (zPc [.ref a, .int x, .int y, .int z] (OB D a 7 []) (KK D t)) (QcRead (bI false)) 0 0 (fun _ => False) := by
  refine zOf (cc := cX6_hums) (maxL := 4) (ret := (some .boolean)) (by decide) (Nat.le_of_ble_eq_true rfl) (fun pg ev s m below meth cd ls F hP hKK hl hnm => ?_)
  obtain ⟨hx, hb, hml, hown, hts, hr, hlk⟩ := F
  have S : CallFix pg m cd cX6_hums 4 s _ lw_all RX6 := ⟨hx, hb, hml, hown, hts⟩
  have hl : lv_has ls 4 [(0, .ref a), (1, .int x), (2, .int y), (3, .int z)] := hl
  refine lv_iconst (v := 0) hx hb dX6_hums_0 (by decide) ?_
  exact z_bretR hx hb hr rfl (fun q h => by cases h) rfl dX6_hums_1 hlk
theorem cm_X7_hums_8 (l : Launch) (D : va_G) (t : Nat → ClassId) (a : Nat) (x y z : Int32) : Met l yX7_hums (ws_ yX7_hums cX7_hums 4 (some .boolean)) ({ frames := 2, cells := 0, slots := 0, locals := 46 }) (zPc [.ref a, .int x, .int y, .int z] (OB D a 8 []) (KK D t)) (QcRead (bI (decide (z - z / 2 * 2 = 0) && decide (0 ≤ x)))) 0 0 (fun _ => False) := by
  refine zOf (cc := cX7_hums) (maxL := 4) (ret := (some .boolean)) (by decide) (Nat.le_of_ble_eq_true rfl) (fun pg ev s m below meth cd ls F hP hKK hl hnm => ?_)
  obtain ⟨hx, hb, hml, hown, hts, hr, hlk⟩ := F
  have S : CallFix pg m cd cX7_hums 4 s _ lw_all RX7 := ⟨hx, hb, hml, hown, hts⟩
  have hl : lv_has ls 4 [(0, .ref a), (1, .int x), (2, .int y), (3, .int z)] := hl
  refine lv_iload_n hx hb dX7_hums_0 rfl (lv_at hl 3 rfl) ?_
  refine lv_iconst (v := 2) hx hb dX7_hums_1 (by decide) ?_
  refine lv_irem hx hb dX7_hums_2 (by decide) ?_
  refine lv_if_ne (tgt := 20) hx hb dX7_hums_3 (by decide) (fun c3 => ?_) (fun c3 => ?_)
  · refine lv_iconst (v := 0) hx hb dX7_hums_20 (by decide) ?_
    exact z_bretR hx hb hr (b := decide (z - z / 2 * 2 = 0) && decide (0 ≤ x)) (by grind [bI]) (fun q h => by cases h) rfl dX7_hums_21 hlk
  · refine lv_aload_n hx hb dX7_hums_6 rfl (lv_at hl 0 rfl) ?_
    refine lv_iload_n hx hb dX7_hums_7 rfl (lv_at hl 1 rfl) ?_
    refine lv_iload_n hx hb dX7_hums_8 rfl (lv_at hl 2 rfl) ?_
    refine lv_iload_n hx hb dX7_hums_9 rfl (lv_at hl 3 rfl) ?_
    refine c_callU (C := RX7) (As := [.int x, .int y, .int z]) (rest := []) S hKK hP hP rfl (cm_X3_hums_8 l D t a x y z) (va_cwSU 3 hts (lw_SU q854 q1586 q181 q848 q98 q849) rfl rfl rfl ⟨by decide, by decide +kernel⟩ ⟨Nat.le_of_ble_eq_true rfl, Nat.le_of_ble_eq_true rfl⟩) rfl hl.1 rfl (Nat.le_of_ble_eq_true rfl) dX7_hums_10 ⟨Nat.le_of_ble_eq_true rfl, Nat.le_of_ble_eq_true rfl⟩ ?_
    refine z_ifeq (tgt := 20) hx hb dX7_hums_13 (by decide) (fun c13 => ?_) (fun c13 => ?_)
    · refine lv_iconst (v := 0) hx hb dX7_hums_20 (by decide) ?_
      exact z_bretR hx hb hr (b := decide (z - z / 2 * 2 = 0) && decide (0 ≤ x)) (by grind [bI]) (fun q h => by cases h) rfl dX7_hums_21 hlk
    · refine lv_iconst (v := 1) hx hb dX7_hums_16 (by decide) ?_
      refine lv_goto (tgt := 21) hx hb dX7_hums_17 (by decide) ?_
      exact z_bretR hx hb hr (b := decide (z - z / 2 * 2 = 0) && decide (0 ≤ x)) (by grind [bI]) (fun q h => by cases h) rfl dX7_hums_21 hlk
