/-! THE FACE: printed by wip/D-96246w/gen/gen_x10.py -/
set_option maxRecDepth 100000
theorem rf_20 {x : Int32} (h : rfOk x) : -20 < x := by
  unfold rfOk at h
  rcases h with e | e | e | e | e <;> (rw [e]; decide)
theorem acX_op {N : Int32} {u : OT} {B : BT} (h : ¬ N = 0 → rfOk N) : acX N u B = opX N u B := by
  unfold acX opX
  by_cases e : N = 0
  · rw [if_pos e, if_pos e]
  · rw [if_neg e, if_neg e, if_pos (rf_20 (h e))]
theorem h9_of {N : Int32} (h : ¬ N = 0 → rfOk N) : ¬ N = 0 → -20 < N → -N = nI (ix (-N)) ∧ ix (-N) < 7 := fun e _ => ⟨rf1 (h e), rf2 (h e)⟩
set_option maxHeartbeats 800000 in
theorem cf_letter (l : Launch) (htr : l.stackTraces = false) (D : va_G) (t : Nat → ClassId) (Z : Nat × Cell) (cb : Nat) (B : BT) (x : Int32) (hB : OkB B) : Met l yX0_letter (ws_ yX0_letter cX0_letter 2 (some .int)) ({ frames := 15, cells := 1000, slots := 5000, locals := 385 }) (zPc [.ref cb, .int x] (CW D t Z cb B) (KX D t Z)) (va_Qi (fun r u => r = (letS B x).1 ∧ u = (letS B x).2) (fun B' U => CW D t Z cb B' U.heap) (cA cb)) 1000 5000 (cA cb) := by
  refine zOf (cc := cX0_letter) (maxL := 2) (ret := (some .int)) (by decide) (Nat.le_of_ble_eq_true rfl) (fun pg ev s m below meth cd ls F hW hK hl hnm => ?_)
  obtain ⟨hx, hb, hml, hown, hts, hr, hlk⟩ := F
  have S : CallFix pg m cd cX0_letter 2 s _ lw_all RX0 := ⟨hx, hb, hml, hown, hts⟩
  have hl : lv_has ls 2 [(0, .ref cb), (1, .int x)] := hl
  have hKK := hK.1
  have hS : va_S (fA (cA cb) s) s.heap s.heap [] := va_S.rf
  have hno : ¬ ((leN B x) : Int32) = 0 → rfOk (leN B x) := by intro h; unfold leN wiS at h ⊢; unfold rfOk; grind
  refine lv_aload_n hx hb dX0_letter_0 rfl (lv_at hl 0 rfl) ?_
  refine lv_iconst (v := 0) hx hb dX0_letter_1 (by decide) ?_
  refine lv_iload_n hx hb dX0_letter_2 rfl (lv_at hl 1 rfl) ?_
  refine lv_iconst (v := 0) hx hb dX0_letter_3 (by decide) ?_
  refine lv_iconst (v := 0) hx hb dX0_letter_4 (by decide) ?_
  refine va_calli (a_runVW (n := 4) (As := [.int 0, .int x, .int 0, .int 0]) (rest := []) S hK hW (hW.1.recv hKK) (act_o l htr D t Z cb B 0 x 0 0 (by decide) (h9_of hno) (cd_ofOffice_letter l htr D t Z cb B x 0 hB) rfl rfl (Nat.le_of_ble_eq_true rfl) (Nat.le_of_ble_eq_true rfl) (Nat.le_of_ble_eq_true rfl) (Nat.le_of_ble_eq_true rfl)) q325 q322 q324 qs0 q95 rfl rfl (Nat.le_of_ble_eq_true rfl) (Nat.le_of_ble_eq_true rfl) ⟨by decide, by decide⟩ (by decide +kernel) rfl hl.1 rfl (Nat.le_of_ble_eq_true rfl) dX0_letter_5 ⟨Nat.le_of_ble_eq_true rfl, Nat.le_of_ble_eq_true rfl⟩) hS (fun q _ h => Or.inl h) (fun q h => Or.inl h) (fun r9 u9 tt H locs ht _ h9 hW _ _ hS => ?_)
  rw [ht] at hW
  obtain ⟨e1, e2⟩ := h9
  have hW : CW D t Z cb u9 H := hW
  rw [acX_op hno, ← letS_eq B x] at e1 e2
  exact x_iretC hx hb hr ⟨e1, e2⟩ hW hS (Nat.le_of_ble_eq_true rfl) (Nat.le_of_ble_eq_true rfl) dX0_letter_8 hlk
set_option maxHeartbeats 800000 in
theorem cf_song (l : Launch) (htr : l.stackTraces = false) (D : va_G) (t : Nat → ClassId) (Z : Nat × Cell) (cb : Nat) (B : BT) (x : Int32) (y : Int32) (hB : OkB B) : Met l yX0_song (ws_ yX0_song cX0_song 3 (some .int)) ({ frames := 15, cells := 1000, slots := 5000, locals := 385 }) (zPc [.ref cb, .int x, .int y] (CW D t Z cb B) (KX D t Z)) (va_Qi (fun r u => r = (songS B x y).1 ∧ u = (songS B x y).2) (fun B' U => CW D t Z cb B' U.heap) (cA cb)) 1000 5000 (cA cb) := by
  refine zOf (cc := cX0_song) (maxL := 3) (ret := (some .int)) (by decide) (Nat.le_of_ble_eq_true rfl) (fun pg ev s m below meth cd ls F hW hK hl hnm => ?_)
  obtain ⟨hx, hb, hml, hown, hts, hr, hlk⟩ := F
  have S : CallFix pg m cd cX0_song 3 s _ lw_all RX0 := ⟨hx, hb, hml, hown, hts⟩
  have hl : lv_has ls 3 [(0, .ref cb), (1, .int x), (2, .int y)] := hl
  have hKK := hK.1
  have hS : va_S (fA (cA cb) s) s.heap s.heap [] := va_S.rf
  have hno : ¬ ((nSong (B 2) x y) : Int32) = 0 → rfOk (nSong (B 2) x y) := by intro h; unfold nSong at h ⊢; unfold rfOk; grind
  refine lv_aload_n hx hb dX0_song_0 rfl (lv_at hl 0 rfl) ?_
  refine lv_iconst (v := 2) hx hb dX0_song_1 (by decide) ?_
  refine lv_iload_n hx hb dX0_song_2 rfl (lv_at hl 1 rfl) ?_
  refine lv_iload_n hx hb dX0_song_3 rfl (lv_at hl 2 rfl) ?_
  refine lv_iconst (v := 0) hx hb dX0_song_4 (by decide) ?_
  refine va_calli (a_runVW (n := 4) (As := [.int 2, .int x, .int y, .int 0]) (rest := []) S hK hW (hW.1.recv hKK) (act_o l htr D t Z cb B 2 x y 0 (by decide) (h9_of hno) (cd_ofOffice_song l htr D t Z cb B x y hB) rfl rfl (Nat.le_of_ble_eq_true rfl) (Nat.le_of_ble_eq_true rfl) (Nat.le_of_ble_eq_true rfl) (Nat.le_of_ble_eq_true rfl)) q325 q322 q324 qs0 q95 rfl rfl (Nat.le_of_ble_eq_true rfl) (Nat.le_of_ble_eq_true rfl) ⟨by decide, by decide⟩ (by decide +kernel) rfl hl.1 rfl (Nat.le_of_ble_eq_true rfl) dX0_song_5 ⟨Nat.le_of_ble_eq_true rfl, Nat.le_of_ble_eq_true rfl⟩) hS (fun q _ h => Or.inl h) (fun q h => Or.inl h) (fun r9 u9 tt H locs ht _ h9 hW _ _ hS => ?_)
  rw [ht] at hW
  obtain ⟨e1, e2⟩ := h9
  have hW : CW D t Z cb u9 H := hW
  rw [acX_op hno, ← songS_eq B x y] at e1 e2
  exact x_iretC hx hb hr ⟨e1, e2⟩ hW hS (Nat.le_of_ble_eq_true rfl) (Nat.le_of_ble_eq_true rfl) dX0_song_8 hlk
set_option maxHeartbeats 800000 in
theorem cf_head (l : Launch) (htr : l.stackTraces = false) (D : va_G) (t : Nat → ClassId) (Z : Nat × Cell) (cb : Nat) (B : BT) (x : Int32) (y : Int32) (hB : OkB B) : Met l yX0_head (ws_ yX0_head cX0_head 3 (some .int)) ({ frames := 15, cells := 1000, slots := 5000, locals := 385 }) (zPc [.ref cb, .int x, .int y] (CW D t Z cb B) (KX D t Z)) (va_Qi (fun r u => r = (headS B x y).1 ∧ u = (headS B x y).2) (fun B' U => CW D t Z cb B' U.heap) (cA cb)) 1000 5000 (cA cb) := by
  refine zOf (cc := cX0_head) (maxL := 3) (ret := (some .int)) (by decide) (Nat.le_of_ble_eq_true rfl) (fun pg ev s m below meth cd ls F hW hK hl hnm => ?_)
  obtain ⟨hx, hb, hml, hown, hts, hr, hlk⟩ := F
  have S : CallFix pg m cd cX0_head 3 s _ lw_all RX0 := ⟨hx, hb, hml, hown, hts⟩
  have hl : lv_has ls 3 [(0, .ref cb), (1, .int x), (2, .int y)] := hl
  have hKK := hK.1
  have hS : va_S (fA (cA cb) s) s.heap s.heap [] := va_S.rf
  have hno : ¬ ((nHead (B 2) x y) : Int32) = 0 → rfOk (nHead (B 2) x y) := by intro h; unfold nHead at h ⊢; unfold rfOk; grind
  refine lv_aload_n hx hb dX0_head_0 rfl (lv_at hl 0 rfl) ?_
  refine lv_iconst (v := 3) hx hb dX0_head_1 (by decide) ?_
  refine lv_iload_n hx hb dX0_head_2 rfl (lv_at hl 1 rfl) ?_
  refine lv_iload_n hx hb dX0_head_3 rfl (lv_at hl 2 rfl) ?_
  refine lv_iconst (v := 0) hx hb dX0_head_4 (by decide) ?_
  refine va_calli (a_runVW (n := 4) (As := [.int 3, .int x, .int y, .int 0]) (rest := []) S hK hW (hW.1.recv hKK) (act_o l htr D t Z cb B 3 x y 0 (by decide) (h9_of hno) (cd_ofOffice_head l htr D t Z cb B x y hB) rfl rfl (Nat.le_of_ble_eq_true rfl) (Nat.le_of_ble_eq_true rfl) (Nat.le_of_ble_eq_true rfl) (Nat.le_of_ble_eq_true rfl)) q325 q322 q324 qs0 q95 rfl rfl (Nat.le_of_ble_eq_true rfl) (Nat.le_of_ble_eq_true rfl) ⟨by decide, by decide⟩ (by decide +kernel) rfl hl.1 rfl (Nat.le_of_ble_eq_true rfl) dX0_head_5 ⟨Nat.le_of_ble_eq_true rfl, Nat.le_of_ble_eq_true rfl⟩) hS (fun q _ h => Or.inl h) (fun q h => Or.inl h) (fun r9 u9 tt H locs ht _ h9 hW _ _ hS => ?_)
  rw [ht] at hW
  obtain ⟨e1, e2⟩ := h9
  have hW : CW D t Z cb u9 H := hW
  rw [acX_op hno, ← headS_eq B x y] at e1 e2
  exact x_iretC hx hb hr ⟨e1, e2⟩ hW hS (Nat.le_of_ble_eq_true rfl) (Nat.le_of_ble_eq_true rfl) dX0_head_8 hlk
set_option maxHeartbeats 800000 in
theorem cf_near (l : Launch) (htr : l.stackTraces = false) (D : va_G) (t : Nat → ClassId) (Z : Nat × Cell) (cb : Nat) (B : BT) (x : Int32) (hB : OkB B) : Met l yX0_near (ws_ yX0_near cX0_near 2 (some .int)) ({ frames := 15, cells := 1000, slots := 5000, locals := 385 }) (zPc [.ref cb, .int x] (CW D t Z cb B) (KX D t Z)) (va_Qi (fun r u => r = (nearS B x).1 ∧ u = (nearS B x).2) (fun B' U => CW D t Z cb B' U.heap) (cA cb)) 1000 5000 (cA cb) := by
  refine zOf (cc := cX0_near) (maxL := 2) (ret := (some .int)) (by decide) (Nat.le_of_ble_eq_true rfl) (fun pg ev s m below meth cd ls F hW hK hl hnm => ?_)
  obtain ⟨hx, hb, hml, hown, hts, hr, hlk⟩ := F
  have S : CallFix pg m cd cX0_near 2 s _ lw_all RX0 := ⟨hx, hb, hml, hown, hts⟩
  have hl : lv_has ls 2 [(0, .ref cb), (1, .int x)] := hl
  have hKK := hK.1
  have hS : va_S (fA (cA cb) s) s.heap s.heap [] := va_S.rf
  have hno : ¬ ((nNear (B 2) x) : Int32) = 0 → rfOk (nNear (B 2) x) := by intro h; unfold nNear at h ⊢; unfold rfOk; grind
  refine lv_aload_n hx hb dX0_near_0 rfl (lv_at hl 0 rfl) ?_
  refine lv_iconst (v := 4) hx hb dX0_near_1 (by decide) ?_
  refine lv_iload_n hx hb dX0_near_2 rfl (lv_at hl 1 rfl) ?_
  refine lv_iconst (v := 0) hx hb dX0_near_3 (by decide) ?_
  refine lv_iconst (v := 0) hx hb dX0_near_4 (by decide) ?_
  refine va_calli (a_runVW (n := 4) (As := [.int 4, .int x, .int 0, .int 0]) (rest := []) S hK hW (hW.1.recv hKK) (act_o l htr D t Z cb B 4 x 0 0 (by decide) (h9_of hno) (cd_ofOffice_near l htr D t Z cb B x 0 hB) rfl rfl (Nat.le_of_ble_eq_true rfl) (Nat.le_of_ble_eq_true rfl) (Nat.le_of_ble_eq_true rfl) (Nat.le_of_ble_eq_true rfl)) q325 q322 q324 qs0 q95 rfl rfl (Nat.le_of_ble_eq_true rfl) (Nat.le_of_ble_eq_true rfl) ⟨by decide, by decide⟩ (by decide +kernel) rfl hl.1 rfl (Nat.le_of_ble_eq_true rfl) dX0_near_5 ⟨Nat.le_of_ble_eq_true rfl, Nat.le_of_ble_eq_true rfl⟩) hS (fun q _ h => Or.inl h) (fun q h => Or.inl h) (fun r9 u9 tt H locs ht _ h9 hW _ _ hS => ?_)
  rw [ht] at hW
  obtain ⟨e1, e2⟩ := h9
  have hW : CW D t Z cb u9 H := hW
  rw [acX_op hno, ← nearS_eq B x] at e1 e2
  exact x_iretC hx hb hr ⟨e1, e2⟩ hW hS (Nat.le_of_ble_eq_true rfl) (Nat.le_of_ble_eq_true rfl) dX0_near_8 hlk
set_option maxHeartbeats 800000 in
theorem cf_door (l : Launch) (htr : l.stackTraces = false) (D : va_G) (t : Nat → ClassId) (Z : Nat × Cell) (cb : Nat) (B : BT) (x : Int32) (hB : OkB B) : Met l yX0_door (ws_ yX0_door cX0_door 2 (some .int)) ({ frames := 15, cells := 1000, slots := 5000, locals := 385 }) (zPc [.ref cb, .int x] (CW D t Z cb B) (KX D t Z)) (va_Qi (fun r u => r = (doorS B x).1 ∧ u = (doorS B x).2) (fun B' U => CW D t Z cb B' U.heap) (cA cb)) 1000 5000 (cA cb) := by
  refine zOf (cc := cX0_door) (maxL := 2) (ret := (some .int)) (by decide) (Nat.le_of_ble_eq_true rfl) (fun pg ev s m below meth cd ls F hW hK hl hnm => ?_)
  obtain ⟨hx, hb, hml, hown, hts, hr, hlk⟩ := F
  have S : CallFix pg m cd cX0_door 2 s _ lw_all RX0 := ⟨hx, hb, hml, hown, hts⟩
  have hl : lv_has ls 2 [(0, .ref cb), (1, .int x)] := hl
  have hKK := hK.1
  have hS : va_S (fA (cA cb) s) s.heap s.heap [] := va_S.rf
  have hno : ¬ ((nDoor (B 2) x) : Int32) = 0 → rfOk (nDoor (B 2) x) := by intro h; unfold nDoor at h ⊢; unfold rfOk; grind
  refine lv_aload_n hx hb dX0_door_0 rfl (lv_at hl 0 rfl) ?_
  refine lv_iconst (v := 5) hx hb dX0_door_1 (by decide) ?_
  refine lv_iload_n hx hb dX0_door_2 rfl (lv_at hl 1 rfl) ?_
  refine lv_iconst (v := 0) hx hb dX0_door_3 (by decide) ?_
  refine lv_iconst (v := 0) hx hb dX0_door_4 (by decide) ?_
  refine va_calli (a_runVW (n := 4) (As := [.int 5, .int x, .int 0, .int 0]) (rest := []) S hK hW (hW.1.recv hKK) (act_o l htr D t Z cb B 5 x 0 0 (by decide) (h9_of hno) (cd_ofOffice_door l htr D t Z cb B x 0 hB) rfl rfl (Nat.le_of_ble_eq_true rfl) (Nat.le_of_ble_eq_true rfl) (Nat.le_of_ble_eq_true rfl) (Nat.le_of_ble_eq_true rfl)) q325 q322 q324 qs0 q95 rfl rfl (Nat.le_of_ble_eq_true rfl) (Nat.le_of_ble_eq_true rfl) ⟨by decide, by decide⟩ (by decide +kernel) rfl hl.1 rfl (Nat.le_of_ble_eq_true rfl) dX0_door_5 ⟨Nat.le_of_ble_eq_true rfl, Nat.le_of_ble_eq_true rfl⟩) hS (fun q _ h => Or.inl h) (fun q h => Or.inl h) (fun r9 u9 tt H locs ht _ h9 hW _ _ hS => ?_)
  rw [ht] at hW
  obtain ⟨e1, e2⟩ := h9
  have hW : CW D t Z cb u9 H := hW
  rw [acX_op hno, ← doorS_eq B x] at e1 e2
  exact x_iretC hx hb hr ⟨e1, e2⟩ hW hS (Nat.le_of_ble_eq_true rfl) (Nat.le_of_ble_eq_true rfl) dX0_door_8 hlk
set_option maxHeartbeats 800000 in
theorem cf_go (l : Launch) (htr : l.stackTraces = false) (D : va_G) (t : Nat → ClassId) (Z : Nat × Cell) (cb : Nat) (B : BT) (x : Int32) (y : Int32) (hB : OkB B) : Met l yX0_go (ws_ yX0_go cX0_go 3 (some .int)) ({ frames := 15, cells := 1000, slots := 5000, locals := 385 }) (zPc [.ref cb, .int x, .int y] (CW D t Z cb B) (KX D t Z)) (va_Qi (fun r u => r = (goS B x y).1 ∧ u = (goS B x y).2) (fun B' U => CW D t Z cb B' U.heap) (cA cb)) 1000 5000 (cA cb) := by
  refine zOf (cc := cX0_go) (maxL := 3) (ret := (some .int)) (by decide) (Nat.le_of_ble_eq_true rfl) (fun pg ev s m below meth cd ls F hW hK hl hnm => ?_)
  obtain ⟨hx, hb, hml, hown, hts, hr, hlk⟩ := F
  have S : CallFix pg m cd cX0_go 3 s _ lw_all RX0 := ⟨hx, hb, hml, hown, hts⟩
  have hl : lv_has ls 3 [(0, .ref cb), (1, .int x), (2, .int y)] := hl
  have hKK := hK.1
  have hS : va_S (fA (cA cb) s) s.heap s.heap [] := va_S.rf
  have hno : ¬ ((nGo (B 2) x y) : Int32) = 0 → rfOk (nGo (B 2) x y) := by intro h; unfold nGo at h ⊢; unfold rfOk; grind
  refine lv_aload_n hx hb dX0_go_0 rfl (lv_at hl 0 rfl) ?_
  refine lv_bipush (v := 6) hx hb dX0_go_1 (by decide) ?_
  refine lv_iload_n hx hb dX0_go_3 rfl (lv_at hl 1 rfl) ?_
  refine lv_iload_n hx hb dX0_go_4 rfl (lv_at hl 2 rfl) ?_
  refine lv_iconst (v := 0) hx hb dX0_go_5 (by decide) ?_
  refine va_calli (a_runVW (n := 4) (As := [.int 6, .int x, .int y, .int 0]) (rest := []) S hK hW (hW.1.recv hKK) (act_o l htr D t Z cb B 6 x y 0 (by decide) (h9_of hno) (cd_ofOffice_go l htr D t Z cb B x y hB) rfl rfl (Nat.le_of_ble_eq_true rfl) (Nat.le_of_ble_eq_true rfl) (Nat.le_of_ble_eq_true rfl) (Nat.le_of_ble_eq_true rfl)) q325 q322 q324 qs0 q95 rfl rfl (Nat.le_of_ble_eq_true rfl) (Nat.le_of_ble_eq_true rfl) ⟨by decide, by decide⟩ (by decide +kernel) rfl hl.1 rfl (Nat.le_of_ble_eq_true rfl) dX0_go_6 ⟨Nat.le_of_ble_eq_true rfl, Nat.le_of_ble_eq_true rfl⟩) hS (fun q _ h => Or.inl h) (fun q h => Or.inl h) (fun r9 u9 tt H locs ht _ h9 hW _ _ hS => ?_)
  rw [ht] at hW
  obtain ⟨e1, e2⟩ := h9
  have hW : CW D t Z cb u9 H := hW
  rw [acX_op hno, ← goS_eq B x y] at e1 e2
  exact x_iretC hx hb hr ⟨e1, e2⟩ hW hS (Nat.le_of_ble_eq_true rfl) (Nat.le_of_ble_eq_true rfl) dX0_go_9 hlk
set_option maxHeartbeats 800000 in
theorem cf_get (l : Launch) (htr : l.stackTraces = false) (D : va_G) (t : Nat → ClassId) (Z : Nat × Cell) (cb : Nat) (B : BT) (x : Int32) (y : Int32) (hB : OkB B) : Met l yX0_get (ws_ yX0_get cX0_get 3 (some .int)) ({ frames := 15, cells := 1000, slots := 5000, locals := 385 }) (zPc [.ref cb, .int x, .int y] (CW D t Z cb B) (KX D t Z)) (va_Qi (fun r u => r = (getS B x y).1 ∧ u = (getS B x y).2) (fun B' U => CW D t Z cb B' U.heap) (cA cb)) 1000 5000 (cA cb) := by
  refine zOf (cc := cX0_get) (maxL := 3) (ret := (some .int)) (by decide) (Nat.le_of_ble_eq_true rfl) (fun pg ev s m below meth cd ls F hW hK hl hnm => ?_)
  obtain ⟨hx, hb, hml, hown, hts, hr, hlk⟩ := F
  have S : CallFix pg m cd cX0_get 3 s _ lw_all RX0 := ⟨hx, hb, hml, hown, hts⟩
  have hl : lv_has ls 3 [(0, .ref cb), (1, .int x), (2, .int y)] := hl
  have hKK := hK.1
  have hS : va_S (fA (cA cb) s) s.heap s.heap [] := va_S.rf
  have hno : ¬ ((nGet (B 2) x y) : Int32) = 0 → rfOk (nGet (B 2) x y) := by intro h; unfold nGet at h ⊢; unfold rfOk; grind
  refine lv_aload_n hx hb dX0_get_0 rfl (lv_at hl 0 rfl) ?_
  refine lv_bipush (v := 7) hx hb dX0_get_1 (by decide) ?_
  refine lv_iload_n hx hb dX0_get_3 rfl (lv_at hl 1 rfl) ?_
  refine lv_iload_n hx hb dX0_get_4 rfl (lv_at hl 2 rfl) ?_
  refine lv_iconst (v := 0) hx hb dX0_get_5 (by decide) ?_
  refine va_calli (a_runVW (n := 4) (As := [.int 7, .int x, .int y, .int 0]) (rest := []) S hK hW (hW.1.recv hKK) (act_o l htr D t Z cb B 7 x y 0 (by decide) (h9_of hno) (cd_ofOffice_get l htr D t Z cb B x y hB) rfl rfl (Nat.le_of_ble_eq_true rfl) (Nat.le_of_ble_eq_true rfl) (Nat.le_of_ble_eq_true rfl) (Nat.le_of_ble_eq_true rfl)) q325 q322 q324 qs0 q95 rfl rfl (Nat.le_of_ble_eq_true rfl) (Nat.le_of_ble_eq_true rfl) ⟨by decide, by decide⟩ (by decide +kernel) rfl hl.1 rfl (Nat.le_of_ble_eq_true rfl) dX0_get_6 ⟨Nat.le_of_ble_eq_true rfl, Nat.le_of_ble_eq_true rfl⟩) hS (fun q _ h => Or.inl h) (fun q h => Or.inl h) (fun r9 u9 tt H locs ht _ h9 hW _ _ hS => ?_)
  rw [ht] at hW
  obtain ⟨e1, e2⟩ := h9
  have hW : CW D t Z cb u9 H := hW
  rw [acX_op hno, ← getS_eq B x y] at e1 e2
  exact x_iretC hx hb hr ⟨e1, e2⟩ hW hS (Nat.le_of_ble_eq_true rfl) (Nat.le_of_ble_eq_true rfl) dX0_get_9 hlk
set_option maxHeartbeats 800000 in
theorem cf_remedy (l : Launch) (htr : l.stackTraces = false) (D : va_G) (t : Nat → ClassId) (Z : Nat × Cell) (cb : Nat) (B : BT) (x : Int32) (y : Int32) (hB : OkB B) : Met l yX0_remedy (ws_ yX0_remedy cX0_remedy 3 (some .int)) ({ frames := 15, cells := 1000, slots := 5000, locals := 385 }) (zPc [.ref cb, .int x, .int y] (CW D t Z cb B) (KX D t Z)) (va_Qi (fun r u => r = (remS B x y).1 ∧ u = (remS B x y).2) (fun B' U => CW D t Z cb B' U.heap) (cA cb)) 1000 5000 (cA cb) := by
  refine zOf (cc := cX0_remedy) (maxL := 3) (ret := (some .int)) (by decide) (Nat.le_of_ble_eq_true rfl) (fun pg ev s m below meth cd ls F hW hK hl hnm => ?_)
  obtain ⟨hx, hb, hml, hown, hts, hr, hlk⟩ := F
  have S : CallFix pg m cd cX0_remedy 3 s _ lw_all RX0 := ⟨hx, hb, hml, hown, hts⟩
  have hl : lv_has ls 3 [(0, .ref cb), (1, .int x), (2, .int y)] := hl
  have hKK := hK.1
  have hS : va_S (fA (cA cb) s) s.heap s.heap [] := va_S.rf
  have hno : ¬ ((reN (B 2) x y) : Int32) = 0 → rfOk (reN (B 2) x y) := by intro h; unfold reN at h ⊢; unfold rfOk; grind
  refine lv_aload_n hx hb dX0_remedy_0 rfl (lv_at hl 0 rfl) ?_
  refine lv_bipush (v := 8) hx hb dX0_remedy_1 (by decide) ?_
  refine lv_iload_n hx hb dX0_remedy_3 rfl (lv_at hl 1 rfl) ?_
  refine lv_iload_n hx hb dX0_remedy_4 rfl (lv_at hl 2 rfl) ?_
  refine lv_iconst (v := 0) hx hb dX0_remedy_5 (by decide) ?_
  refine va_calli (a_runVW (n := 4) (As := [.int 8, .int x, .int y, .int 0]) (rest := []) S hK hW (hW.1.recv hKK) (act_o l htr D t Z cb B 8 x y 0 (by decide) (h9_of hno) (cd_ofOffice_remedy l htr D t Z cb B x y hB) rfl rfl (Nat.le_of_ble_eq_true rfl) (Nat.le_of_ble_eq_true rfl) (Nat.le_of_ble_eq_true rfl) (Nat.le_of_ble_eq_true rfl)) q325 q322 q324 qs0 q95 rfl rfl (Nat.le_of_ble_eq_true rfl) (Nat.le_of_ble_eq_true rfl) ⟨by decide, by decide⟩ (by decide +kernel) rfl hl.1 rfl (Nat.le_of_ble_eq_true rfl) dX0_remedy_6 ⟨Nat.le_of_ble_eq_true rfl, Nat.le_of_ble_eq_true rfl⟩) hS (fun q _ h => Or.inl h) (fun q h => Or.inl h) (fun r9 u9 tt H locs ht _ h9 hW _ _ hS => ?_)
  rw [ht] at hW
  obtain ⟨e1, e2⟩ := h9
  have hW : CW D t Z cb u9 H := hW
  rw [acX_op hno, ← (show remS B x y = opX (reN (B 2) x y) (uRem B x y) B from rfl)] at e1 e2
  exact x_iretC hx hb hr ⟨e1, e2⟩ hW hS (Nat.le_of_ble_eq_true rfl) (Nat.le_of_ble_eq_true rfl) dX0_remedy_9 hlk
set_option maxHeartbeats 800000 in
theorem cf_loud (l : Launch) (htr : l.stackTraces = false) (D : va_G) (t : Nat → ClassId) (Z : Nat × Cell) (cb : Nat) (B : BT) (x : Int32) (hB : OkB B) : Met l yX0_loud (ws_ yX0_loud cX0_loud 2 (some .int)) ({ frames := 15, cells := 1000, slots := 5000, locals := 385 }) (zPc [.ref cb, .int x] (CW D t Z cb B) (KX D t Z)) (va_Qi (fun r u => r = (loudS B x).1 ∧ u = (loudS B x).2) (fun B' U => CW D t Z cb B' U.heap) (cA cb)) 1000 5000 (cA cb) := by
  refine zOf (cc := cX0_loud) (maxL := 2) (ret := (some .int)) (by decide) (Nat.le_of_ble_eq_true rfl) (fun pg ev s m below meth cd ls F hW hK hl hnm => ?_)
  obtain ⟨hx, hb, hml, hown, hts, hr, hlk⟩ := F
  have S : CallFix pg m cd cX0_loud 2 s _ lw_all RX0 := ⟨hx, hb, hml, hown, hts⟩
  have hl : lv_has ls 2 [(0, .ref cb), (1, .int x)] := hl
  have hKK := hK.1
  have hS : va_S (fA (cA cb) s) s.heap s.heap [] := va_S.rf
  have hno : ¬ ((wiS x 1 20) : Int32) = 0 → rfOk (wiS x 1 20) := by intro h; unfold wiS at h ⊢; unfold rfOk; grind
  refine lv_aload_n hx hb dX0_loud_0 rfl (lv_at hl 0 rfl) ?_
  refine lv_bipush (v := 9) hx hb dX0_loud_1 (by decide) ?_
  refine lv_iload_n hx hb dX0_loud_3 rfl (lv_at hl 1 rfl) ?_
  refine lv_iconst (v := 0) hx hb dX0_loud_4 (by decide) ?_
  refine lv_iconst (v := 0) hx hb dX0_loud_5 (by decide) ?_
  refine va_calli (a_runVW (n := 4) (As := [.int 9, .int x, .int 0, .int 0]) (rest := []) S hK hW (hW.1.recv hKK) (act_o l htr D t Z cb B 9 x 0 0 (by decide) (h9_of hno) (cd_ofOffice_loud l htr D t Z cb B x 0 hB) rfl rfl (Nat.le_of_ble_eq_true rfl) (Nat.le_of_ble_eq_true rfl) (Nat.le_of_ble_eq_true rfl) (Nat.le_of_ble_eq_true rfl)) q325 q322 q324 qs0 q95 rfl rfl (Nat.le_of_ble_eq_true rfl) (Nat.le_of_ble_eq_true rfl) ⟨by decide, by decide⟩ (by decide +kernel) rfl hl.1 rfl (Nat.le_of_ble_eq_true rfl) dX0_loud_6 ⟨Nat.le_of_ble_eq_true rfl, Nat.le_of_ble_eq_true rfl⟩) hS (fun q _ h => Or.inl h) (fun q h => Or.inl h) (fun r9 u9 tt H locs ht _ h9 hW _ _ hS => ?_)
  rw [ht] at hW
  obtain ⟨e1, e2⟩ := h9
  have hW : CW D t Z cb u9 H := hW
  rw [acX_op hno, ← (show loudS B x = opX (wiS x 1 20) (uLoud B x) B from rfl)] at e1 e2
  exact x_iretC hx hb hr ⟨e1, e2⟩ hW hS (Nat.le_of_ble_eq_true rfl) (Nat.le_of_ble_eq_true rfl) dX0_loud_9 hlk
set_option maxHeartbeats 800000 in
theorem cf_hour (l : Launch) (htr : l.stackTraces = false) (D : va_G) (t : Nat → ClassId) (Z : Nat × Cell) (cb : Nat) (B : BT) (hB : OkB B) : Met l yX0_hour (ws_ yX0_hour cX0_hour 1 (some .int)) ({ frames := 15, cells := 1000, slots := 5000, locals := 385 }) (zPc [.ref cb] (CW D t Z cb B) (KX D t Z)) (va_Qi (fun r u => r = (hourS B).1 ∧ u = (hourS B).2) (fun B' U => CW D t Z cb B' U.heap) (cA cb)) 1000 5000 (cA cb) := by
  refine zOf (cc := cX0_hour) (maxL := 1) (ret := (some .int)) (by decide) (Nat.le_of_ble_eq_true rfl) (fun pg ev s m below meth cd ls F hW hK hl hnm => ?_)
  obtain ⟨hx, hb, hml, hown, hts, hr, hlk⟩ := F
  have S : CallFix pg m cd cX0_hour 1 s _ lw_all RX0 := ⟨hx, hb, hml, hown, hts⟩
  have hl : lv_has ls 1 [(0, .ref cb)] := hl
  have hKK := hK.1
  have hS : va_S (fA (cA cb) s) s.heap s.heap [] := va_S.rf
  have hno : ¬ ((nHour (B 2)) : Int32) = 0 → rfOk (nHour (B 2)) := by intro h; unfold nHour at h ⊢; unfold rfOk; grind
  refine lv_aload_n hx hb dX0_hour_0 rfl (lv_at hl 0 rfl) ?_
  refine lv_bipush (v := 10) hx hb dX0_hour_1 (by decide) ?_
  refine lv_iconst (v := 0) hx hb dX0_hour_3 (by decide) ?_
  refine lv_iconst (v := 0) hx hb dX0_hour_4 (by decide) ?_
  refine lv_iconst (v := 0) hx hb dX0_hour_5 (by decide) ?_
  refine va_calli (a_runVW (n := 4) (As := [.int 10, .int 0, .int 0, .int 0]) (rest := []) S hK hW (hW.1.recv hKK) (act_o l htr D t Z cb B 10 0 0 0 (by decide) (h9_of hno) (cd_ofOffice_hour l htr D t Z cb B 0 0 hB) rfl rfl (Nat.le_of_ble_eq_true rfl) (Nat.le_of_ble_eq_true rfl) (Nat.le_of_ble_eq_true rfl) (Nat.le_of_ble_eq_true rfl)) q325 q322 q324 qs0 q95 rfl rfl (Nat.le_of_ble_eq_true rfl) (Nat.le_of_ble_eq_true rfl) ⟨by decide, by decide⟩ (by decide +kernel) rfl hl.1 rfl (Nat.le_of_ble_eq_true rfl) dX0_hour_6 ⟨Nat.le_of_ble_eq_true rfl, Nat.le_of_ble_eq_true rfl⟩) hS (fun q _ h => Or.inl h) (fun q h => Or.inl h) (fun r9 u9 tt H locs ht _ h9 hW _ _ hS => ?_)
  rw [ht] at hW
  obtain ⟨e1, e2⟩ := h9
  have hW : CW D t Z cb u9 H := hW
  rw [acX_op hno, ← hourS_eq B] at e1 e2
  exact x_iretC hx hb hr ⟨e1, e2⟩ hW hS (Nat.le_of_ble_eq_true rfl) (Nat.le_of_ble_eq_true rfl) dX0_hour_9 hlk
set_option maxHeartbeats 800000 in
theorem cf_hold (l : Launch) (htr : l.stackTraces = false) (D : va_G) (t : Nat → ClassId) (Z : Nat × Cell) (cb : Nat) (B : BT) (x : Int32) (y : Int32) (z : Int32) (hB : OkB B) : Met l yX0_hold (ws_ yX0_hold cX0_hold 4 (some .int)) ({ frames := 15, cells := 1000, slots := 5000, locals := 385 }) (zPc [.ref cb, .int x, .int y, .int z] (CW D t Z cb B) (KX D t Z)) (va_Qi (fun r u => r = (holdS B x y z).1 ∧ u = (holdS B x y z).2) (fun B' U => CW D t Z cb B' U.heap) (cA cb)) 1000 5000 (cA cb) := by
  refine zOf (cc := cX0_hold) (maxL := 4) (ret := (some .int)) (by decide) (Nat.le_of_ble_eq_true rfl) (fun pg ev s m below meth cd ls F hW hK hl hnm => ?_)
  obtain ⟨hx, hb, hml, hown, hts, hr, hlk⟩ := F
  have S : CallFix pg m cd cX0_hold 4 s _ lw_all RX0 := ⟨hx, hb, hml, hown, hts⟩
  have hl : lv_has ls 4 [(0, .ref cb), (1, .int x), (2, .int y), (3, .int z)] := hl
  have hKK := hK.1
  have hS : va_S (fA (cA cb) s) s.heap s.heap [] := va_S.rf
  have hno : ¬ ((hoN (isH (B 2) x) y z) : Int32) = 0 → rfOk (hoN (isH (B 2) x) y z) := by intro h; unfold hoN wrS wiS at h ⊢; unfold rfOk; grind
  refine lv_aload_n hx hb dX0_hold_0 rfl (lv_at hl 0 rfl) ?_
  refine lv_bipush (v := 11) hx hb dX0_hold_1 (by decide) ?_
  refine lv_iload_n hx hb dX0_hold_3 rfl (lv_at hl 1 rfl) ?_
  refine lv_iload_n hx hb dX0_hold_4 rfl (lv_at hl 2 rfl) ?_
  refine lv_iload_n hx hb dX0_hold_5 rfl (lv_at hl 3 rfl) ?_
  refine va_calli (a_runVW (n := 4) (As := [.int 11, .int x, .int y, .int z]) (rest := []) S hK hW (hW.1.recv hKK) (act_h l htr D t Z cb B 11 x y z (by decide) (h9_of hno) (cd_ofHours_hold l htr D t Z cb B x y z hB) rfl rfl (Nat.le_of_ble_eq_true rfl) (Nat.le_of_ble_eq_true rfl) (Nat.le_of_ble_eq_true rfl) (Nat.le_of_ble_eq_true rfl)) q325 q322 q324 qs0 q95 rfl rfl (Nat.le_of_ble_eq_true rfl) (Nat.le_of_ble_eq_true rfl) ⟨by decide, by decide⟩ (by decide +kernel) rfl hl.1 rfl (Nat.le_of_ble_eq_true rfl) dX0_hold_6 ⟨Nat.le_of_ble_eq_true rfl, Nat.le_of_ble_eq_true rfl⟩) hS (fun q _ h => Or.inl h) (fun q h => Or.inl h) (fun r9 u9 tt H locs ht _ h9 hW _ _ hS => ?_)
  rw [ht] at hW
  obtain ⟨e1, e2⟩ := h9
  have hW : CW D t Z cb u9 H := hW
  rw [acX_op hno, ← (show holdS B x y z = opX (hoN (isH (B 2) x) y z) ((hd (hrS (B 2) (ix y)) (ix x) (3 + ix z), B)) B from rfl)] at e1 e2
  exact x_iretC hx hb hr ⟨e1, e2⟩ hW hS (Nat.le_of_ble_eq_true rfl) (Nat.le_of_ble_eq_true rfl) dX0_hold_9 hlk
set_option maxHeartbeats 800000 in
theorem cf_have (l : Launch) (htr : l.stackTraces = false) (D : va_G) (t : Nat → ClassId) (Z : Nat × Cell) (cb : Nat) (B : BT) (x : Int32) (y : Int32) (hB : OkB B) : Met l yX0_have (ws_ yX0_have cX0_have 3 (some .int)) ({ frames := 15, cells := 1000, slots := 5000, locals := 385 }) (zPc [.ref cb, .int x, .int y] (CW D t Z cb B) (KX D t Z)) (va_Qi (fun r u => r = (haveS B x y).1 ∧ u = (haveS B x y).2) (fun B' U => CW D t Z cb B' U.heap) (cA cb)) 1000 5000 (cA cb) := by
  refine zOf (cc := cX0_have) (maxL := 3) (ret := (some .int)) (by decide) (Nat.le_of_ble_eq_true rfl) (fun pg ev s m below meth cd ls F hW hK hl hnm => ?_)
  obtain ⟨hx, hb, hml, hown, hts, hr, hlk⟩ := F
  have S : CallFix pg m cd cX0_have 3 s _ lw_all RX0 := ⟨hx, hb, hml, hown, hts⟩
  have hl : lv_has ls 3 [(0, .ref cb), (1, .int x), (2, .int y)] := hl
  have hKK := hK.1
  have hS : va_S (fA (cA cb) s) s.heap s.heap [] := va_S.rf
  have hno : ¬ ((wrS (isN (B 2) x) y) : Int32) = 0 → rfOk (wrS (isN (B 2) x) y) := by intro h; unfold wrS wiS at h ⊢; unfold rfOk; grind
  refine lv_aload_n hx hb dX0_have_0 rfl (lv_at hl 0 rfl) ?_
  refine lv_bipush (v := 12) hx hb dX0_have_1 (by decide) ?_
  refine lv_iload_n hx hb dX0_have_3 rfl (lv_at hl 1 rfl) ?_
  refine lv_iload_n hx hb dX0_have_4 rfl (lv_at hl 2 rfl) ?_
  refine lv_iconst (v := 0) hx hb dX0_have_5 (by decide) ?_
  refine va_calli (a_runVW (n := 4) (As := [.int 12, .int x, .int y, .int 0]) (rest := []) S hK hW (hW.1.recv hKK) (act_h l htr D t Z cb B 12 x y 0 (by decide) (h9_of hno) (cd_ofHours_have l htr D t Z cb B x y 0 hB) rfl rfl (Nat.le_of_ble_eq_true rfl) (Nat.le_of_ble_eq_true rfl) (Nat.le_of_ble_eq_true rfl) (Nat.le_of_ble_eq_true rfl)) q325 q322 q324 qs0 q95 rfl rfl (Nat.le_of_ble_eq_true rfl) (Nat.le_of_ble_eq_true rfl) ⟨by decide, by decide⟩ (by decide +kernel) rfl hl.1 rfl (Nat.le_of_ble_eq_true rfl) dX0_have_6 ⟨Nat.le_of_ble_eq_true rfl, Nat.le_of_ble_eq_true rfl⟩) hS (fun q _ h => Or.inl h) (fun q h => Or.inl h) (fun r9 u9 tt H locs ht _ h9 hW _ _ hS => ?_)
  rw [ht] at hW
  obtain ⟨e1, e2⟩ := h9
  have hW : CW D t Z cb u9 H := hW
  rw [acX_op hno, ← (show haveS B x y = opX (wrS (isN (B 2) x) y) ((haS (hrS (B 2) (ix y)) x, B)) B from rfl)] at e1 e2
  exact x_iretC hx hb hr ⟨e1, e2⟩ hW hS (Nat.le_of_ble_eq_true rfl) (Nat.le_of_ble_eq_true rfl) dX0_have_9 hlk
set_option maxHeartbeats 800000 in
theorem cf_takes (l : Launch) (htr : l.stackTraces = false) (D : va_G) (t : Nat → ClassId) (Z : Nat × Cell) (cb : Nat) (B : BT) (x : Int32) (y : Int32) (hB : OkB B) : Met l yX0_takes (ws_ yX0_takes cX0_takes 3 (some .int)) ({ frames := 15, cells := 1000, slots := 5000, locals := 385 }) (zPc [.ref cb, .int x, .int y] (CW D t Z cb B) (KX D t Z)) (va_Qi (fun r u => r = (takeS B x y).1 ∧ u = (takeS B x y).2) (fun B' U => CW D t Z cb B' U.heap) (cA cb)) 1000 5000 (cA cb) := by
  refine zOf (cc := cX0_takes) (maxL := 3) (ret := (some .int)) (by decide) (Nat.le_of_ble_eq_true rfl) (fun pg ev s m below meth cd ls F hW hK hl hnm => ?_)
  obtain ⟨hx, hb, hml, hown, hts, hr, hlk⟩ := F
  have S : CallFix pg m cd cX0_takes 3 s _ lw_all RX0 := ⟨hx, hb, hml, hown, hts⟩
  have hl : lv_has ls 3 [(0, .ref cb), (1, .int x), (2, .int y)] := hl
  have hKK := hK.1
  have hS : va_S (fA (cA cb) s) s.heap s.heap [] := va_S.rf
  have hno : ¬ ((nTake (B 2) x y) : Int32) = 0 → rfOk (nTake (B 2) x y) := by intro h; unfold nTake at h ⊢; unfold rfOk; grind
  refine lv_aload_n hx hb dX0_takes_0 rfl (lv_at hl 0 rfl) ?_
  refine lv_bipush (v := 13) hx hb dX0_takes_1 (by decide) ?_
  refine lv_iload_n hx hb dX0_takes_3 rfl (lv_at hl 1 rfl) ?_
  refine lv_iload_n hx hb dX0_takes_4 rfl (lv_at hl 2 rfl) ?_
  refine lv_iconst (v := 0) hx hb dX0_takes_5 (by decide) ?_
  refine va_calli (a_runVW (n := 4) (As := [.int 13, .int x, .int y, .int 0]) (rest := []) S hK hW (hW.1.recv hKK) (act_h l htr D t Z cb B 13 x y 0 (by decide) (h9_of hno) (cd_ofHours_takes l htr D t Z cb B x y 0 hB) rfl rfl (Nat.le_of_ble_eq_true rfl) (Nat.le_of_ble_eq_true rfl) (Nat.le_of_ble_eq_true rfl) (Nat.le_of_ble_eq_true rfl)) q325 q322 q324 qs0 q95 rfl rfl (Nat.le_of_ble_eq_true rfl) (Nat.le_of_ble_eq_true rfl) ⟨by decide, by decide⟩ (by decide +kernel) rfl hl.1 rfl (Nat.le_of_ble_eq_true rfl) dX0_takes_6 ⟨Nat.le_of_ble_eq_true rfl, Nat.le_of_ble_eq_true rfl⟩) hS (fun q _ h => Or.inl h) (fun q h => Or.inl h) (fun r9 u9 tt H locs ht _ h9 hW _ _ hS => ?_)
  rw [ht] at hW
  obtain ⟨e1, e2⟩ := h9
  have hW : CW D t Z cb u9 H := hW
  rw [acX_op hno, ← (show takeS B x y = opX (nTake (B 2) x y) (uTake B x y) B from takeS_eq B x y)] at e1 e2
  exact x_iretC hx hb hr ⟨e1, e2⟩ hW hS (Nat.le_of_ble_eq_true rfl) (Nat.le_of_ble_eq_true rfl) dX0_takes_9 hlk
set_option maxHeartbeats 800000 in
theorem cf_still (l : Launch) (htr : l.stackTraces = false) (D : va_G) (t : Nat → ClassId) (Z : Nat × Cell) (cb : Nat) (B : BT) (hB : OkB B) : Met l yX0_still (ws_ yX0_still cX0_still 1 (some .int)) ({ frames := 15, cells := 1000, slots := 5000, locals := 385 }) (zPc [.ref cb] (CW D t Z cb B) (KX D t Z)) (va_Qi (fun r u => r = (stilS B).1 ∧ u = (stilS B).2) (fun B' U => CW D t Z cb B' U.heap) (cA cb)) 1000 5000 (cA cb) := by
  refine zOf (cc := cX0_still) (maxL := 1) (ret := (some .int)) (by decide) (Nat.le_of_ble_eq_true rfl) (fun pg ev s m below meth cd ls F hW hK hl hnm => ?_)
  obtain ⟨hx, hb, hml, hown, hts, hr, hlk⟩ := F
  have S : CallFix pg m cd cX0_still 1 s _ lw_all RX0 := ⟨hx, hb, hml, hown, hts⟩
  have hl : lv_has ls 1 [(0, .ref cb)] := hl
  have hKK := hK.1
  have hS : va_S (fA (cA cb) s) s.heap s.heap [] := va_S.rf
  have hno : ¬ (0 : Int32) = 0 → rfOk (0) := by intro h; exact absurd rfl h
  refine lv_aload_n hx hb dX0_still_0 rfl (lv_at hl 0 rfl) ?_
  refine lv_bipush (v := 14) hx hb dX0_still_1 (by decide) ?_
  refine lv_iconst (v := 0) hx hb dX0_still_3 (by decide) ?_
  refine lv_iconst (v := 0) hx hb dX0_still_4 (by decide) ?_
  refine lv_iconst (v := 0) hx hb dX0_still_5 (by decide) ?_
  refine va_calli (a_runVW (n := 4) (As := [.int 14, .int 0, .int 0, .int 0]) (rest := []) S hK hW (hW.1.recv hKK) (act_h l htr D t Z cb B 14 0 0 0 (by decide) (h9_of hno) (cd_ofHours_still l htr D t Z cb B 0 0 0 hB) rfl rfl (Nat.le_of_ble_eq_true rfl) (Nat.le_of_ble_eq_true rfl) (Nat.le_of_ble_eq_true rfl) (Nat.le_of_ble_eq_true rfl)) q325 q322 q324 qs0 q95 rfl rfl (Nat.le_of_ble_eq_true rfl) (Nat.le_of_ble_eq_true rfl) ⟨by decide, by decide⟩ (by decide +kernel) rfl hl.1 rfl (Nat.le_of_ble_eq_true rfl) dX0_still_6 ⟨Nat.le_of_ble_eq_true rfl, Nat.le_of_ble_eq_true rfl⟩) hS (fun q _ h => Or.inl h) (fun q h => Or.inl h) (fun r9 u9 tt H locs ht _ h9 hW _ _ hS => ?_)
  rw [ht] at hW
  obtain ⟨e1, e2⟩ := h9
  have hW : CW D t Z cb u9 H := hW
  rw [acX_op hno, ← (show stilS B = opX 0 (stilS B) B from (if_pos rfl).symm)] at e1 e2
  exact x_iretC hx hb hr ⟨e1, e2⟩ hW hS (Nat.le_of_ble_eq_true rfl) (Nat.le_of_ble_eq_true rfl) dX0_still_9 hlk
set_option maxHeartbeats 800000 in
theorem cf_most (l : Launch) (htr : l.stackTraces = false) (D : va_G) (t : Nat → ClassId) (Z : Nat × Cell) (cb : Nat) (B : BT) (x : Int32) (y : Int32) (z : Int32) (hB : OkB B) : Met l yX0_most (ws_ yX0_most cX0_most 4 (some .int)) ({ frames := 15, cells := 1000, slots := 5000, locals := 385 }) (zPc [.ref cb, .int x, .int y, .int z] (CW D t Z cb B) (KX D t Z)) (va_Qi (fun r u => r = (mostS B x y z).1 ∧ u = (mostS B x y z).2) (fun B' U => CW D t Z cb B' U.heap) (cA cb)) 1000 5000 (cA cb) := by
  refine zOf (cc := cX0_most) (maxL := 4) (ret := (some .int)) (by decide) (Nat.le_of_ble_eq_true rfl) (fun pg ev s m below meth cd ls F hW hK hl hnm => ?_)
  obtain ⟨hx, hb, hml, hown, hts, hr, hlk⟩ := F
  have S : CallFix pg m cd cX0_most 4 s _ lw_all RX0 := ⟨hx, hb, hml, hown, hts⟩
  have hl : lv_has ls 4 [(0, .ref cb), (1, .int x), (2, .int y), (3, .int z)] := hl
  have hKK := hK.1
  have hS : va_S (fA (cA cb) s) s.heap s.heap [] := va_S.rf
  have hno : ¬ ((hoN (isN (B 2) x) y z) : Int32) = 0 → rfOk (hoN (isN (B 2) x) y z) := by intro h; unfold hoN wrS wiS at h ⊢; unfold rfOk; grind
  refine lv_aload_n hx hb dX0_most_0 rfl (lv_at hl 0 rfl) ?_
  refine lv_bipush (v := 15) hx hb dX0_most_1 (by decide) ?_
  refine lv_iload_n hx hb dX0_most_3 rfl (lv_at hl 1 rfl) ?_
  refine lv_iload_n hx hb dX0_most_4 rfl (lv_at hl 2 rfl) ?_
  refine lv_iload_n hx hb dX0_most_5 rfl (lv_at hl 3 rfl) ?_
  refine va_calli (a_runVW (n := 4) (As := [.int 15, .int x, .int y, .int z]) (rest := []) S hK hW (hW.1.recv hKK) (act_h l htr D t Z cb B 15 x y z (by decide) (h9_of hno) (cd_ofHours_most l htr D t Z cb B x y z hB) rfl rfl (Nat.le_of_ble_eq_true rfl) (Nat.le_of_ble_eq_true rfl) (Nat.le_of_ble_eq_true rfl) (Nat.le_of_ble_eq_true rfl)) q325 q322 q324 qs0 q95 rfl rfl (Nat.le_of_ble_eq_true rfl) (Nat.le_of_ble_eq_true rfl) ⟨by decide, by decide⟩ (by decide +kernel) rfl hl.1 rfl (Nat.le_of_ble_eq_true rfl) dX0_most_6 ⟨Nat.le_of_ble_eq_true rfl, Nat.le_of_ble_eq_true rfl⟩) hS (fun q _ h => Or.inl h) (fun q h => Or.inl h) (fun r9 u9 tt H locs ht _ h9 hW _ _ hS => ?_)
  rw [ht] at hW
  obtain ⟨e1, e2⟩ := h9
  have hW : CW D t Z cb u9 H := hW
  rw [acX_op hno, ← (show mostS B x y z = opX (hoN (isN (B 2) x) y z) (((if z = 0 then (mxL (fun k => haS (hrS (B 2) k) x) (-9, -9) (ix y + 1)).1 else (mxL (fun k => haS (hrS (B 2) k) x) (-9, -9) (ix y + 1)).2), B)) B from rfl)] at e1 e2
  exact x_iretC hx hb hr ⟨e1, e2⟩ hW hS (Nat.le_of_ble_eq_true rfl) (Nat.le_of_ble_eq_true rfl) dX0_most_9 hlk
set_option maxHeartbeats 800000 in
theorem cf_lasts (l : Launch) (htr : l.stackTraces = false) (D : va_G) (t : Nat → ClassId) (Z : Nat × Cell) (cb : Nat) (B : BT) (x : Int32) (hB : OkB B) : Met l yX0_lasts (ws_ yX0_lasts cX0_lasts 2 (some .int)) ({ frames := 15, cells := 1000, slots := 5000, locals := 385 }) (zPc [.ref cb, .int x] (CW D t Z cb B) (KX D t Z)) (va_Qi (fun r u => r = (lastS B x).1 ∧ u = (lastS B x).2) (fun B' U => CW D t Z cb B' U.heap) (cA cb)) 1000 5000 (cA cb) := by
  refine zOf (cc := cX0_lasts) (maxL := 2) (ret := (some .int)) (by decide) (Nat.le_of_ble_eq_true rfl) (fun pg ev s m below meth cd ls F hW hK hl hnm => ?_)
  obtain ⟨hx, hb, hml, hown, hts, hr, hlk⟩ := F
  have S : CallFix pg m cd cX0_lasts 2 s _ lw_all RX0 := ⟨hx, hb, hml, hown, hts⟩
  have hl : lv_has ls 2 [(0, .ref cb), (1, .int x)] := hl
  have hKK := hK.1
  have hS : va_S (fA (cA cb) s) s.heap s.heap [] := va_S.rf
  have hno : ¬ ((wiS x 0 60) : Int32) = 0 → rfOk (wiS x 0 60) := by intro h; unfold wiS at h ⊢; unfold rfOk; grind
  refine lv_aload_n hx hb dX0_lasts_0 rfl (lv_at hl 0 rfl) ?_
  refine lv_bipush (v := 16) hx hb dX0_lasts_1 (by decide) ?_
  refine lv_iload_n hx hb dX0_lasts_3 rfl (lv_at hl 1 rfl) ?_
  refine lv_iconst (v := 0) hx hb dX0_lasts_4 (by decide) ?_
  refine lv_iconst (v := 0) hx hb dX0_lasts_5 (by decide) ?_
  refine va_calli (a_runVW (n := 4) (As := [.int 16, .int x, .int 0, .int 0]) (rest := []) S hK hW (hW.1.recv hKK) (act_h l htr D t Z cb B 16 x 0 0 (by decide) (h9_of hno) (cd_ofHours_lasts l htr D t Z cb B x 0 0 hB) rfl rfl (Nat.le_of_ble_eq_true rfl) (Nat.le_of_ble_eq_true rfl) (Nat.le_of_ble_eq_true rfl) (Nat.le_of_ble_eq_true rfl)) q325 q322 q324 qs0 q95 rfl rfl (Nat.le_of_ble_eq_true rfl) (Nat.le_of_ble_eq_true rfl) ⟨by decide, by decide⟩ (by decide +kernel) rfl hl.1 rfl (Nat.le_of_ble_eq_true rfl) dX0_lasts_6 ⟨Nat.le_of_ble_eq_true rfl, Nat.le_of_ble_eq_true rfl⟩) hS (fun q _ h => Or.inl h) (fun q h => Or.inl h) (fun r9 u9 tt H locs ht _ h9 hW _ _ hS => ?_)
  rw [ht] at hW
  obtain ⟨e1, e2⟩ := h9
  have hW : CW D t Z cb u9 H := hW
  rw [acX_op hno, ← (show lastS B x = opX (wiS x 0 60) (((mxL (fun i => haS (hrS (B 2) (ix x)) (nI i)) (-9, 0) (nS (B 2))).1, B)) B from rfl)] at e1 e2
  exact x_iretC hx hb hr ⟨e1, e2⟩ hW hS (Nat.le_of_ble_eq_true rfl) (Nat.le_of_ble_eq_true rfl) dX0_lasts_9 hlk
set_option maxHeartbeats 800000 in
theorem cf_from (l : Launch) (htr : l.stackTraces = false) (D : va_G) (t : Nat → ClassId) (Z : Nat × Cell) (cb : Nat) (B : BT) (x : Int32) (y : Int32) (hB : OkB B) : Met l yX0_from (ws_ yX0_from cX0_from 3 (some .int)) ({ frames := 15, cells := 1000, slots := 5000, locals := 385 }) (zPc [.ref cb, .int x, .int y] (CW D t Z cb B) (KX D t Z)) (va_Qi (fun r u => r = (fromS B x y false).1 ∧ u = (fromS B x y false).2) (fun B' U => CW D t Z cb B' U.heap) (cA cb)) 1000 5000 (cA cb) := by
  refine zOf (cc := cX0_from) (maxL := 3) (ret := (some .int)) (by decide) (Nat.le_of_ble_eq_true rfl) (fun pg ev s m below meth cd ls F hW hK hl hnm => ?_)
  obtain ⟨hx, hb, hml, hown, hts, hr, hlk⟩ := F
  have S : CallFix pg m cd cX0_from 3 s _ lw_all RX0 := ⟨hx, hb, hml, hown, hts⟩
  have hl : lv_has ls 3 [(0, .ref cb), (1, .int x), (2, .int y)] := hl
  have hKK := hK.1
  have hS : va_S (fA (cA cb) s) s.heap s.heap [] := va_S.rf
  have hno : ¬ ((wrS (isH (B 2) x) y) : Int32) = 0 → rfOk (wrS (isH (B 2) x) y) := by intro h; unfold wrS wiS at h ⊢; unfold rfOk; grind
  refine lv_aload_n hx hb dX0_from_0 rfl (lv_at hl 0 rfl) ?_
  refine lv_bipush (v := 17) hx hb dX0_from_1 (by decide) ?_
  refine lv_iload_n hx hb dX0_from_3 rfl (lv_at hl 1 rfl) ?_
  refine lv_iload_n hx hb dX0_from_4 rfl (lv_at hl 2 rfl) ?_
  refine lv_iconst (v := 0) hx hb dX0_from_5 (by decide) ?_
  refine va_calli (a_runVW (n := 4) (As := [.int 17, .int x, .int y, .int 0]) (rest := []) S hK hW (hW.1.recv hKK) (act_h l htr D t Z cb B 17 x y 0 (by decide) (h9_of hno) (cd_ofHours_from l htr D t Z cb B x y 0 hB) rfl rfl (Nat.le_of_ble_eq_true rfl) (Nat.le_of_ble_eq_true rfl) (Nat.le_of_ble_eq_true rfl) (Nat.le_of_ble_eq_true rfl)) q325 q322 q324 qs0 q95 rfl rfl (Nat.le_of_ble_eq_true rfl) (Nat.le_of_ble_eq_true rfl) ⟨by decide, by decide⟩ (by decide +kernel) rfl hl.1 rfl (Nat.le_of_ble_eq_true rfl) dX0_from_6 ⟨Nat.le_of_ble_eq_true rfl, Nat.le_of_ble_eq_true rfl⟩) hS (fun q _ h => Or.inl h) (fun q h => Or.inl h) (fun r9 u9 tt H locs ht _ h9 hW _ _ hS => ?_)
  rw [ht] at hW
  obtain ⟨e1, e2⟩ := h9
  have hW : CW D t Z cb u9 H := hW
  rw [acX_op hno, ← (show fromS B x y false = opX (wrS (isH (B 2) x) y) ((fromV (B 2) x y false, B)) B from rfl)] at e1 e2
  exact x_iretC hx hb hr ⟨e1, e2⟩ hW hS (Nat.le_of_ble_eq_true rfl) (Nat.le_of_ble_eq_true rfl) dX0_from_9 hlk
set_option maxHeartbeats 800000 in
theorem cf_first (l : Launch) (htr : l.stackTraces = false) (D : va_G) (t : Nat → ClassId) (Z : Nat × Cell) (cb : Nat) (B : BT) (x : Int32) (y : Int32) (hB : OkB B) : Met l yX0_first (ws_ yX0_first cX0_first 3 (some .int)) ({ frames := 15, cells := 1000, slots := 5000, locals := 385 }) (zPc [.ref cb, .int x, .int y] (CW D t Z cb B) (KX D t Z)) (va_Qi (fun r u => r = (fromS B x y true).1 ∧ u = (fromS B x y true).2) (fun B' U => CW D t Z cb B' U.heap) (cA cb)) 1000 5000 (cA cb) := by
  refine zOf (cc := cX0_first) (maxL := 3) (ret := (some .int)) (by decide) (Nat.le_of_ble_eq_true rfl) (fun pg ev s m below meth cd ls F hW hK hl hnm => ?_)
  obtain ⟨hx, hb, hml, hown, hts, hr, hlk⟩ := F
  have S : CallFix pg m cd cX0_first 3 s _ lw_all RX0 := ⟨hx, hb, hml, hown, hts⟩
  have hl : lv_has ls 3 [(0, .ref cb), (1, .int x), (2, .int y)] := hl
  have hKK := hK.1
  have hS : va_S (fA (cA cb) s) s.heap s.heap [] := va_S.rf
  have hno : ¬ ((wrS (isH (B 2) x) y) : Int32) = 0 → rfOk (wrS (isH (B 2) x) y) := by intro h; unfold wrS wiS at h ⊢; unfold rfOk; grind
  refine lv_aload_n hx hb dX0_first_0 rfl (lv_at hl 0 rfl) ?_
  refine lv_bipush (v := 18) hx hb dX0_first_1 (by decide) ?_
  refine lv_iload_n hx hb dX0_first_3 rfl (lv_at hl 1 rfl) ?_
  refine lv_iload_n hx hb dX0_first_4 rfl (lv_at hl 2 rfl) ?_
  refine lv_iconst (v := 0) hx hb dX0_first_5 (by decide) ?_
  refine va_calli (a_runVW (n := 4) (As := [.int 18, .int x, .int y, .int 0]) (rest := []) S hK hW (hW.1.recv hKK) (act_h l htr D t Z cb B 18 x y 0 (by decide) (h9_of hno) (cd_ofHours_first l htr D t Z cb B x y 0 hB) rfl rfl (Nat.le_of_ble_eq_true rfl) (Nat.le_of_ble_eq_true rfl) (Nat.le_of_ble_eq_true rfl) (Nat.le_of_ble_eq_true rfl)) q325 q322 q324 qs0 q95 rfl rfl (Nat.le_of_ble_eq_true rfl) (Nat.le_of_ble_eq_true rfl) ⟨by decide, by decide⟩ (by decide +kernel) rfl hl.1 rfl (Nat.le_of_ble_eq_true rfl) dX0_first_6 ⟨Nat.le_of_ble_eq_true rfl, Nat.le_of_ble_eq_true rfl⟩) hS (fun q _ h => Or.inl h) (fun q h => Or.inl h) (fun r9 u9 tt H locs ht _ h9 hW _ _ hS => ?_)
  rw [ht] at hW
  obtain ⟨e1, e2⟩ := h9
  have hW : CW D t Z cb u9 H := hW
  rw [acX_op hno, ← (show fromS B x y true = opX (wrS (isH (B 2) x) y) ((fromV (B 2) x y true, B)) B from rfl)] at e1 e2
  exact x_iretC hx hb hr ⟨e1, e2⟩ hW hS (Nat.le_of_ble_eq_true rfl) (Nat.le_of_ble_eq_true rfl) dX0_first_9 hlk
set_option maxHeartbeats 800000 in
theorem cf_rid (l : Launch) (htr : l.stackTraces = false) (D : va_G) (t : Nat → ClassId) (Z : Nat × Cell) (cb : Nat) (B : BT) (x : Int32) (y : Int32) (hB : OkB B) : Met l yX0_rid (ws_ yX0_rid cX0_rid 3 (some .int)) ({ frames := 15, cells := 1000, slots := 5000, locals := 385 }) (zPc [.ref cb, .int x, .int y] (CW D t Z cb B) (KX D t Z)) (va_Qi (fun r u => r = (ridS B x y).1 ∧ u = (ridS B x y).2) (fun B' U => CW D t Z cb B' U.heap) (cA cb)) 1000 5000 (cA cb) := by
  refine zOf (cc := cX0_rid) (maxL := 3) (ret := (some .int)) (by decide) (Nat.le_of_ble_eq_true rfl) (fun pg ev s m below meth cd ls F hW hK hl hnm => ?_)
  obtain ⟨hx, hb, hml, hown, hts, hr, hlk⟩ := F
  have S : CallFix pg m cd cX0_rid 3 s _ lw_all RX0 := ⟨hx, hb, hml, hown, hts⟩
  have hl : lv_has ls 3 [(0, .ref cb), (1, .int x), (2, .int y)] := hl
  have hKK := hK.1
  have hS : va_S (fA (cA cb) s) s.heap s.heap [] := va_S.rf
  have hno : ¬ ((riN (B 2) x y) : Int32) = 0 → rfOk (riN (B 2) x y) := by intro h; unfold riN at h ⊢; unfold rfOk; grind
  refine lv_aload_n hx hb dX0_rid_0 rfl (lv_at hl 0 rfl) ?_
  refine lv_bipush (v := 19) hx hb dX0_rid_1 (by decide) ?_
  refine lv_iload_n hx hb dX0_rid_3 rfl (lv_at hl 1 rfl) ?_
  refine lv_iload_n hx hb dX0_rid_4 rfl (lv_at hl 2 rfl) ?_
  refine lv_iconst (v := 0) hx hb dX0_rid_5 (by decide) ?_
  refine va_calli (a_runVW (n := 4) (As := [.int 19, .int x, .int y, .int 0]) (rest := []) S hK hW (hW.1.recv hKK) (act_h l htr D t Z cb B 19 x y 0 (by decide) (h9_of hno) (cd_ofHours_rid l htr D t Z cb B x y 0 hB) rfl rfl (Nat.le_of_ble_eq_true rfl) (Nat.le_of_ble_eq_true rfl) (Nat.le_of_ble_eq_true rfl) (Nat.le_of_ble_eq_true rfl)) q325 q322 q324 qs0 q95 rfl rfl (Nat.le_of_ble_eq_true rfl) (Nat.le_of_ble_eq_true rfl) ⟨by decide, by decide⟩ (by decide +kernel) rfl hl.1 rfl (Nat.le_of_ble_eq_true rfl) dX0_rid_6 ⟨Nat.le_of_ble_eq_true rfl, Nat.le_of_ble_eq_true rfl⟩) hS (fun q _ h => Or.inl h) (fun q h => Or.inl h) (fun r9 u9 tt H locs ht _ h9 hW _ _ hS => ?_)
  rw [ht] at hW
  obtain ⟨e1, e2⟩ := h9
  have hW : CW D t Z cb u9 H := hW
  rw [acX_op hno, ← (show ridS B x y = opX (riN (B 2) x y) (((if y = 0 then (riP (B 2) (ix x)).1 else (riP (B 2) (ix x)).2), B)) B from rfl)] at e1 e2
  exact x_iretC hx hb hr ⟨e1, e2⟩ hW hS (Nat.le_of_ble_eq_true rfl) (Nat.le_of_ble_eq_true rfl) dX0_rid_9 hlk
set_option maxHeartbeats 800000 in
theorem cf_instead (l : Launch) (htr : l.stackTraces = false) (D : va_G) (t : Nat → ClassId) (Z : Nat × Cell) (cb : Nat) (B : BT) (x : Int32) (hB : OkB B) : Met l yX0_instead (ws_ yX0_instead cX0_instead 2 (some .int)) ({ frames := 15, cells := 1000, slots := 5000, locals := 385 }) (zPc [.ref cb, .int x] (CW D t Z cb B) (KX D t Z)) (va_Qi (fun r u => r = (instS B x).1 ∧ u = (instS B x).2) (fun B' U => CW D t Z cb B' U.heap) (cA cb)) 1000 5000 (cA cb) := by
  refine zOf (cc := cX0_instead) (maxL := 2) (ret := (some .int)) (by decide) (Nat.le_of_ble_eq_true rfl) (fun pg ev s m below meth cd ls F hW hK hl hnm => ?_)
  obtain ⟨hx, hb, hml, hown, hts, hr, hlk⟩ := F
  have S : CallFix pg m cd cX0_instead 2 s _ lw_all RX0 := ⟨hx, hb, hml, hown, hts⟩
  have hl : lv_has ls 2 [(0, .ref cb), (1, .int x)] := hl
  have hKK := hK.1
  have hS : va_S (fA (cA cb) s) s.heap s.heap [] := va_S.rf
  have hno : ¬ ((inN (B 2) x) : Int32) = 0 → rfOk (inN (B 2) x) := by intro h; unfold inN at h ⊢; unfold rfOk; grind
  refine lv_aload_n hx hb dX0_instead_0 rfl (lv_at hl 0 rfl) ?_
  refine lv_bipush (v := 20) hx hb dX0_instead_1 (by decide) ?_
  refine lv_iload_n hx hb dX0_instead_3 rfl (lv_at hl 1 rfl) ?_
  refine lv_iconst (v := 0) hx hb dX0_instead_4 (by decide) ?_
  refine lv_iconst (v := 0) hx hb dX0_instead_5 (by decide) ?_
  refine va_calli (a_runVW (n := 4) (As := [.int 20, .int x, .int 0, .int 0]) (rest := []) S hK hW (hW.1.recv hKK) (act_h l htr D t Z cb B 20 x 0 0 (by decide) (h9_of hno) (cd_ofHours_instead l htr D t Z cb B x 0 0 hB) rfl rfl (Nat.le_of_ble_eq_true rfl) (Nat.le_of_ble_eq_true rfl) (Nat.le_of_ble_eq_true rfl) (Nat.le_of_ble_eq_true rfl)) q325 q322 q324 qs0 q95 rfl rfl (Nat.le_of_ble_eq_true rfl) (Nat.le_of_ble_eq_true rfl) ⟨by decide, by decide⟩ (by decide +kernel) rfl hl.1 rfl (Nat.le_of_ble_eq_true rfl) dX0_instead_6 ⟨Nat.le_of_ble_eq_true rfl, Nat.le_of_ble_eq_true rfl⟩) hS (fun q _ h => Or.inl h) (fun q h => Or.inl h) (fun r9 u9 tt H locs ht _ h9 hW _ _ hS => ?_)
  rw [ht] at hW
  obtain ⟨e1, e2⟩ := h9
  have hW : CW D t Z cb u9 H := hW
  rw [acX_op hno, ← (show instS B x = opX (inN (B 2) x) (((inP (B 2) (ix x)).1, B)) B from rfl)] at e1 e2
  exact x_iretC hx hb hr ⟨e1, e2⟩ hW hS (Nat.le_of_ble_eq_true rfl) (Nat.le_of_ble_eq_true rfl) dX0_instead_9 hlk
set_option maxHeartbeats 800000 in
theorem cf_shut (l : Launch) (htr : l.stackTraces = false) (D : va_G) (t : Nat → ClassId) (Z : Nat × Cell) (cb : Nat) (B : BT) (x : Int32) (hB : OkB B) : Met l yX0_shut (ws_ yX0_shut cX0_shut 2 (some .int)) ({ frames := 15, cells := 1000, slots := 5000, locals := 385 }) (zPc [.ref cb, .int x] (CW D t Z cb B) (KX D t Z)) (va_Qi (fun r u => r = (shutS B x).1 ∧ u = (shutS B x).2) (fun B' U => CW D t Z cb B' U.heap) (cA cb)) 1000 5000 (cA cb) := by
  refine zOf (cc := cX0_shut) (maxL := 2) (ret := (some .int)) (by decide) (Nat.le_of_ble_eq_true rfl) (fun pg ev s m below meth cd ls F hW hK hl hnm => ?_)
  obtain ⟨hx, hb, hml, hown, hts, hr, hlk⟩ := F
  have S : CallFix pg m cd cX0_shut 2 s _ lw_all RX0 := ⟨hx, hb, hml, hown, hts⟩
  have hl : lv_has ls 2 [(0, .ref cb), (1, .int x)] := hl
  have hKK := hK.1
  have hS : va_S (fA (cA cb) s) s.heap s.heap [] := va_S.rf
  have hno : ¬ ((wiS x 0 60) : Int32) = 0 → rfOk (wiS x 0 60) := by intro h; unfold wiS at h ⊢; unfold rfOk; grind
  refine lv_aload_n hx hb dX0_shut_0 rfl (lv_at hl 0 rfl) ?_
  refine lv_bipush (v := 21) hx hb dX0_shut_1 (by decide) ?_
  refine lv_iload_n hx hb dX0_shut_3 rfl (lv_at hl 1 rfl) ?_
  refine lv_iconst (v := 0) hx hb dX0_shut_4 (by decide) ?_
  refine lv_iconst (v := 0) hx hb dX0_shut_5 (by decide) ?_
  refine va_calli (a_runVW (n := 4) (As := [.int 21, .int x, .int 0, .int 0]) (rest := []) S hK hW (hW.1.recv hKK) (act_r l htr D t Z cb B 21 x 0 0 (by decide) (h9_of hno) (cd_ofRest_shut l htr D t Z cb B x 0 0 hB) rfl rfl (Nat.le_of_ble_eq_true rfl) (Nat.le_of_ble_eq_true rfl) (Nat.le_of_ble_eq_true rfl) (Nat.le_of_ble_eq_true rfl)) q325 q322 q324 qs0 q95 rfl rfl (Nat.le_of_ble_eq_true rfl) (Nat.le_of_ble_eq_true rfl) ⟨by decide, by decide⟩ (by decide +kernel) rfl hl.1 rfl (Nat.le_of_ble_eq_true rfl) dX0_shut_6 ⟨Nat.le_of_ble_eq_true rfl, Nat.le_of_ble_eq_true rfl⟩) hS (fun q _ h => Or.inl h) (fun q h => Or.inl h) (fun r9 u9 tt H locs ht _ h9 hW _ _ hS => ?_)
  rw [ht] at hW
  obtain ⟨e1, e2⟩ := h9
  have hW : CW D t Z cb u9 H := hW
  rw [acX_op hno, ← (show shutS B x = opX (wiS x 0 60) (((shP (B 2) (ix x)).1, B)) B from rfl)] at e1 e2
  exact x_iretC hx hb hr ⟨e1, e2⟩ hW hS (Nat.le_of_ble_eq_true rfl) (Nat.le_of_ble_eq_true rfl) dX0_shut_9 hlk
set_option maxHeartbeats 800000 in
theorem cf_seats (l : Launch) (htr : l.stackTraces = false) (D : va_G) (t : Nat → ClassId) (Z : Nat × Cell) (cb : Nat) (B : BT) (x : Int32) (hB : OkB B) : Met l yX0_seats (ws_ yX0_seats cX0_seats 2 (some .int)) ({ frames := 15, cells := 1000, slots := 5000, locals := 385 }) (zPc [.ref cb, .int x] (CW D t Z cb B) (KX D t Z)) (va_Qi (fun r u => r = (seatS B x).1 ∧ u = (seatS B x).2) (fun B' U => CW D t Z cb B' U.heap) (cA cb)) 1000 5000 (cA cb) := by
  refine zOf (cc := cX0_seats) (maxL := 2) (ret := (some .int)) (by decide) (Nat.le_of_ble_eq_true rfl) (fun pg ev s m below meth cd ls F hW hK hl hnm => ?_)
  obtain ⟨hx, hb, hml, hown, hts, hr, hlk⟩ := F
  have S : CallFix pg m cd cX0_seats 2 s _ lw_all RX0 := ⟨hx, hb, hml, hown, hts⟩
  have hl : lv_has ls 2 [(0, .ref cb), (1, .int x)] := hl
  have hKK := hK.1
  have hS : va_S (fA (cA cb) s) s.heap s.heap [] := va_S.rf
  have hno : ¬ ((wiS x 0 60) : Int32) = 0 → rfOk (wiS x 0 60) := by intro h; unfold wiS at h ⊢; unfold rfOk; grind
  refine lv_aload_n hx hb dX0_seats_0 rfl (lv_at hl 0 rfl) ?_
  refine lv_bipush (v := 22) hx hb dX0_seats_1 (by decide) ?_
  refine lv_iload_n hx hb dX0_seats_3 rfl (lv_at hl 1 rfl) ?_
  refine lv_iconst (v := 0) hx hb dX0_seats_4 (by decide) ?_
  refine lv_iconst (v := 0) hx hb dX0_seats_5 (by decide) ?_
  refine va_calli (a_runVW (n := 4) (As := [.int 22, .int x, .int 0, .int 0]) (rest := []) S hK hW (hW.1.recv hKK) (act_r l htr D t Z cb B 22 x 0 0 (by decide) (h9_of hno) (cd_ofRest_seats l htr D t Z cb B x 0 0 hB) rfl rfl (Nat.le_of_ble_eq_true rfl) (Nat.le_of_ble_eq_true rfl) (Nat.le_of_ble_eq_true rfl) (Nat.le_of_ble_eq_true rfl)) q325 q322 q324 qs0 q95 rfl rfl (Nat.le_of_ble_eq_true rfl) (Nat.le_of_ble_eq_true rfl) ⟨by decide, by decide⟩ (by decide +kernel) rfl hl.1 rfl (Nat.le_of_ble_eq_true rfl) dX0_seats_6 ⟨Nat.le_of_ble_eq_true rfl, Nat.le_of_ble_eq_true rfl⟩) hS (fun q _ h => Or.inl h) (fun q h => Or.inl h) (fun r9 u9 tt H locs ht _ h9 hW _ _ hS => ?_)
  rw [ht] at hW
  obtain ⟨e1, e2⟩ := h9
  have hW : CW D t Z cb u9 H := hW
  rw [acX_op hno, ← (show seatS B x = opX (wiS x 0 60) (((seP (B 2) (ix x)).1, B)) B from rfl)] at e1 e2
  exact x_iretC hx hb hr ⟨e1, e2⟩ hW hS (Nat.le_of_ble_eq_true rfl) (Nat.le_of_ble_eq_true rfl) dX0_seats_9 hlk
set_option maxHeartbeats 800000 in
theorem cf_write (l : Launch) (htr : l.stackTraces = false) (D : va_G) (t : Nat → ClassId) (Z : Nat × Cell) (cb : Nat) (B : BT) (x : Int32) (y : Int32) (z : Int32) (hB : OkB B) : Met l yX0_write (ws_ yX0_write cX0_write 4 (some .int)) ({ frames := 15, cells := 1000, slots := 5000, locals := 385 }) (zPc [.ref cb, .int x, .int y, .int z] (CW D t Z cb B) (KX D t Z)) (va_Qi (fun r u => r = (writeS B x y z).1 ∧ u = (writeS B x y z).2) (fun B' U => CW D t Z cb B' U.heap) (cA cb)) 1000 5000 (cA cb) := by
  refine zOf (cc := cX0_write) (maxL := 4) (ret := (some .int)) (by decide) (Nat.le_of_ble_eq_true rfl) (fun pg ev s m below meth cd ls F hW hK hl hnm => ?_)
  obtain ⟨hx, hb, hml, hown, hts, hr, hlk⟩ := F
  have S : CallFix pg m cd cX0_write 4 s _ lw_all RX0 := ⟨hx, hb, hml, hown, hts⟩
  have hl : lv_has ls 4 [(0, .ref cb), (1, .int x), (2, .int y), (3, .int z)] := hl
  have hKK := hK.1
  have hS : va_S (fA (cA cb) s) s.heap s.heap [] := va_S.rf
  have hno : ¬ ((wtN (B 2) x y z) : Int32) = 0 → rfOk (wtN (B 2) x y z) := by intro h; unfold wtN at h ⊢; unfold rfOk; grind
  refine lv_aload_n hx hb dX0_write_0 rfl (lv_at hl 0 rfl) ?_
  refine lv_bipush (v := 23) hx hb dX0_write_1 (by decide) ?_
  refine lv_iload_n hx hb dX0_write_3 rfl (lv_at hl 1 rfl) ?_
  refine lv_iload_n hx hb dX0_write_4 rfl (lv_at hl 2 rfl) ?_
  refine lv_iload_n hx hb dX0_write_5 rfl (lv_at hl 3 rfl) ?_
  refine va_calli (a_runVW (n := 4) (As := [.int 23, .int x, .int y, .int z]) (rest := []) S hK hW (hW.1.recv hKK) (act_r l htr D t Z cb B 23 x y z (by decide) (h9_of hno) (cd_ofRest_write l htr D t Z cb B x y z hB) rfl rfl (Nat.le_of_ble_eq_true rfl) (Nat.le_of_ble_eq_true rfl) (Nat.le_of_ble_eq_true rfl) (Nat.le_of_ble_eq_true rfl)) q325 q322 q324 qs0 q95 rfl rfl (Nat.le_of_ble_eq_true rfl) (Nat.le_of_ble_eq_true rfl) ⟨by decide, by decide⟩ (by decide +kernel) rfl hl.1 rfl (Nat.le_of_ble_eq_true rfl) dX0_write_6 ⟨Nat.le_of_ble_eq_true rfl, Nat.le_of_ble_eq_true rfl⟩) hS (fun q _ h => Or.inl h) (fun q h => Or.inl h) (fun r9 u9 tt H locs ht _ h9 hW _ _ hS => ?_)
  rw [ht] at hW
  obtain ⟨e1, e2⟩ := h9
  have hW : CW D t Z cb u9 H := hW
  rw [acX_op hno, ← (show writeS B x y z = opX (wtN (B 2) x y z) (((if z = 0 then (wtP (B 2) x (ix y)).1 else (wtP (B 2) x (ix y)).2), B)) B from rfl)] at e1 e2
  exact x_iretC hx hb hr ⟨e1, e2⟩ hW hS (Nat.le_of_ble_eq_true rfl) (Nat.le_of_ble_eq_true rfl) dX0_write_9 hlk
set_option maxHeartbeats 800000 in
theorem cf_row (l : Launch) (htr : l.stackTraces = false) (D : va_G) (t : Nat → ClassId) (Z : Nat × Cell) (cb : Nat) (B : BT) (x : Int32) (hB : OkB B) : Met l yX0_row (ws_ yX0_row cX0_row 2 (some .int)) ({ frames := 15, cells := 1000, slots := 5000, locals := 385 }) (zPc [.ref cb, .int x] (CW D t Z cb B) (KX D t Z)) (va_Qi (fun r u => r = (rowS B x).1 ∧ u = (rowS B x).2) (fun B' U => CW D t Z cb B' U.heap) (cA cb)) 1000 5000 (cA cb) := by
  refine zOf (cc := cX0_row) (maxL := 2) (ret := (some .int)) (by decide) (Nat.le_of_ble_eq_true rfl) (fun pg ev s m below meth cd ls F hW hK hl hnm => ?_)
  obtain ⟨hx, hb, hml, hown, hts, hr, hlk⟩ := F
  have S : CallFix pg m cd cX0_row 2 s _ lw_all RX0 := ⟨hx, hb, hml, hown, hts⟩
  have hl : lv_has ls 2 [(0, .ref cb), (1, .int x)] := hl
  have hKK := hK.1
  have hS : va_S (fA (cA cb) s) s.heap s.heap [] := va_S.rf
  have hno : ¬ ((rwN B x) : Int32) = 0 → rfOk (rwN B x) := by intro h; unfold rwN wiS at h ⊢; unfold rfOk; grind
  refine lv_aload_n hx hb dX0_row_0 rfl (lv_at hl 0 rfl) ?_
  refine lv_bipush (v := 24) hx hb dX0_row_1 (by decide) ?_
  refine lv_iload_n hx hb dX0_row_3 rfl (lv_at hl 1 rfl) ?_
  refine lv_iconst (v := 0) hx hb dX0_row_4 (by decide) ?_
  refine lv_iconst (v := 0) hx hb dX0_row_5 (by decide) ?_
  refine va_calli (a_runVW (n := 4) (As := [.int 24, .int x, .int 0, .int 0]) (rest := []) S hK hW (hW.1.recv hKK) (act_r l htr D t Z cb B 24 x 0 0 (by decide) (h9_of hno) (cd_ofRest_row l htr D t Z cb B x 0 0 hB) rfl rfl (Nat.le_of_ble_eq_true rfl) (Nat.le_of_ble_eq_true rfl) (Nat.le_of_ble_eq_true rfl) (Nat.le_of_ble_eq_true rfl)) q325 q322 q324 qs0 q95 rfl rfl (Nat.le_of_ble_eq_true rfl) (Nat.le_of_ble_eq_true rfl) ⟨by decide, by decide⟩ (by decide +kernel) rfl hl.1 rfl (Nat.le_of_ble_eq_true rfl) dX0_row_6 ⟨Nat.le_of_ble_eq_true rfl, Nat.le_of_ble_eq_true rfl⟩) hS (fun q _ h => Or.inl h) (fun q h => Or.inl h) (fun r9 u9 tt H locs ht _ h9 hW _ _ hS => ?_)
  rw [ht] at hW
  obtain ⟨e1, e2⟩ := h9
  have hW : CW D t Z cb u9 H := hW
  rw [acX_op hno, ← (show rowS B x = opX (rwN B x) (uRow B x) B from rfl)] at e1 e2
  exact x_iretC hx hb hr ⟨e1, e2⟩ hW hS (Nat.le_of_ble_eq_true rfl) (Nat.le_of_ble_eq_true rfl) dX0_row_9 hlk
set_option maxHeartbeats 800000 in
theorem cf_otherwise (l : Launch) (htr : l.stackTraces = false) (D : va_G) (t : Nat → ClassId) (Z : Nat × Cell) (cb : Nat) (B : BT) (x : Int32) (y : Int32) (hB : OkB B) : Met l yX0_otherwise (ws_ yX0_otherwise cX0_otherwise 3 (some .int)) ({ frames := 15, cells := 1000, slots := 5000, locals := 385 }) (zPc [.ref cb, .int x, .int y] (CW D t Z cb B) (KX D t Z)) (va_Qi (fun r u => r = (otherS B x y).1 ∧ u = (otherS B x y).2) (fun B' U => CW D t Z cb B' U.heap) (cA cb)) 1000 5000 (cA cb) := by
  refine zOf (cc := cX0_otherwise) (maxL := 3) (ret := (some .int)) (by decide) (Nat.le_of_ble_eq_true rfl) (fun pg ev s m below meth cd ls F hW hK hl hnm => ?_)
  obtain ⟨hx, hb, hml, hown, hts, hr, hlk⟩ := F
  have S : CallFix pg m cd cX0_otherwise 3 s _ lw_all RX0 := ⟨hx, hb, hml, hown, hts⟩
  have hl : lv_has ls 3 [(0, .ref cb), (1, .int x), (2, .int y)] := hl
  have hKK := hK.1
  have hS : va_S (fA (cA cb) s) s.heap s.heap [] := va_S.rf
  have hno : ¬ ((otN B x y) : Int32) = 0 → rfOk (otN B x y) := by intro h; unfold otN wiS at h ⊢; unfold rfOk; grind
  refine lv_aload_n hx hb dX0_otherwise_0 rfl (lv_at hl 0 rfl) ?_
  refine lv_bipush (v := 25) hx hb dX0_otherwise_1 (by decide) ?_
  refine lv_iload_n hx hb dX0_otherwise_3 rfl (lv_at hl 1 rfl) ?_
  refine lv_iload_n hx hb dX0_otherwise_4 rfl (lv_at hl 2 rfl) ?_
  refine lv_iconst (v := 0) hx hb dX0_otherwise_5 (by decide) ?_
  refine va_calli (a_runVW (n := 4) (As := [.int 25, .int x, .int y, .int 0]) (rest := []) S hK hW (hW.1.recv hKK) (act_r l htr D t Z cb B 25 x y 0 (by decide) (h9_of hno) (cd_ofRest_otherwise l htr D t Z cb B x y 0 hB) rfl rfl (Nat.le_of_ble_eq_true rfl) (Nat.le_of_ble_eq_true rfl) (Nat.le_of_ble_eq_true rfl) (Nat.le_of_ble_eq_true rfl)) q325 q322 q324 qs0 q95 rfl rfl (Nat.le_of_ble_eq_true rfl) (Nat.le_of_ble_eq_true rfl) ⟨by decide, by decide⟩ (by decide +kernel) rfl hl.1 rfl (Nat.le_of_ble_eq_true rfl) dX0_otherwise_6 ⟨Nat.le_of_ble_eq_true rfl, Nat.le_of_ble_eq_true rfl⟩) hS (fun q _ h => Or.inl h) (fun q h => Or.inl h) (fun r9 u9 tt H locs ht _ h9 hW _ _ hS => ?_)
  rw [ht] at hW
  obtain ⟨e1, e2⟩ := h9
  have hW : CW D t Z cb u9 H := hW
  rw [acX_op hno, ← (show otherS B x y = opX (otN B x y) (((if y = 0 then nI (otL (otF (B 13) (B 2) (ix x)) (10 * nH (B 2))).1 else (otL (otF (B 13) (B 2) (ix x)) (10 * nH (B 2))).2), B)) B from rfl)] at e1 e2
  exact x_iretC hx hb hr ⟨e1, e2⟩ hW hS (Nat.le_of_ble_eq_true rfl) (Nat.le_of_ble_eq_true rfl) dX0_otherwise_9 hlk
set_option maxHeartbeats 800000 in
theorem cf_judge (l : Launch) (htr : l.stackTraces = false) (D : va_G) (t : Nat → ClassId) (Z : Nat × Cell) (cb : Nat) (B : BT) (hB : OkB B) : Met l yX0_judge (ws_ yX0_judge cX0_judge 1 (some .int)) ({ frames := 15, cells := 1000, slots := 5000, locals := 385 }) (zPc [.ref cb] (CW D t Z cb B) (KX D t Z)) (va_Qi (fun r u => r = (judS B).1 ∧ u = (judS B).2) (fun B' U => CW D t Z cb B' U.heap) (cA cb)) 1000 5000 (cA cb) := by
  refine zOf (cc := cX0_judge) (maxL := 1) (ret := (some .int)) (by decide) (Nat.le_of_ble_eq_true rfl) (fun pg ev s m below meth cd ls F hW hK hl hnm => ?_)
  obtain ⟨hx, hb, hml, hown, hts, hr, hlk⟩ := F
  have S : CallFix pg m cd cX0_judge 1 s _ lw_all RX0 := ⟨hx, hb, hml, hown, hts⟩
  have hl : lv_has ls 1 [(0, .ref cb)] := hl
  have hKK := hK.1
  have hS : va_S (fA (cA cb) s) s.heap s.heap [] := va_S.rf
  have hno : ¬ (0 : Int32) = 0 → rfOk (0) := by intro h; exact absurd rfl h
  refine lv_aload_n hx hb dX0_judge_0 rfl (lv_at hl 0 rfl) ?_
  refine lv_bipush (v := 26) hx hb dX0_judge_1 (by decide) ?_
  refine lv_iconst (v := 0) hx hb dX0_judge_3 (by decide) ?_
  refine lv_iconst (v := 0) hx hb dX0_judge_4 (by decide) ?_
  refine lv_iconst (v := 0) hx hb dX0_judge_5 (by decide) ?_
  refine va_calli (a_runVW (n := 4) (As := [.int 26, .int 0, .int 0, .int 0]) (rest := []) S hK hW (hW.1.recv hKK) (act_r l htr D t Z cb B 26 0 0 0 (by decide) (h9_of hno) (cd_ofRest_judge l htr D t Z cb B 0 0 0 hB) rfl rfl (Nat.le_of_ble_eq_true rfl) (Nat.le_of_ble_eq_true rfl) (Nat.le_of_ble_eq_true rfl) (Nat.le_of_ble_eq_true rfl)) q325 q322 q324 qs0 q95 rfl rfl (Nat.le_of_ble_eq_true rfl) (Nat.le_of_ble_eq_true rfl) ⟨by decide, by decide⟩ (by decide +kernel) rfl hl.1 rfl (Nat.le_of_ble_eq_true rfl) dX0_judge_6 ⟨Nat.le_of_ble_eq_true rfl, Nat.le_of_ble_eq_true rfl⟩) hS (fun q _ h => Or.inl h) (fun q h => Or.inl h) (fun r9 u9 tt H locs ht _ h9 hW _ _ hS => ?_)
  rw [ht] at hW
  obtain ⟨e1, e2⟩ := h9
  have hW : CW D t Z cb u9 H := hW
  rw [acX_op hno, ← (show judS B = opX 0 (judS B) B from (if_pos rfl).symm)] at e1 e2
  exact x_iretC hx hb hr ⟨e1, e2⟩ hW hS (Nat.le_of_ble_eq_true rfl) (Nat.le_of_ble_eq_true rfl) dX0_judge_9 hlk
set_option maxHeartbeats 800000 in
theorem cf_seeds (l : Launch) (htr : l.stackTraces = false) (D : va_G) (t : Nat → ClassId) (Z : Nat × Cell) (cb : Nat) (B : BT) (x : Int32) (y : Int32) (hB : OkB B) : Met l yX0_seeds (ws_ yX0_seeds cX0_seeds 3 (some .int)) ({ frames := 15, cells := 1000, slots := 5000, locals := 385 }) (zPc [.ref cb, .int x, .int y] (CW D t Z cb B) (KX D t Z)) (va_Qi (fun r u => r = (seedS B x y).1 ∧ u = (seedS B x y).2) (fun B' U => CW D t Z cb B' U.heap) (cA cb)) 1000 5000 (cA cb) := by
  refine zOf (cc := cX0_seeds) (maxL := 3) (ret := (some .int)) (by decide) (Nat.le_of_ble_eq_true rfl) (fun pg ev s m below meth cd ls F hW hK hl hnm => ?_)
  obtain ⟨hx, hb, hml, hown, hts, hr, hlk⟩ := F
  have S : CallFix pg m cd cX0_seeds 3 s _ lw_all RX0 := ⟨hx, hb, hml, hown, hts⟩
  have hl : lv_has ls 3 [(0, .ref cb), (1, .int x), (2, .int y)] := hl
  have hKK := hK.1
  have hS : va_S (fA (cA cb) s) s.heap s.heap [] := va_S.rf
  have hno : ¬ ((wiS x 1 40) : Int32) = 0 → rfOk (wiS x 1 40) := by intro h; unfold wiS at h ⊢; unfold rfOk; grind
  refine lv_aload_n hx hb dX0_seeds_0 rfl (lv_at hl 0 rfl) ?_
  refine lv_bipush (v := 27) hx hb dX0_seeds_1 (by decide) ?_
  refine lv_iload_n hx hb dX0_seeds_3 rfl (lv_at hl 1 rfl) ?_
  refine lv_iload_n hx hb dX0_seeds_4 rfl (lv_at hl 2 rfl) ?_
  refine lv_iconst (v := 0) hx hb dX0_seeds_5 (by decide) ?_
  refine va_calli (a_runVW (n := 4) (As := [.int 27, .int x, .int y, .int 0]) (rest := []) S hK hW (hW.1.recv hKK) (act_r l htr D t Z cb B 27 x y 0 (by decide) (h9_of hno) (cd_ofRest_seeds l htr D t Z cb B x y 0 hB) rfl rfl (Nat.le_of_ble_eq_true rfl) (Nat.le_of_ble_eq_true rfl) (Nat.le_of_ble_eq_true rfl) (Nat.le_of_ble_eq_true rfl)) q325 q322 q324 qs0 q95 rfl rfl (Nat.le_of_ble_eq_true rfl) (Nat.le_of_ble_eq_true rfl) ⟨by decide, by decide⟩ (by decide +kernel) rfl hl.1 rfl (Nat.le_of_ble_eq_true rfl) dX0_seeds_6 ⟨Nat.le_of_ble_eq_true rfl, Nat.le_of_ble_eq_true rfl⟩) hS (fun q _ h => Or.inl h) (fun q h => Or.inl h) (fun r9 u9 tt H locs ht _ h9 hW _ _ hS => ?_)
  rw [ht] at hW
  obtain ⟨e1, e2⟩ := h9
  have hW : CW D t Z cb u9 H := hW
  rw [acX_op hno, ← (show seedS B x y = opX (wiS x 1 40) ((haS (sdL (B 2) y (ix x)).1 (-1), B)) B from rfl)] at e1 e2
  exact x_iretC hx hb hr ⟨e1, e2⟩ hW hS (Nat.le_of_ble_eq_true rfl) (Nat.le_of_ble_eq_true rfl) dX0_seeds_9 hlk
set_option maxHeartbeats 800000 in
theorem cf_image (l : Launch) (htr : l.stackTraces = false) (D : va_G) (t : Nat → ClassId) (Z : Nat × Cell) (cb : Nat) (B : BT) (hB : OkB B) : Met l yX0_image (ws_ yX0_image cX0_image 1 (some .int)) ({ frames := 15, cells := 1000, slots := 5000, locals := 385 }) (zPc [.ref cb] (CW D t Z cb B) (KX D t Z)) (va_Qi (fun r u => r = (imS B).1 ∧ u = (imS B).2) (fun B' U => CW D t Z cb B' U.heap) (cA cb)) 1000 5000 (cA cb) := by
  refine zOf (cc := cX0_image) (maxL := 1) (ret := (some .int)) (by decide) (Nat.le_of_ble_eq_true rfl) (fun pg ev s m below meth cd ls F hW hK hl hnm => ?_)
  obtain ⟨hx, hb, hml, hown, hts, hr, hlk⟩ := F
  have S : CallFix pg m cd cX0_image 1 s _ lw_all RX0 := ⟨hx, hb, hml, hown, hts⟩
  have hl : lv_has ls 1 [(0, .ref cb)] := hl
  have hKK := hK.1
  have hS : va_S (fA (cA cb) s) s.heap s.heap [] := va_S.rf
  have hno : ¬ (0 : Int32) = 0 → rfOk (0) := by intro h; exact absurd rfl h
  refine lv_aload_n hx hb dX0_image_0 rfl (lv_at hl 0 rfl) ?_
  refine lv_bipush (v := 28) hx hb dX0_image_1 (by decide) ?_
  refine lv_iconst (v := 0) hx hb dX0_image_3 (by decide) ?_
  refine lv_iconst (v := 0) hx hb dX0_image_4 (by decide) ?_
  refine lv_iconst (v := 0) hx hb dX0_image_5 (by decide) ?_
  refine va_calli (a_runVW (n := 4) (As := [.int 28, .int 0, .int 0, .int 0]) (rest := []) S hK hW (hW.1.recv hKK) (act_r l htr D t Z cb B 28 0 0 0 (by decide) (h9_of hno) (cd_ofRest_image l htr D t Z cb B 0 0 0 hB) rfl rfl (Nat.le_of_ble_eq_true rfl) (Nat.le_of_ble_eq_true rfl) (Nat.le_of_ble_eq_true rfl) (Nat.le_of_ble_eq_true rfl)) q325 q322 q324 qs0 q95 rfl rfl (Nat.le_of_ble_eq_true rfl) (Nat.le_of_ble_eq_true rfl) ⟨by decide, by decide⟩ (by decide +kernel) rfl hl.1 rfl (Nat.le_of_ble_eq_true rfl) dX0_image_6 ⟨Nat.le_of_ble_eq_true rfl, Nat.le_of_ble_eq_true rfl⟩) hS (fun q _ h => Or.inl h) (fun q h => Or.inl h) (fun r9 u9 tt H locs ht _ h9 hW _ _ hS => ?_)
  rw [ht] at hW
  obtain ⟨e1, e2⟩ := h9
  have hW : CW D t Z cb u9 H := hW
  rw [acX_op hno, ← (show imS B = opX 0 (imS B) B from (if_pos rfl).symm)] at e1 e2
  exact x_iretC hx hb hr ⟨e1, e2⟩ hW hS (Nat.le_of_ble_eq_true rfl) (Nat.le_of_ble_eq_true rfl) dX0_image_9 hlk
set_option maxHeartbeats 800000 in
theorem cf_on (l : Launch) (htr : l.stackTraces = false) (D : va_G) (t : Nat → ClassId) (Z : Nat × Cell) (cb : Nat) (B : BT) (hB : OkB B) : Met l yX0_on (ws_ yX0_on cX0_on 1 (some .int)) ({ frames := 15, cells := 1000, slots := 5000, locals := 385 }) (zPc [.ref cb] (CW D t Z cb B) (KX D t Z)) (va_Qi (fun r u => r = (onS B).1 ∧ u = (onS B).2) (fun B' U => CW D t Z cb B' U.heap) (cA cb)) 1000 5000 (cA cb) := by
  refine zOf (cc := cX0_on) (maxL := 1) (ret := (some .int)) (by decide) (Nat.le_of_ble_eq_true rfl) (fun pg ev s m below meth cd ls F hW hK hl hnm => ?_)
  obtain ⟨hx, hb, hml, hown, hts, hr, hlk⟩ := F
  have S : CallFix pg m cd cX0_on 1 s _ lw_all RX0 := ⟨hx, hb, hml, hown, hts⟩
  have hl : lv_has ls 1 [(0, .ref cb)] := hl
  have hKK := hK.1
  have hS : va_S (fA (cA cb) s) s.heap s.heap [] := va_S.rf
  have hno : ¬ ((nOn B) : Int32) = 0 → rfOk (nOn B) := by intro h; unfold nOn at h ⊢; unfold rfOk; grind
  refine lv_aload_n hx hb dX0_on_0 rfl (lv_at hl 0 rfl) ?_
  refine lv_bipush (v := 29) hx hb dX0_on_1 (by decide) ?_
  refine lv_iconst (v := 0) hx hb dX0_on_3 (by decide) ?_
  refine lv_iconst (v := 0) hx hb dX0_on_4 (by decide) ?_
  refine lv_iconst (v := 0) hx hb dX0_on_5 (by decide) ?_
  refine va_calli (a_runVW (n := 4) (As := [.int 29, .int 0, .int 0, .int 0]) (rest := []) S hK hW (hW.1.recv hKK) (act_r l htr D t Z cb B 29 0 0 0 (by decide) (h9_of hno) (cd_ofRest_on l htr D t Z cb B 0 0 0 hB) rfl rfl (Nat.le_of_ble_eq_true rfl) (Nat.le_of_ble_eq_true rfl) (Nat.le_of_ble_eq_true rfl) (Nat.le_of_ble_eq_true rfl)) q325 q322 q324 qs0 q95 rfl rfl (Nat.le_of_ble_eq_true rfl) (Nat.le_of_ble_eq_true rfl) ⟨by decide, by decide⟩ (by decide +kernel) rfl hl.1 rfl (Nat.le_of_ble_eq_true rfl) dX0_on_6 ⟨Nat.le_of_ble_eq_true rfl, Nat.le_of_ble_eq_true rfl⟩) hS (fun q _ h => Or.inl h) (fun q h => Or.inl h) (fun r9 u9 tt H locs ht _ h9 hW _ _ hS => ?_)
  rw [ht] at hW
  obtain ⟨e1, e2⟩ := h9
  have hW : CW D t Z cb u9 H := hW
  rw [acX_op hno, ← onS_eq B] at e1 e2
  exact x_iretC hx hb hr ⟨e1, e2⟩ hW hS (Nat.le_of_ble_eq_true rfl) (Nat.le_of_ble_eq_true rfl) dX0_on_9 hlk
theorem cnt_0 {B : BT} : B 2 3 = countV B 0 := by
  unfold countV; rw [if_neg (by decide), if_pos rfl]
theorem cnt_1 {B : BT} : B 2 2 = countV B 1 := by
  unfold countV; rw [if_neg (by decide), if_neg (by decide), if_pos rfl]
theorem cnt_2 {B : BT} : B 2 0 = countV B 2 := by
  unfold countV; rw [if_neg (by decide), if_neg (by decide), if_neg (by decide), if_pos rfl]
theorem cnt_3 {B : BT} : nI (poS 8 (ix (B 2 1))) = countV B 3 := by
  unfold countV; rw [if_neg (by decide), if_neg (by decide), if_neg (by decide), if_neg (by decide), if_pos rfl]
theorem cnt_4 {B : BT} : B 2 4 = countV B 4 := by
  unfold countV; rw [if_neg (by decide), if_neg (by decide), if_neg (by decide), if_neg (by decide), if_neg (by decide), if_pos rfl]
theorem cnt_5 {B : BT} : B 2 5 = countV B 5 := by
  unfold countV; rw [if_neg (by decide), if_neg (by decide), if_neg (by decide), if_neg (by decide), if_neg (by decide), if_neg (by decide), if_pos rfl]
theorem cnt_6 {B : BT} : haS (B 2) (-1) = countV B 6 := by
  unfold countV; rw [if_neg (by decide), if_neg (by decide), if_neg (by decide), if_neg (by decide), if_neg (by decide), if_neg (by decide), if_neg (by decide), if_pos rfl]
theorem cnt_7 {B : BT} : stL (B 2) (nH (B 2)) = countV B 7 := by
  unfold countV; rw [if_neg (by decide), if_neg (by decide), if_neg (by decide), if_neg (by decide), if_neg (by decide), if_neg (by decide), if_neg (by decide), if_neg (by decide), if_pos rfl]
theorem cnt_8 {B : BT} : B 0 3 = countV B 8 := by
  unfold countV; rw [if_neg (by decide), if_neg (by decide), if_neg (by decide), if_neg (by decide), if_neg (by decide), if_neg (by decide), if_neg (by decide), if_neg (by decide), if_neg (by decide), if_pos rfl]
theorem cnt_9 {B : BT} : B 0 1 = countV B 9 := by
  unfold countV; rw [if_neg (by decide), if_neg (by decide), if_neg (by decide), if_neg (by decide), if_neg (by decide), if_neg (by decide), if_neg (by decide), if_neg (by decide), if_neg (by decide), if_neg (by decide), if_pos rfl]
theorem cnt_n {B : BT} {x : Int32} (h : ¬ (10 < x ∧ x < 17)) (h0 : ¬ x = 0) (h1 : ¬ x = 1) (h2 : ¬ x = 2) (h3 : ¬ x = 3) (h4 : ¬ x = 4) (h5 : ¬ x = 5) (h6 : ¬ x = 6) (h7 : ¬ x = 7) (h8 : ¬ x = 8) (h9 : ¬ x = 9) : -9 = countV B x := by
  unfold countV; rw [if_neg h, if_neg h0, if_neg h1, if_neg h2, if_neg h3, if_neg h4, if_neg h5, if_neg h6, if_neg h7, if_neg h8, if_neg h9]
theorem in_1116 {x : Int32} : inL x.toInt64 11 16 = decide (10 < x ∧ x < 17) := by
  rw [show (11 : Int64) = (11 : Int32).toInt64 by decide +kernel, show (16 : Int64) = (16 : Int32).toInt64 by decide +kernel, inL_eq, decide_eq_decide]
  have e1 : (11 : Int32).toInt = 11 := by decide +kernel
  have e2 : (16 : Int32).toInt = 16 := by decide +kernel
  have e3 : (10 : Int32).toInt = 10 := by decide +kernel
  have e4 : (17 : Int32).toInt = 17 := by decide +kernel
  rw [Int32.le_iff_toInt_le, Int32.le_iff_toInt_le, Int32.lt_iff_toInt_lt, Int32.lt_iff_toInt_lt, e1, e2, e3, e4]
  omega
theorem sub10 {x : Int32} (h : 10 < x ∧ x < 17) : x - 10 = nI (ix (x - 10)) ∧ ix (x - 10) < 7 := by
  have h0 : 0 ≤ x := Int32.le_trans (by decide) (Int32.le_of_lt h.1)
  obtain ⟨e, hl⟩ := ix_of (n := 17) h0 h.2 (by decide)
  have h10 : 10 < ix x := by
    have := h.1
    rw [e] at this
    exact (nI_ltI (a := 10) (by decide) (by omega)).mp this
  have e2 : x - 10 = nI (ix x - 10) := by rw [e, ix_nI (by omega)]; exact nI_subO (m := ix x) (n := 10) rfl rfl (by omega)
  rw [e2, ix_nI (by omega)]
  exact ⟨rfl, by omega⟩
theorem cnt_d {B : BT} {N : Nat} (h : Ok (B 2) N) : ∃ b, b < 256 ∧ shS (B 2) = nI b ∧ B 2 0 - nI (poS 8 b) = nI (poS 8 (ix (B 2 1))) := by
  have hop := h.op
  obtain ⟨h1, h2, h3⟩ := po_sh (nD (B 2)) h.d8 (ix (B 2 1)) hop.2
  refine ⟨_, h2, by unfold shS; rw [← h1, ← hop.1], ?_⟩
  rw [h.hr0]
  rw [nI_subO rfl rfl (show poS 8 ((2 ^ nD (B 2) - 1) ^^^ ix (B 2 1)) ≤ nD (B 2) by omega)]
  congr 1
  omega
set_option maxHeartbeats 800000 in
theorem cf_count (l : Launch) (htr : l.stackTraces = false) (D : va_G) (t : Nat → ClassId) (Z : Nat × Cell) (cb : Nat) (B : BT) (x : Int32) (hB : OkB B) : Met l yX0_count (ws_ yX0_count cX0_count 2 (some .int)) ({ frames := 1, cells := 0, slots := 0, locals := 25 }) (zPc [.ref cb, .int x] (CM D t Z cb B) (KX D t Z)) (QcRead (countV B x)) 0 0 (fun _ => False) := by
  refine zOf (cc := cX0_count) (maxL := 2) (ret := (some .int)) (by decide) (Nat.le_of_ble_eq_true rfl) (fun pg ev s m below meth cd ls F hC hK hl hnm => ?_)
  obtain ⟨hx, hb, hml, hown, hts, hr, hlk⟩ := F
  have S : CallFix pg m cd cX0_count 2 s _ lw_all RX0 := ⟨hx, hb, hml, hown, hts⟩
  have hl : lv_has ls 2 [(0, .ref cb), (1, .int x)] := hl
  have hKK := hK.1
  have hOk := hB.1
  have hd0 := hOk.hr0
  have hd8 := hOk.d8
  have hh3 := hOk.hr3
  have hh6 := hOk.h6
  have hs2 := hOk.hr2
  have hs5 := hOk.s5
  have hX := hOk.X
  refine lv_iload_n hx hb dX0_count_0 rfl (lv_at hl 1 rfl) ?_
  by_cases c1_0 : x = 0
  · refine lv_tableIn (off := 55) (tgt := 56) hx hb dX0_count_1 (by rw [c1_0]; decide) (by rw [c1_0]; decide) (by rw [c1_0]; rfl) (by decide) ?_
    refine lv_aload_n hx hb dX0_count_56 rfl (lv_at hl 0 rfl) ?_
    refine c_xget (v := .ref (cb + 8)) hx hb hts hown hKK hC 1 (by decide) (Or.inl q284) rfl rfl dX0_count_57 ?_
    refine c_oget (v := .int ((B 2) 3)) hx hb hts hown hKK hC 6 (by decide) (Or.inr ⟨_, q211⟩) rfl (fun _ => rfl) dX0_count_60 ?_
    exact z_iretR hx hb hr (by rw [c1_0, ← cnt_0]) (fun q h => by cases h) rfl dX0_count_63 hlk
  by_cases c1_1 : x = 1
  · refine lv_tableIn (off := 63) (tgt := 64) hx hb dX0_count_1 (by rw [c1_1]; decide) (by rw [c1_1]; decide) (by rw [c1_1]; rfl) (by decide) ?_
    refine lv_aload_n hx hb dX0_count_64 rfl (lv_at hl 0 rfl) ?_
    refine c_xget (v := .ref (cb + 8)) hx hb hts hown hKK hC 1 (by decide) (Or.inl q284) rfl rfl dX0_count_65 ?_
    refine c_oget (v := .int ((B 2) 2)) hx hb hts hown hKK hC 4 (by decide) (Or.inr ⟨_, q204⟩) rfl (fun _ => rfl) dX0_count_68 ?_
    exact z_iretR hx hb hr (by rw [c1_1, ← cnt_1]) (fun q h => by cases h) rfl dX0_count_71 hlk
  by_cases c1_2 : x = 2
  · refine lv_tableIn (off := 71) (tgt := 72) hx hb dX0_count_1 (by rw [c1_2]; decide) (by rw [c1_2]; decide) (by rw [c1_2]; rfl) (by decide) ?_
    refine lv_aload_n hx hb dX0_count_72 rfl (lv_at hl 0 rfl) ?_
    refine c_xget (v := .ref (cb + 8)) hx hb hts hown hKK hC 1 (by decide) (Or.inl q284) rfl rfl dX0_count_73 ?_
    refine c_oget (v := .int ((B 2) 0)) hx hb hts hown hKK hC 0 (by decide) (Or.inr ⟨_, q193⟩) rfl (fun _ => rfl) dX0_count_76 ?_
    exact z_iretR hx hb hr (by rw [c1_2, ← cnt_2]) (fun q h => by cases h) rfl dX0_count_79 hlk
  by_cases c1_3 : x = 3
  · refine lv_tableIn (off := 79) (tgt := 80) hx hb dX0_count_1 (by rw [c1_3]; decide) (by rw [c1_3]; decide) (by rw [c1_3]; rfl) (by decide) ?_
    obtain ⟨b, hb8, hsb, hval⟩ := cnt_d hOk
    refine lv_aload_n hx hb dX0_count_80 rfl (lv_at hl 0 rfl) ?_
    refine c_xget (v := .ref (cb + 8)) hx hb hts hown hKK hC 1 (by decide) (Or.inl q284) rfl rfl dX0_count_81 ?_
    refine c_oget (v := .int ((B 2) 0)) hx hb hts hown hKK hC 0 (by decide) (Or.inr ⟨_, q193⟩) rfl (fun _ => rfl) dX0_count_84 ?_
    refine lv_aload_n hx hb dX0_count_87 rfl (lv_at hl 0 rfl) ?_
    refine c_xget (v := .ref (cb + 8)) hx hb hts hown hKK hC 1 (by decide) (Or.inl q284) rfl rfl dX0_count_88 ?_
    refine c_oget (v := .int (shS (B 2))) hx hb hts hown hKK hC 3 (by decide) (Or.inr ⟨_, q200⟩) rfl (fun _ => rfl) dX0_count_91 ?_
    refine z_top (y := nI b) hsb ?_
    refine g_r (g_runS (As := [.int (nI b)]) (rest := [.int ((B 2) 0)]) S hKK trivial (cx_ones l D t b hb8) (va_cwS 1 hts (lw_S q1232 q1233 q95 q1234) rfl rfl rfl (by decide +kernel) ⟨Nat.le_of_ble_eq_true rfl, Nat.le_of_ble_eq_true rfl⟩) rfl hl.1 rfl (Nat.le_of_ble_eq_true rfl) dX0_count_94 ⟨Nat.le_of_ble_eq_true rfl, Nat.le_of_ble_eq_true rfl⟩) ?_
    refine lv_isub hx hb dX0_count_97 ?_
    refine z_top (y := nI (poS 8 (ix (B 2 1)))) hval ?_
    exact z_iretR hx hb hr (by rw [c1_3, ← cnt_3]) (fun q h => by cases h) rfl dX0_count_98 hlk
  by_cases c1_4 : x = 4
  · refine lv_tableIn (off := 98) (tgt := 99) hx hb dX0_count_1 (by rw [c1_4]; decide) (by rw [c1_4]; decide) (by rw [c1_4]; rfl) (by decide) ?_
    refine lv_aload_n hx hb dX0_count_99 rfl (lv_at hl 0 rfl) ?_
    refine c_xget (v := .ref (cb + 8)) hx hb hts hown hKK hC 1 (by decide) (Or.inl q284) rfl rfl dX0_count_100 ?_
    refine c_oget (v := .int ((B 2) 4)) hx hb hts hown hKK hC 13 (by decide) (Or.inr ⟨_, q229⟩) rfl (fun _ => rfl) dX0_count_103 ?_
    exact z_iretR hx hb hr (by rw [c1_4, ← cnt_4]) (fun q h => by cases h) rfl dX0_count_106 hlk
  by_cases c1_5 : x = 5
  · refine lv_tableIn (off := 106) (tgt := 107) hx hb dX0_count_1 (by rw [c1_5]; decide) (by rw [c1_5]; decide) (by rw [c1_5]; rfl) (by decide) ?_
    refine lv_aload_n hx hb dX0_count_107 rfl (lv_at hl 0 rfl) ?_
    refine c_xget (v := .ref (cb + 8)) hx hb hts hown hKK hC 1 (by decide) (Or.inl q284) rfl rfl dX0_count_108 ?_
    refine c_oget (v := .int ((B 2) 5)) hx hb hts hown hKK hC 14 (by decide) (Or.inr ⟨_, q232⟩) rfl (fun _ => rfl) dX0_count_111 ?_
    exact z_iretR hx hb hr (by rw [c1_5, ← cnt_5]) (fun q h => by cases h) rfl dX0_count_114 hlk
  by_cases c1_6 : x = 6
  · refine lv_tableIn (off := 114) (tgt := 115) hx hb dX0_count_1 (by rw [c1_6]; decide) (by rw [c1_6]; decide) (by rw [c1_6]; rfl) (by decide) ?_
    refine lv_aload_n hx hb dX0_count_115 rfl (lv_at hl 0 rfl) ?_
    refine c_xget (v := .ref (cb + 8)) hx hb hts hown hKK hC 1 (by decide) (Or.inl q284) rfl rfl dX0_count_116 ?_
    refine lv_iconst (v := (-1)) hx hb dX0_count_119 (by decide) ?_
    obtain ⟨sgO, kdO, AO, hV⟩ := hC.2.2.1
    refine g_r (g_runV (As := [.int (-1)]) (rest := []) S hKK hV (hV.recv hKK) (co_X8_have l D t (cb + 8) (cb + 2) (cb + 70) sgO kdO (B 2) AO (-1) 999 hOk) (cwV 1 hts (lw_V q773 q774 q775 q103 q776) rfl rfl rfl (by decide +kernel) ⟨Nat.le_of_ble_eq_true rfl, Nat.le_of_ble_eq_true rfl⟩) rfl hl.1 rfl (Nat.le_of_ble_eq_true rfl) dX0_count_120 ⟨Nat.le_of_ble_eq_true rfl, Nat.le_of_ble_eq_true rfl⟩) ?_
    exact z_iretR hx hb hr (by rw [c1_6, ← cnt_6]) (fun q h => by cases h) rfl dX0_count_123 hlk
  by_cases c1_7 : x = 7
  · refine lv_tableIn (off := 123) (tgt := 124) hx hb dX0_count_1 (by rw [c1_7]; decide) (by rw [c1_7]; decide) (by rw [c1_7]; rfl) (by decide) ?_
    refine lv_aload_n hx hb dX0_count_124 rfl (lv_at hl 0 rfl) ?_
    refine g_r (gx_runV (As := []) (rest := []) S hK hC (hC.recv hKK) (cx_strengthOfAll l htr D t Z cb B hOk) (cwV 0 hts (lw_V q1235 q1237 qs59 q95 q1238) rfl rfl rfl (by decide +kernel) ⟨Nat.le_of_ble_eq_true rfl, Nat.le_of_ble_eq_true rfl⟩) rfl hl.1 rfl (Nat.le_of_ble_eq_true rfl) dX0_count_125 ⟨Nat.le_of_ble_eq_true rfl, Nat.le_of_ble_eq_true rfl⟩) ?_
    exact z_iretR hx hb hr (by rw [c1_7, ← cnt_7]) (fun q h => by cases h) rfl dX0_count_128 hlk
  by_cases c1_8 : x = 8
  · refine lv_tableIn (off := 128) (tgt := 129) hx hb dX0_count_1 (by rw [c1_8]; decide) (by rw [c1_8]; decide) (by rw [c1_8]; rfl) (by decide) ?_
    refine lv_aload_n hx hb dX0_count_129 rfl (lv_at hl 0 rfl) ?_
    refine c_xget (v := .int (B 0 3)) hx hb hts hown hKK hC 6 (by decide) (Or.inl q289) rfl rfl dX0_count_130 ?_
    exact z_iretR hx hb hr (by rw [c1_8, ← cnt_8]) (fun q h => by cases h) rfl dX0_count_133 hlk
  by_cases c1_9 : x = 9
  · refine lv_tableIn (off := 133) (tgt := 134) hx hb dX0_count_1 (by rw [c1_9]; decide) (by rw [c1_9]; decide) (by rw [c1_9]; rfl) (by decide) ?_
    refine lv_aload_n hx hb dX0_count_134 rfl (lv_at hl 0 rfl) ?_
    refine c_xget (v := .int (B 0 1)) hx hb hts hown hKK hC 8 (by decide) (Or.inl q293) rfl rfl dX0_count_135 ?_
    exact z_iretR hx hb hr (by rw [c1_9, ← cnt_9]) (fun q h => by cases h) rfl dX0_count_138 hlk
  refine lv_tableOut (tgt := 139) hx hb dX0_count_1 (z_tabOut (lo := 0) (hi := 9) [0, 1, 2, 3, 4, 5, 6, 7, 8, 9] (by decide) (by decide) ⟨c1_0, c1_1, c1_2, c1_3, c1_4, c1_5, c1_6, c1_7, c1_8, c1_9, trivial⟩) (by decide) ?_
  refine lv_iload_n hx hb dX0_count_139 rfl (lv_at hl 1 rfl) ?_
  refine lv_i2l hx hb dX0_count_140 rfl ?_
  refine lv_ldc2 (v := 11) hx hb hown (hts _ q1239) dX0_count_141 ?_
  refine lv_ldc2 (v := 16) hx hb hown (hts _ q1240) dX0_count_144 ?_
  refine g_r (g_runS (As := [.long ((x).toInt64), .long 11, .long 16]) (rest := []) S hKK trivial (cx_in l D t ((x).toInt64) 11 16) (va_cwS 3 hts (lw_S q749 q482 q95 q483) rfl rfl rfl (by decide +kernel) ⟨Nat.le_of_ble_eq_true rfl, Nat.le_of_ble_eq_true rfl⟩) rfl hl.1 rfl (Nat.le_of_ble_eq_true rfl) dX0_count_147 ⟨Nat.le_of_ble_eq_true rfl, Nat.le_of_ble_eq_true rfl⟩) ?_
  refine z_top (y := bI (decide (10 < x ∧ x < 17))) (by rw [in_1116]) ?_
  refine z_ifeq (tgt := 165) hx hb dX0_count_150 (by decide) (fun c150 => ?_) (fun c150 => ?_)
  · refine lv_bipush (v := (-9)) hx hb dX0_count_165 (by decide) ?_
    exact z_iretR hx hb hr (cnt_n (of_decide_eq_false c150) c1_0 c1_1 c1_2 c1_3 c1_4 c1_5 c1_6 c1_7 c1_8 c1_9) (fun q h => by cases h) rfl dX0_count_167 hlk
  · have hs10 := sub10 (of_decide_eq_true c150)
    refine lv_aload_n hx hb dX0_count_153 rfl (lv_at hl 0 rfl) ?_
    refine c_xget (v := .ref (cb + 55)) hx hb hts hown hKK hC 9 (by decide) (Or.inl q294) rfl rfl dX0_count_154 ?_
    refine lv_iload_n hx hb dX0_count_157 rfl (lv_at hl 1 rfl) ?_
    refine lv_bipush (v := 10) hx hb dX0_count_158 (by decide) ?_
    refine lv_isub hx hb dX0_count_160 ?_
    refine z_iald hx hb hKK.1 hC.2.1 4 0 rfl rfl (k := ix (x - 10)) hs10.1 (by omega) (by decide) dX0_count_161 ?_
    refine lv_goto (tgt := 167) hx hb dX0_count_162 (by decide) ?_
    exact z_iretR hx hb hr (by unfold countV; rw [if_pos (of_decide_eq_true c150)]) (fun q h => by cases h) rfl dX0_count_167 hlk
