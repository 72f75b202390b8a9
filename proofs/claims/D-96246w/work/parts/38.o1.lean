/-! AN OFFICE's METHODS (1): printed by wip/D-96246w/gen/gen_o1.py -/
set_option maxRecDepth 100000
set_option maxHeartbeats 4000000 in
theorem co_X0_has (l : Launch) (D : va_G) (t : Nat → ClassId) (x y : Int32) : Met l yX0_has (ws_ yX0_has cX0_has 2 (some .boolean)) ({ frames := 0, cells := 0, slots := 0, locals := 0 }) (zPc [.int x, .int y] (fun _ => True) (KK D t)) (QcRead (bI (decide ((x >>> (y &&& 31)) &&& 1 = 1)))) 0 0 (fun _ => False) := by
  refine zOf (cc := cX0_has) (maxL := 2) (ret := (some .boolean)) (by decide) (Nat.le_of_ble_eq_true rfl) (fun pg ev s m below meth cd ls F hV hKK hl hnm => ?_)
  obtain ⟨hx, hb, hml, hown, hts, hr, hlk⟩ := F
  have S : CallFix pg m cd cX0_has 2 s _ lw_all RX0 := ⟨hx, hb, hml, hown, hts⟩
  have hl : lv_has ls 2 [(0, .int x), (1, .int y)] := hl
  refine lv_iload_n hx hb dX0_has_0 rfl (lv_at hl 0 rfl) ?_
  refine lv_iload_n hx hb dX0_has_1 rfl (lv_at hl 1 rfl) ?_
  refine lv_ishr hx hb dX0_has_2 ?_
  refine lv_iconst (v := 1) hx hb dX0_has_3 (by decide) ?_
  refine lv_iand hx hb dX0_has_4 ?_
  refine lv_iconst (v := 1) hx hb dX0_has_5 (by decide) ?_
  refine lv_icmp_ne (tgt := 13) hx hb dX0_has_6 (by decide) (fun c6 => ?_) (fun c6 => ?_)
  · refine lv_iconst (v := 0) hx hb dX0_has_13 (by decide) ?_
    exact z_bretR hx hb hr (b := decide ((x >>> (y &&& 31)) &&& 1 = 1)) (by first | (rw [decide_eq_true (show (x >>> (y &&& 31)) &&& 1 = 1 by grind)]; rfl) | (rw [decide_eq_false (show ¬ (x >>> (y &&& 31)) &&& 1 = 1 by grind)]; rfl)) (fun q h => by cases h) rfl dX0_has_14 hlk
  · refine lv_iconst (v := 1) hx hb dX0_has_9 (by decide) ?_
    refine lv_goto (tgt := 14) hx hb dX0_has_10 (by decide) ?_
    exact z_bretR hx hb hr (b := decide ((x >>> (y &&& 31)) &&& 1 = 1)) (by first | (rw [decide_eq_true (show (x >>> (y &&& 31)) &&& 1 = 1 by grind)]; rfl) | (rw [decide_eq_false (show ¬ (x >>> (y &&& 31)) &&& 1 = 1 by grind)]; rfl)) (fun q h => by cases h) rfl dX0_has_14 hlk
set_option maxHeartbeats 4000000 in
theorem co_X8_isOpenBetween (l : Launch) (D : va_G) (t : Nat → ClassId) (ob kb lo : Nat) (sg kd : GT) (r : RT) (A : BT) (x y : Int32) (hX : OkX r) : Met l yX8_isOpenBetween (ws_ yX8_isOpenBetween cX8_isOpenBetween 6 (some .boolean)) ({ frames := 1, cells := 0, slots := 0, locals := 21 }) (zPc [.ref ob, .int x, .int y] (OV D t ob kb lo sg kd r A) (KK D t)) (QcRead (bI (decide (x = y) || anS (doS r x y) (nD r)))) 0 0 (fun _ => False) := by
  refine zOf (cc := cX8_isOpenBetween) (maxL := 6) (ret := (some .boolean)) (by decide) (Nat.le_of_ble_eq_true rfl) (fun pg ev s m below meth cd ls F hV hKK hl hnm => ?_)
  obtain ⟨hx, hb, hml, hown, hts, hr, hlk⟩ := F
  have S : CallFix pg m cd cX8_isOpenBetween 6 s _ lw_all RX8 := ⟨hx, hb, hml, hown, hts⟩
  have hl : lv_has ls 6 [(0, .ref ob), (1, .int x), (2, .int y)] := hl
  have hd0 := hX.1.1
  have hd8 := hX.1.2
  have hh3 := hX.2.2.1.1
  have hh6 := hX.2.2.1.2
  have hs5 := hX.2.1.2
  refine W.join (fun vJ => F0 m 10 ls (.int vJ :: [])) (fun vJ => vJ = bI (decide (x = y))) (fun vJ hJ => ?_) (fun J => ?_)
  · subst hJ
    refine lv_istore_n (lv' := [(3, .int (bI (decide (x = y)))), (0, .ref ob), (1, .int x), (2, .int y)]) hx hb dX8_isOpenBetween_10 rfl hl (by decide) rfl (fun ls hl => ?_)
    have hl : lv_has ls 6 [(3, .int (bI (decide (x = y) || anS (doS r x y) 0))), (0, .ref ob), (1, .int x), (2, .int y)] := by rw [show bI (decide (x = y) || anS (doS r x y) 0) = bI (decide (x = y)) from by rw [show anS (doS r x y) 0 = false from rfl, Bool.or_false]]; exact hl
    refine lv_iconst (v := 0) hx hb dX8_isOpenBetween_11 (by decide) ?_
    refine lv_istore (lv' := [(4, .int 0), (3, .int (bI (decide (x = y) || anS (doS r x y) 0))), (0, .ref ob), (1, .int x), (2, .int y)]) hx hb dX8_isOpenBetween_12 hl (by decide) rfl (fun ls hl => ?_)
    refine W.loopR (fun (k : Nat) ls => k ≤ nD r ∧ (True) ∧ lv_has ls 6 [(4, .int (nI k)), (3, .int (bI (decide (x = y) || anS (doS r x y) k))), (0, .ref ob), (1, .int x), (2, .int y)]) (fun k => nD r - k) (fun k ls hIk ihk => ?_) 0 ⟨by omega, trivial, lv_sub hl [0, 1, 2, 3, 4] rfl⟩
    obtain ⟨hk, hEk, hl⟩ := hIk
    refine lv_iload hx hb dX8_isOpenBetween_14 (lv_at hl 0 rfl) ?_
    refine lv_aload_n hx hb dX8_isOpenBetween_16 rfl (lv_at hl 2 rfl) ?_
    refine o_get (v := .int (r 0)) hx hb hts hown hKK hV.1 0 (by decide) q191 rfl rfl dX8_isOpenBetween_17 ?_
    refine lv_icmp_ge (tgt := 105) hx hb dX8_isOpenBetween_20 (by decide) (fun c20 => ?_) (fun c20 => ?_)
    · obtain rfl : k = nD r := Nat.le_antisymm hk (lp_end hd0 (by omega) (by omega) c20)
      refine lv_iload_n hx hb dX8_isOpenBetween_105 rfl (lv_at hl 1 rfl) ?_
      exact z_bretR hx hb hr rfl (fun q h => by cases h) rfl dX8_isOpenBetween_106 hlk
    · have hk2 : k < nD r := lp_go hd0 (by omega) (by omega) c20
      refine W.join (fun vJ => F0 m 72 ls (.int vJ :: [])) (fun vJ => vJ = bI (decide ((r (6 + 2 * k) = x ∧ r (6 + 2 * k + 1) = y) ∨ (r (6 + 2 * k) = y ∧ r (6 + 2 * k + 1) = x)))) (fun vJ hJ => ?_) (fun J2 => ?_)
      · subst hJ
        refine lv_istore (lv' := [(5, .int (bI (decide ((r (6 + 2 * k) = x ∧ r (6 + 2 * k + 1) = y) ∨ (r (6 + 2 * k) = y ∧ r (6 + 2 * k + 1) = x))))), (4, .int (nI k)), (3, .int (bI (decide (x = y) || anS (doS r x y) k))), (0, .ref ob), (1, .int x), (2, .int y)]) hx hb dX8_isOpenBetween_72 hl (by decide) rfl (fun ls hl => ?_)
        refine lv_iload_n hx hb dX8_isOpenBetween_74 rfl (lv_at hl 2 rfl) ?_
        refine W.join (fun vJ => F0 m 97 ls (.int vJ :: [.int (bI (decide (x = y) || anS (doS r x y) k))])) (fun vJ => vJ = bI (decide ((r (6 + 2 * k) = x ∧ r (6 + 2 * k + 1) = y) ∨ (r (6 + 2 * k) = y ∧ r (6 + 2 * k + 1) = x)) && bt (r 1) k)) (fun vJ hJ => ?_) (fun J3 => ?_)
        · subst hJ
          refine lv_ior hx hb dX8_isOpenBetween_97 ?_
          refine z_top (y := bI (decide (x = y) || anS (doS r x y) (k + 1))) (doS_step hd8 hk2) ?_
          refine lv_istore_n (lv' := [(3, .int (bI (decide (x = y) || anS (doS r x y) (k + 1)))), (5, .int (bI (decide ((r (6 + 2 * k) = x ∧ r (6 + 2 * k + 1) = y) ∨ (r (6 + 2 * k) = y ∧ r (6 + 2 * k + 1) = x))))), (4, .int (nI k)), (0, .ref ob), (1, .int x), (2, .int y)]) hx hb dX8_isOpenBetween_98 rfl hl (by decide) rfl (fun ls hl => ?_)
          refine lv_iinc (v := nI (k + 1)) (lv' := [(4, .int (nI (k + 1))), (3, .int (bI (decide (x = y) || anS (doS r x y) (k + 1)))), (5, .int (bI (decide ((r (6 + 2 * k) = x ∧ r (6 + 2 * k + 1) = y) ∨ (r (6 + 2 * k) = y ∧ r (6 + 2 * k + 1) = x))))), (0, .ref ob), (1, .int x), (2, .int y)]) hx hb dX8_isOpenBetween_99 hl (k := 2) rfl (nI_1 k) (by decide) rfl (fun ls hl => ?_)
          refine lv_goto (tgt := 14) hx hb dX8_isOpenBetween_102 (by decide) ?_
          exact ihk (k + 1) ls (by omega) ⟨by omega, trivial, lv_sub hl [0, 1, 3, 4, 5] rfl⟩
        · refine lv_iload hx hb dX8_isOpenBetween_75 (lv_at hl 0 rfl) ?_
          refine z_ifeq (tgt := 96) hx hb dX8_isOpenBetween_77 (by decide) (fun c77 => ?_) (fun c77 => ?_)
          · refine lv_iconst (v := 0) hx hb dX8_isOpenBetween_96 (by decide) ?_
            exact J3 _ (by grind [bI])
          · refine lv_aload_n hx hb dX8_isOpenBetween_80 rfl (lv_at hl 3 rfl) ?_
            refine o_get (v := .int (shS r)) hx hb hts hown hKK hV.1 3 (by decide) q198 rfl rfl dX8_isOpenBetween_81 ?_
            refine lv_iload hx hb dX8_isOpenBetween_84 (lv_at hl 1 rfl) ?_
            refine g_r (g_runSN (As := [.int (shS r), .int (nI k)]) (rest := [.int (bI (decide (x = y) || anS (doS r x y) k))]) S hKK trivial (co_X0_has l D t (shS r) (nI k)) ⟨va_cnB 2 hts (lw_meth q869) rfl rfl rfl (hKK.2.1 _ q867 rfl) (hts _ q95) ⟨by decide, by decide, by decide +kernel⟩ ⟨Nat.le_of_ble_eq_true rfl, Nat.le_of_ble_eq_true rfl⟩, hts _ q868, trivial⟩ rfl hl.1 rfl (Nat.le_of_ble_eq_true rfl) dX8_isOpenBetween_86 ⟨Nat.le_of_ble_eq_true rfl, Nat.le_of_ble_eq_true rfl⟩) ?_
            refine z_top (y := bI (!bt (r 1) k)) (shS_has hd8 hk2) ?_
            refine z_ifne (tgt := 96) hx hb dX8_isOpenBetween_89 (by decide) (fun c89 => ?_) (fun c89 => ?_)
            · refine lv_iconst (v := 0) hx hb dX8_isOpenBetween_96 (by decide) ?_
              exact J3 _ (by grind [bI])
            · refine lv_iconst (v := 1) hx hb dX8_isOpenBetween_92 (by decide) ?_
              refine lv_goto (tgt := 97) hx hb dX8_isOpenBetween_93 (by decide) ?_
              exact J3 _ (by grind [bI])
      · refine lv_aload_n hx hb dX8_isOpenBetween_23 rfl (lv_at hl 2 rfl) ?_
        refine o_get (v := .ref (ob + 1)) hx hb hts hown hKK hV.1 1 (by decide) q194 rfl rfl dX8_isOpenBetween_24 ?_
        refine lv_iload hx hb dX8_isOpenBetween_27 (lv_at hl 0 rfl) ?_
        refine o_ald hx hb hKK hV.1 1 rfl (k := k) (v := r (6 + 2 * k)) rfl (by omega) (by decide) rfl dX8_isOpenBetween_29 ?_
        refine lv_iload_n hx hb dX8_isOpenBetween_30 rfl (lv_at hl 3 rfl) ?_
        refine lv_icmp_ne (tgt := 45) hx hb dX8_isOpenBetween_31 (by decide) (fun c31 => ?_) (fun c31 => ?_)
        · refine lv_aload_n hx hb dX8_isOpenBetween_45 rfl (lv_at hl 2 rfl) ?_
          refine o_get (v := .ref (ob + 1)) hx hb hts hown hKK hV.1 1 (by decide) q194 rfl rfl dX8_isOpenBetween_46 ?_
          refine lv_iload hx hb dX8_isOpenBetween_49 (lv_at hl 0 rfl) ?_
          refine o_ald hx hb hKK hV.1 1 rfl (k := k) (v := r (6 + 2 * k)) rfl (by omega) (by decide) rfl dX8_isOpenBetween_51 ?_
          refine lv_iload_n hx hb dX8_isOpenBetween_52 rfl (lv_at hl 4 rfl) ?_
          refine lv_icmp_ne (tgt := 71) hx hb dX8_isOpenBetween_53 (by decide) (fun c53 => ?_) (fun c53 => ?_)
          · refine lv_iconst (v := 0) hx hb dX8_isOpenBetween_71 (by decide) ?_
            exact J2 _ (by grind [bI])
          · refine lv_aload_n hx hb dX8_isOpenBetween_56 rfl (lv_at hl 2 rfl) ?_
            refine o_get (v := .ref (ob + 2)) hx hb hts hown hKK hV.1 2 (by decide) q196 rfl rfl dX8_isOpenBetween_57 ?_
            refine lv_iload hx hb dX8_isOpenBetween_60 (lv_at hl 0 rfl) ?_
            refine o_ald hx hb hKK hV.1 2 rfl (k := k) (v := r (6 + 2 * k + 1)) rfl (by omega) (by decide) rfl dX8_isOpenBetween_62 ?_
            refine lv_iload_n hx hb dX8_isOpenBetween_63 rfl (lv_at hl 3 rfl) ?_
            refine lv_icmp_ne (tgt := 71) hx hb dX8_isOpenBetween_64 (by decide) (fun c64 => ?_) (fun c64 => ?_)
            · refine lv_iconst (v := 0) hx hb dX8_isOpenBetween_71 (by decide) ?_
              exact J2 _ (by grind [bI])
            · refine lv_iconst (v := 1) hx hb dX8_isOpenBetween_67 (by decide) ?_
              refine lv_goto (tgt := 72) hx hb dX8_isOpenBetween_68 (by decide) ?_
              exact J2 _ (by grind [bI])
        · refine lv_aload_n hx hb dX8_isOpenBetween_34 rfl (lv_at hl 2 rfl) ?_
          refine o_get (v := .ref (ob + 2)) hx hb hts hown hKK hV.1 2 (by decide) q196 rfl rfl dX8_isOpenBetween_35 ?_
          refine lv_iload hx hb dX8_isOpenBetween_38 (lv_at hl 0 rfl) ?_
          refine o_ald hx hb hKK hV.1 2 rfl (k := k) (v := r (6 + 2 * k + 1)) rfl (by omega) (by decide) rfl dX8_isOpenBetween_40 ?_
          refine lv_iload_n hx hb dX8_isOpenBetween_41 rfl (lv_at hl 4 rfl) ?_
          refine lv_icmp_eq (tgt := 67) hx hb dX8_isOpenBetween_42 (by decide) (fun c42 => ?_) (fun c42 => ?_)
          · refine lv_iconst (v := 1) hx hb dX8_isOpenBetween_67 (by decide) ?_
            refine lv_goto (tgt := 72) hx hb dX8_isOpenBetween_68 (by decide) ?_
            exact J2 _ (by grind [bI])
          · refine lv_aload_n hx hb dX8_isOpenBetween_45 rfl (lv_at hl 2 rfl) ?_
            refine o_get (v := .ref (ob + 1)) hx hb hts hown hKK hV.1 1 (by decide) q194 rfl rfl dX8_isOpenBetween_46 ?_
            refine lv_iload hx hb dX8_isOpenBetween_49 (lv_at hl 0 rfl) ?_
            refine o_ald hx hb hKK hV.1 1 rfl (k := k) (v := r (6 + 2 * k)) rfl (by omega) (by decide) rfl dX8_isOpenBetween_51 ?_
            refine lv_iload_n hx hb dX8_isOpenBetween_52 rfl (lv_at hl 4 rfl) ?_
            refine lv_icmp_ne (tgt := 71) hx hb dX8_isOpenBetween_53 (by decide) (fun c53 => ?_) (fun c53 => ?_)
            · refine lv_iconst (v := 0) hx hb dX8_isOpenBetween_71 (by decide) ?_
              exact J2 _ (by grind [bI])
            · refine lv_aload_n hx hb dX8_isOpenBetween_56 rfl (lv_at hl 2 rfl) ?_
              refine o_get (v := .ref (ob + 2)) hx hb hts hown hKK hV.1 2 (by decide) q196 rfl rfl dX8_isOpenBetween_57 ?_
              refine lv_iload hx hb dX8_isOpenBetween_60 (lv_at hl 0 rfl) ?_
              refine o_ald hx hb hKK hV.1 2 rfl (k := k) (v := r (6 + 2 * k + 1)) rfl (by omega) (by decide) rfl dX8_isOpenBetween_62 ?_
              refine lv_iload_n hx hb dX8_isOpenBetween_63 rfl (lv_at hl 3 rfl) ?_
              refine lv_icmp_ne (tgt := 71) hx hb dX8_isOpenBetween_64 (by decide) (fun c64 => ?_) (fun c64 => ?_)
              · refine lv_iconst (v := 0) hx hb dX8_isOpenBetween_71 (by decide) ?_
                exact J2 _ (by grind [bI])
              · refine lv_iconst (v := 1) hx hb dX8_isOpenBetween_67 (by decide) ?_
                refine lv_goto (tgt := 72) hx hb dX8_isOpenBetween_68 (by decide) ?_
                exact J2 _ (by grind [bI])
  · refine lv_iload_n hx hb dX8_isOpenBetween_0 rfl (lv_at hl 1 rfl) ?_
    refine lv_iload_n hx hb dX8_isOpenBetween_1 rfl (lv_at hl 2 rfl) ?_
    refine lv_icmp_ne (tgt := 9) hx hb dX8_isOpenBetween_2 (by decide) (fun c2 => ?_) (fun c2 => ?_)
    · refine lv_iconst (v := 0) hx hb dX8_isOpenBetween_9 (by decide) ?_
      exact J _ (by first | (rw [decide_eq_true (show x = y by grind)]; rfl) | (rw [decide_eq_false (show ¬ x = y by grind)]; rfl))
    · refine lv_iconst (v := 1) hx hb dX8_isOpenBetween_5 (by decide) ?_
      refine lv_goto (tgt := 10) hx hb dX8_isOpenBetween_6 (by decide) ?_
      exact J _ (by first | (rw [decide_eq_true (show x = y by grind)]; rfl) | (rw [decide_eq_false (show ¬ x = y by grind)]; rfl))
set_option maxHeartbeats 4000000 in
theorem co_X8_areNear (l : Launch) (D : va_G) (t : Nat → ClassId) (ob kb lo : Nat) (sg kd : GT) (r : RT) (A : BT) (i j : Nat) (hi : i < 6) (hj : j < 6) (hX : OkX r) : Met l yX8_areNear (ws_ yX8_areNear cX8_areNear 3 (some .boolean)) ({ frames := 2, cells := 0, slots := 0, locals := 46 }) (zPc [.ref ob, .int (nI i), .int (nI j)] (OV D t ob kb lo sg kd r A) (KK D t)) (QcRead (bI (neS r i j))) 0 0 (fun _ => False) := by
  refine zOf (cc := cX8_areNear) (maxL := 3) (ret := (some .boolean)) (by decide) (Nat.le_of_ble_eq_true rfl) (fun pg ev s m below meth cd ls F hV hKK hl hnm => ?_)
  obtain ⟨hx, hb, hml, hown, hts, hr, hlk⟩ := F
  have S : CallFix pg m cd cX8_areNear 3 s _ lw_all RX8 := ⟨hx, hb, hml, hown, hts⟩
  have hl : lv_has ls 3 [(0, .ref ob), (1, .int (nI i)), (2, .int (nI j))] := hl
  have hd0 := hX.1.1
  have hd8 := hX.1.2
  have hh3 := hX.2.2.1.1
  have hh6 := hX.2.2.1.2
  have hs5 := hX.2.1.2
  refine lv_iload_n hx hb dX8_areNear_0 rfl (lv_at hl 1 rfl) ?_
  refine lv_iload_n hx hb dX8_areNear_1 rfl (lv_at hl 2 rfl) ?_
  refine lv_icmp_eq (tgt := 28) hx hb dX8_areNear_2 (by decide) (fun c2 => ?_) (fun c2 => ?_)
  · refine lv_iconst (v := 0) hx hb dX8_areNear_28 (by decide) ?_
    exact z_bretR hx hb hr (b := neS r i j) (by unfold neS; first | (rw [show i = j by exact nI_injL (by omega) (by omega) c2]; rw [decide_eq_false (fun q => q rfl)]; rfl) | (rw [decide_eq_true hij, Bool.true_and, c21]; rfl)) (fun q h => by cases h) rfl dX8_areNear_29 hlk
  · have hij : ¬ i = j := fun q => c2 (by rw [q])
    refine lv_aload_n hx hb dX8_areNear_5 rfl (lv_at hl 0 rfl) ?_
    refine lv_aload_n hx hb dX8_areNear_6 rfl (lv_at hl 0 rfl) ?_
    refine o_get (v := .ref (ob + 5)) hx hb hts hown hKK hV.1 8 (by decide) q215 rfl rfl dX8_areNear_7 ?_
    refine lv_iload_n hx hb dX8_areNear_10 rfl (lv_at hl 1 rfl) ?_
    refine o_ald hx hb hKK hV.1 5 rfl (k := i) (v := hd r i 1) rfl (by omega) (by decide) rfl dX8_areNear_11 ?_
    refine lv_aload_n hx hb dX8_areNear_12 rfl (lv_at hl 0 rfl) ?_
    refine o_get (v := .ref (ob + 5)) hx hb hts hown hKK hV.1 8 (by decide) q215 rfl rfl dX8_areNear_13 ?_
    refine lv_iload_n hx hb dX8_areNear_16 rfl (lv_at hl 2 rfl) ?_
    refine o_ald hx hb hKK hV.1 5 rfl (k := j) (v := hd r j 1) rfl (by omega) (by decide) rfl dX8_areNear_17 ?_
    refine g_r (g_runV (As := [.int (hd r i 1), .int (hd r j 1)]) (rest := []) S hKK hV (hV.recv hKK) (co_X8_isOpenBetween l D t ob kb lo sg kd r A (hd r i 1) (hd r j 1) hX) (cwV 2 hts (lw_V q863 q864 q865 q103 q866) rfl rfl rfl (by decide +kernel) ⟨Nat.le_of_ble_eq_true rfl, Nat.le_of_ble_eq_true rfl⟩) rfl hl.1 rfl (Nat.le_of_ble_eq_true rfl) dX8_areNear_18 ⟨Nat.le_of_ble_eq_true rfl, Nat.le_of_ble_eq_true rfl⟩) ?_
    refine z_ifeq (tgt := 28) hx hb dX8_areNear_21 (by decide) (fun c21 => ?_) (fun c21 => ?_)
    · refine lv_iconst (v := 0) hx hb dX8_areNear_28 (by decide) ?_
      exact z_bretR hx hb hr (b := neS r i j) (by unfold neS; first | (rw [show i = j by exact nI_injL (by omega) (by omega) c2]; rw [decide_eq_false (fun q => q rfl)]; rfl) | (rw [decide_eq_true hij, Bool.true_and, c21]; rfl)) (fun q h => by cases h) rfl dX8_areNear_29 hlk
    · refine lv_iconst (v := 1) hx hb dX8_areNear_24 (by decide) ?_
      refine lv_goto (tgt := 29) hx hb dX8_areNear_25 (by decide) ?_
      exact z_bretR hx hb hr (b := neS r i j) (by unfold neS; first | (rw [show i = j by exact nI_injL (by omega) (by omega) c2]; rw [decide_eq_false (fun q => q rfl)]; rfl) | (rw [decide_eq_true hij, Bool.true_and, c21]; rfl)) (fun q h => by cases h) rfl dX8_areNear_29 hlk
set_option maxHeartbeats 4000000 in
theorem co_X8_hums (l : Launch) (D : va_G) (t : Nat → ClassId) (ob kb lo : Nat) (sg kd : GT) (r : RT) (A : BT) (j : Nat) (N : Nat) (hOk : Ok r N) (hj : j < nH r) : Met l yX8_hums (ws_ yX8_hums cX8_hums 2 (some .boolean)) ({ frames := 3, cells := 0, slots := 0, locals := 69 }) (zPc [.ref ob, .int (nI j)] (OV D t ob kb lo sg kd r A) (KK D t)) (QcRead (bI (huS r j))) 0 0 (fun _ => False) := by
  refine zOf (cc := cX8_hums) (maxL := 2) (ret := (some .boolean)) (by decide) (Nat.le_of_ble_eq_true rfl) (fun pg ev s m below meth cd ls F hV hKK hl hnm => ?_)
  obtain ⟨hx, hb, hml, hown, hts, hr, hlk⟩ := F
  have S : CallFix pg m cd cX8_hums 2 s _ lw_all RX8 := ⟨hx, hb, hml, hown, hts⟩
  have hl : lv_has ls 2 [(0, .ref ob), (1, .int (nI j))] := hl
  have hd0 := hOk.hr0
  have hd8 := hOk.d8
  have hh3 := hOk.hr3
  have hh6 := hOk.h6
  have hs5 := hOk.s5
  have hX := hOk.X
  refine lv_aload_n hx hb dX8_hums_0 rfl (lv_at hl 0 rfl) ?_
  refine o_get (v := .ref (ob + 7)) hx hb hts hown hKK hV.1 10 (by decide) q221 rfl rfl dX8_hums_1 ?_
  refine lv_iload_n hx hb dX8_hums_4 rfl (lv_at hl 1 rfl) ?_
  refine o_ald hx hb hKK hV.1 7 rfl (k := j) (v := hd r j 3) rfl (by omega) (by decide) rfl dX8_hums_5 ?_
  refine lv_bipush (v := (-9)) hx hb dX8_hums_6 (by decide) ?_
  refine lv_icmp_eq (tgt := 41) hx hb dX8_hums_8 (by decide) (fun c8 => ?_) (fun c8 => ?_)
  · refine lv_iconst (v := 0) hx hb dX8_hums_41 (by decide) ?_
    exact z_bretR hx hb hr (b := huS r j) (by first | (rw [c34]; rfl) | (rw [huS_no c8]; rfl)) (fun q h => by cases h) rfl dX8_hums_42 hlk
  · refine lv_aload_n hx hb dX8_hums_11 rfl (lv_at hl 0 rfl) ?_
    refine o_get (v := .ref (ob + 4)) hx hb hts hown hKK hV.1 7 (by decide) q212 rfl rfl dX8_hums_12 ?_
    refine lv_iload_n hx hb dX8_hums_15 rfl (lv_at hl 1 rfl) ?_
    refine o_kald hx hb hKK hV.1 rfl (by omega) (hV.2.2.1.1 j (by omega) (by omega)) dX8_hums_16 ?_
    refine lv_aload_n hx hb dX8_hums_17 rfl (lv_at hl 0 rfl) ?_
    refine o_get (v := .ref (ob + 8)) hx hb hts hown hKK hV.1 11 (by decide) q223 rfl rfl dX8_hums_18 ?_
    refine lv_iload_n hx hb dX8_hums_21 rfl (lv_at hl 1 rfl) ?_
    refine o_ald hx hb hKK hV.1 8 rfl (k := j) (v := hd r j 4) rfl (by omega) (by decide) rfl dX8_hums_22 ?_
    refine lv_aload_n hx hb dX8_hums_23 rfl (lv_at hl 0 rfl) ?_
    refine o_get (v := .int (r 5)) hx hb hts hown hKK hV.1 14 (by decide) q230 rfl rfl dX8_hums_24 ?_
    refine lv_aload_n hx hb dX8_hums_27 rfl (lv_at hl 0 rfl) ?_
    refine o_get (v := .int (r 4)) hx hb hts hown hKK hV.1 13 (by decide) q228 rfl rfl dX8_hums_28 ?_
    refine cv_X8_Kind_hums (k := ix (hd r j 0)) (okH (hOk.head (j := j) (by omega))) (rest := []) S hKK (hV.2.2.2 _ (okH (hOk.head (j := j) (by omega)))) ⟨Nat.le_of_ble_eq_true rfl, Nat.le_of_ble_eq_true rfl⟩ hl.1 rfl (Nat.le_of_ble_eq_true rfl) dX8_hums_31 ⟨Nat.le_of_ble_eq_true rfl, Nat.le_of_ble_eq_true rfl⟩ ?_
    refine z_top (y := bI (huS r j)) (by rw [huK_eq hOk hj c8]) ?_
    refine z_ifeq (tgt := 41) hx hb dX8_hums_34 (by decide) (fun c34 => ?_) (fun c34 => ?_)
    · refine lv_iconst (v := 0) hx hb dX8_hums_41 (by decide) ?_
      exact z_bretR hx hb hr (b := huS r j) (by first | (rw [c34]; rfl) | (rw [huS_no c8]; rfl)) (fun q h => by cases h) rfl dX8_hums_42 hlk
    · refine lv_iconst (v := 1) hx hb dX8_hums_37 (by decide) ?_
      refine lv_goto (tgt := 42) hx hb dX8_hums_38 (by decide) ?_
      exact z_bretR hx hb hr (b := huS r j) (by first | (rw [c34]; rfl) | (rw [huS_no c8]; rfl)) (fun q h => by cases h) rfl dX8_hums_42 hlk
set_option maxHeartbeats 4000000 in
theorem co_X8_bar (l : Launch) (D : va_G) (t : Nat → ClassId) (ob kb lo : Nat) (sg kd : GT) (r : RT) (A : BT) (j : Nat) (N : Nat) (hOk : Ok r N) (hj : j < nH r) : Met l yX8_bar (ws_ yX8_bar cX8_bar 2 (some .int)) ({ frames := 3, cells := 0, slots := 0, locals := 63 }) (zPc [.ref ob, .int (nI j)] (OV D t ob kb lo sg kd r A) (KK D t)) (QcRead (baS r j)) 0 0 (fun _ => False) := by
  refine zOf (cc := cX8_bar) (maxL := 2) (ret := (some .int)) (by decide) (Nat.le_of_ble_eq_true rfl) (fun pg ev s m below meth cd ls F hV hKK hl hnm => ?_)
  obtain ⟨hx, hb, hml, hown, hts, hr, hlk⟩ := F
  have S : CallFix pg m cd cX8_bar 2 s _ lw_all RX8 := ⟨hx, hb, hml, hown, hts⟩
  have hl : lv_has ls 2 [(0, .ref ob), (1, .int (nI j))] := hl
  have hd0 := hOk.hr0
  have hd8 := hOk.d8
  have hh3 := hOk.hr3
  have hh6 := hOk.h6
  have hs5 := hOk.s5
  have hX := hOk.X
  refine lv_aload_n hx hb dX8_bar_0 rfl (lv_at hl 0 rfl) ?_
  refine o_get (v := .ref (ob + 4)) hx hb hts hown hKK hV.1 7 (by decide) q212 rfl rfl dX8_bar_1 ?_
  refine lv_iload_n hx hb dX8_bar_4 rfl (lv_at hl 1 rfl) ?_
  refine o_kald hx hb hKK hV.1 rfl (by omega) (hV.2.2.1.1 j (by omega) (by omega)) dX8_bar_5 ?_
  refine lv_aload_n hx hb dX8_bar_6 rfl (lv_at hl 0 rfl) ?_
  refine o_get (v := .ref (ob + 6)) hx hb hts hown hKK hV.1 9 (by decide) q218 rfl rfl dX8_bar_7 ?_
  refine lv_iload_n hx hb dX8_bar_10 rfl (lv_at hl 1 rfl) ?_
  refine o_ald hx hb hKK hV.1 6 rfl (k := j) (v := hd r j 2) rfl (by omega) (by decide) rfl dX8_bar_11 ?_
  refine cv_X8_Kind_bar (k := ix (hd r j 0)) (okH (hOk.head (j := j) (by omega))) (rest := []) S hKK (hV.2.2.2 _ (okH (hOk.head (j := j) (by omega)))) ⟨Nat.le_of_ble_eq_true rfl, Nat.le_of_ble_eq_true rfl⟩ hl.1 rfl (Nat.le_of_ble_eq_true rfl) dX8_bar_12 ⟨Nat.le_of_ble_eq_true rfl, Nat.le_of_ble_eq_true rfl⟩ ?_
  exact z_iretR hx hb hr (baK_eq hOk hj) (fun q h => by cases h) rfl dX8_bar_15 hlk
set_option maxHeartbeats 4000000 in
theorem co_X8_have (l : Launch) (D : va_G) (t : Nat → ClassId) (ob kb lo : Nat) (sg kd : GT) (r : RT) (A : BT) (x : Int32) (N : Nat) (hOk : Ok r N) : Met l yX8_have (ws_ yX8_have cX8_have 4 (some .int)) ({ frames := 0, cells := 0, slots := 0, locals := 0 }) (zPc [.ref ob, .int x] (OV D t ob kb lo sg kd r A) (KK D t)) (QcRead (haS r x)) 0 0 (fun _ => False) := by
  refine zOf (cc := cX8_have) (maxL := 4) (ret := (some .int)) (by decide) (Nat.le_of_ble_eq_true rfl) (fun pg ev s m below meth cd ls F hV hKK hl hnm => ?_)
  obtain ⟨hx, hb, hml, hown, hts, hr, hlk⟩ := F
  have S : CallFix pg m cd cX8_have 4 s _ lw_all RX8 := ⟨hx, hb, hml, hown, hts⟩
  have hl : lv_has ls 4 [(0, .ref ob), (1, .int x)] := hl
  have hd0 := hOk.hr0
  have hd8 := hOk.d8
  have hh3 := hOk.hr3
  have hh6 := hOk.h6
  have hs5 := hOk.s5
  have hX := hOk.X
  refine lv_iconst (v := 0) hx hb dX8_have_0 (by decide) ?_
  refine lv_istore_n (lv' := [(2, .int 0), (0, .ref ob), (1, .int x)]) hx hb dX8_have_1 rfl hl (by decide) rfl (fun ls hl => ?_)
  refine lv_iconst (v := 0) hx hb dX8_have_2 (by decide) ?_
  refine lv_istore_n (lv' := [(3, .int 0), (2, .int 0), (0, .ref ob), (1, .int x)]) hx hb dX8_have_3 rfl hl (by decide) rfl (fun ls hl => ?_)
  refine W.loopR (fun (k : Nat) ls => k ≤ nH r ∧ (True) ∧ lv_has ls 4 [(3, .int (nI k)), (2, .int (nI (haL r x k))), (0, .ref ob), (1, .int x)]) (fun k => nH r - k) (fun k ls hIk ihk => ?_) 0 ⟨by omega, trivial, lv_sub hl [0, 1, 2, 3] rfl⟩
  obtain ⟨hk, hEk, hl⟩ := hIk
  refine lv_iload_n hx hb dX8_have_4 rfl (lv_at hl 0 rfl) ?_
  refine lv_aload_n hx hb dX8_have_5 rfl (lv_at hl 2 rfl) ?_
  refine o_get (v := .int (r 3)) hx hb hts hown hKK hV.1 6 (by decide) q210 rfl rfl dX8_have_6 ?_
  refine lv_icmp_ge (tgt := 51) hx hb dX8_have_9 (by decide) (fun c9 => ?_) (fun c9 => ?_)
  · obtain rfl : k = nH r := Nat.le_antisymm hk (lp_end hh3 (by omega) (by omega) c9)
    refine lv_iload_n hx hb dX8_have_51 rfl (lv_at hl 1 rfl) ?_
    exact z_iretR hx hb hr rfl (fun q h => by cases h) rfl dX8_have_52 hlk
  · have hk2 : k < nH r := lp_go hh3 (by omega) (by omega) c9
    have hh := (hOk.head hk2).2.2.2.2.2.2.1
    refine lv_iload_n hx hb dX8_have_12 rfl (lv_at hl 1 rfl) ?_
    refine W.join (fun vJ => F0 m 43 ls (.int vJ :: [.int (nI (haL r x k))])) (fun vJ => vJ = (if (if x < 0 then 0 ≤ hd r k 3 else hd r k 3 = x) then 1 else 0)) (fun vJ hJ => ?_) (fun J => ?_)
    · subst hJ
      refine lv_iadd hx hb dX8_have_43 ?_
      refine z_top (y := nI (haL r x (k + 1))) (by rw [nI_inc]; rfl) ?_
      refine lv_istore_n (lv' := [(2, .int (nI (haL r x (k + 1)))), (3, .int (nI k)), (0, .ref ob), (1, .int x)]) hx hb dX8_have_44 rfl hl (by decide) rfl (fun ls hl => ?_)
      refine lv_iinc (v := nI (k + 1)) (lv' := [(3, .int (nI (k + 1))), (2, .int (nI (haL r x (k + 1)))), (0, .ref ob), (1, .int x)]) hx hb dX8_have_45 hl (k := 1) rfl (nI_1 k) (by decide) rfl (fun ls hl => ?_)
      refine lv_goto (tgt := 4) hx hb dX8_have_48 (by decide) ?_
      exact ihk (k + 1) ls (by omega) ⟨by omega, trivial, lv_sub hl [0, 1, 2, 3] rfl⟩
    · refine lv_aload_n hx hb dX8_have_13 rfl (lv_at hl 2 rfl) ?_
      refine o_get (v := .ref (ob + 7)) hx hb hts hown hKK hV.1 10 (by decide) q221 rfl rfl dX8_have_14 ?_
      refine lv_iload_n hx hb dX8_have_17 rfl (lv_at hl 0 rfl) ?_
      refine o_ald hx hb hKK hV.1 7 rfl (k := k) (v := hd r k 3) rfl (by omega) (by decide) rfl dX8_have_18 ?_
      refine lv_bipush (v := (-9)) hx hb dX8_have_19 (by decide) ?_
      refine lv_icmp_eq (tgt := 42) hx hb dX8_have_21 (by decide) (fun c21 => ?_) (fun c21 => ?_)
      · refine lv_iconst (v := 0) hx hb dX8_have_42 (by decide) ?_
        exact J _ (by grind)
      · refine lv_iload_n hx hb dX8_have_24 rfl (lv_at hl 3 rfl) ?_
        refine lv_if_lt (tgt := 38) hx hb dX8_have_25 (by decide) (fun c25 => ?_) (fun c25 => ?_)
        · refine lv_iconst (v := 1) hx hb dX8_have_38 (by decide) ?_
          refine lv_goto (tgt := 43) hx hb dX8_have_39 (by decide) ?_
          exact J _ (by grind)
        · refine lv_aload_n hx hb dX8_have_28 rfl (lv_at hl 2 rfl) ?_
          refine o_get (v := .ref (ob + 7)) hx hb hts hown hKK hV.1 10 (by decide) q221 rfl rfl dX8_have_29 ?_
          refine lv_iload_n hx hb dX8_have_32 rfl (lv_at hl 0 rfl) ?_
          refine o_ald hx hb hKK hV.1 7 rfl (k := k) (v := hd r k 3) rfl (by omega) (by decide) rfl dX8_have_33 ?_
          refine lv_iload_n hx hb dX8_have_34 rfl (lv_at hl 3 rfl) ?_
          refine lv_icmp_ne (tgt := 42) hx hb dX8_have_35 (by decide) (fun c35 => ?_) (fun c35 => ?_)
          · refine lv_iconst (v := 0) hx hb dX8_have_42 (by decide) ?_
            exact J _ (by grind)
          · refine lv_iconst (v := 1) hx hb dX8_have_38 (by decide) ?_
            refine lv_goto (tgt := 43) hx hb dX8_have_39 (by decide) ?_
            exact J _ (by grind)
