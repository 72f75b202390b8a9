/-! AN OFFICE's METHODS (2): printed by wip/D-96246w/gen/gen_o2.py -/
set_option maxRecDepth 100000
set_option maxHeartbeats 4000000 in
theorem co_X8_gotBy (l : Launch) (D : va_G) (t : Nat → ClassId) (ob kb lo : Nat) (sg kd : GT) (r : RT) (A : BT) (j : Nat) (N : Nat) (hOk : Ok r N) (hj : j < nH r) (hU : HU r A) : Met l yX8_gotBy (ws_ yX8_gotBy cX8_gotBy 7 (some .int)) ({ frames := 4, cells := 0, slots := 0, locals := 84 }) (zPc [.ref ob, .int (nI j)] (OV D t ob kb lo sg kd r A) (KK D t)) (QcRead (heS r j)) 0 0 (fun _ => False) := by
  refine zOf (cc := cX8_gotBy) (maxL := 7) (ret := (some .int)) (by decide) (Nat.le_of_ble_eq_true rfl) (fun pg ev s m below meth cd ls F hV hKK hl hnm => ?_)
  obtain ⟨hx, hb, hml, hown, hts, hr, hlk⟩ := F
  have S : CallFix pg m cd cX8_gotBy 7 s _ lw_all RX8 := ⟨hx, hb, hml, hown, hts⟩
  have hl : lv_has ls 7 [(0, .ref ob), (1, .int (nI j))] := hl
  have hd0 := hOk.hr0
  have hd8 := hOk.d8
  have hh3 := hOk.hr3
  have hh6 := hOk.h6
  have hs5 := hOk.s5
  have hX := hOk.X
  refine lv_bipush (v := (-9)) hx hb dX8_gotBy_0 (by decide) ?_
  refine lv_istore_n (lv' := [(2, .int (-9)), (0, .ref ob), (1, .int (nI j))]) hx hb dX8_gotBy_2 rfl hl (by decide) rfl (fun ls hl => ?_)
  refine lv_iconst (v := 0) hx hb dX8_gotBy_3 (by decide) ?_
  refine lv_istore_n (lv' := [(3, .int 0), (2, .int (-9)), (0, .ref ob), (1, .int (nI j))]) hx hb dX8_gotBy_4 rfl hl (by decide) rfl (fun ls hl => ?_)
  refine W.loopR (fun (k : Nat) ls => k ≤ nH r ∧ (True) ∧ lv_has ls 7 [(3, .int (nI k)), (2, .int ((heL r j k).1)), (0, .ref ob), (1, .int (nI j))]) (fun k => nH r - k) (fun k ls hIk ihk => ?_) 0 ⟨by omega, trivial, lv_sub hl [0, 1, 2, 3] rfl⟩
  obtain ⟨hk, hEk, hl⟩ := hIk
  refine lv_iload_n hx hb dX8_gotBy_5 rfl (lv_at hl 0 rfl) ?_
  refine lv_aload_n hx hb dX8_gotBy_6 rfl (lv_at hl 2 rfl) ?_
  refine o_get (v := .int (r 3)) hx hb hts hown hKK hV.1 6 (by decide) q210 rfl rfl dX8_gotBy_7 ?_
  refine lv_icmp_ge (tgt := 146) hx hb dX8_gotBy_10 (by decide) (fun c10 => ?_) (fun c10 => ?_)
  · obtain rfl : k = nH r := Nat.le_antisymm hk (lp_end hh3 (by omega) (by omega) c10)
    have hb9 : (heL r j (nH r)).1 = -9 ∨ 0 ≤ (heL r j (nH r)).1 := by rcases heL_ok hOk (j := j) (Nat.le_refl (nH r)) with q | ⟨q, -⟩; (exact Or.inl (by rw [q])); (exact Or.inr q)
    refine W.join (fun vJ => F0 m 192 ls (.int vJ :: [])) (fun vJ => vJ = bI (decide (0 ≤ (heL r j (nH r)).1 ∧ ¬ so r (ix (heL r j (nH r)).1) 1 ≤ baS r j ∧ ¬ frS r (ix (heL r j (nH r)).1) ≤ hd r j 4))) (fun vJ hJ => ?_) (fun J5 => ?_)
    · subst hJ
      refine lv_istore_n (lv' := [(3, .int (bI (decide (0 ≤ (heL r j (nH r)).1 ∧ ¬ so r (ix (heL r j (nH r)).1) 1 ≤ baS r j ∧ ¬ frS r (ix (heL r j (nH r)).1) ≤ hd r j 4)))), (2, .int ((heL r j (nH r)).1)), (0, .ref ob), (1, .int (nI j))]) hx hb dX8_gotBy_192 rfl hl (by decide) rfl (fun ls hl => ?_)
      refine lv_iload_n hx hb dX8_gotBy_193 rfl (lv_at hl 0 rfl) ?_
      refine z_ifeq (tgt := 201) hx hb dX8_gotBy_194 (by decide) (fun c194 => ?_) (fun c194 => ?_)
      · refine lv_bipush (v := (-9)) hx hb dX8_gotBy_201 (by decide) ?_
        exact z_iretR hx hb hr (by unfold heS; grind) (fun q h => by cases h) rfl dX8_gotBy_203 hlk
      · refine lv_iload_n hx hb dX8_gotBy_197 rfl (lv_at hl 1 rfl) ?_
        refine lv_goto (tgt := 203) hx hb dX8_gotBy_198 (by decide) ?_
        exact z_iretR hx hb hr (by unfold heS; grind) (fun q h => by cases h) rfl dX8_gotBy_203 hlk
    · refine lv_iload_n hx hb dX8_gotBy_146 rfl (lv_at hl 1 rfl) ?_
      refine lv_bipush (v := (-9)) hx hb dX8_gotBy_147 (by decide) ?_
      refine lv_icmp_eq (tgt := 191) hx hb dX8_gotBy_149 (by decide) (fun c149 => ?_) (fun c149 => ?_)
      · refine lv_iconst (v := 0) hx hb dX8_gotBy_191 (by decide) ?_
        exact J5 _ (by grind [bI])
      · have hib := heL_ix hOk (j := j) (Nat.le_refl (nH r)) (by grind)
        refine lv_aload_n hx hb dX8_gotBy_152 rfl (lv_at hl 2 rfl) ?_
        refine o_get (v := .ref (ob + 3)) hx hb hts hown hKK hV.1 5 (by decide) q205 rfl rfl dX8_gotBy_153 ?_
        refine lv_iload_n hx hb dX8_gotBy_156 rfl (lv_at hl 1 rfl) ?_
        obtain ⟨a157, hsa157, hla157, hoa157⟩ := hV.2.1.1 (ix (heL r j (nH r)).1) (by omega) (by omega)
        have hka157 : ix (so r (ix (heL r j (nH r)).1) 0) < 6 := okK (hOk.song (i := ix (heL r j (nH r)).1) (by omega))
        refine o_sald hx hb hKK hV.1 hib.1 (by omega) hsa157 dX8_gotBy_157 ?_
        refine cg_song hka157 hx hb hts hown hKK hoa157 0 (by decide) q682 rfl dX8_gotBy_158 ?_
        refine lv_aload_n hx hb dX8_gotBy_161 rfl (lv_at hl 2 rfl) ?_
        refine lv_iload_n hx hb dX8_gotBy_162 rfl (lv_at hl 3 rfl) ?_
        refine g_r (g_runV (As := [.int (nI j)]) (rest := [.int (so r (ix (heL r j (nH r)).1) 1)]) S hKK hV (hV.recv hKK) (co_X8_bar l D t ob kb lo sg kd r A j N hOk (by omega)) (cwV 1 hts (lw_V q920 q808 q809 q103 q810) rfl rfl rfl (by decide +kernel) ⟨Nat.le_of_ble_eq_true rfl, Nat.le_of_ble_eq_true rfl⟩) rfl hl.1 rfl (Nat.le_of_ble_eq_true rfl) dX8_gotBy_163 ⟨Nat.le_of_ble_eq_true rfl, Nat.le_of_ble_eq_true rfl⟩) ?_
        refine lv_icmp_le (tgt := 191) hx hb dX8_gotBy_166 (by decide) (fun c166 => ?_) (fun c166 => ?_)
        · refine lv_iconst (v := 0) hx hb dX8_gotBy_191 (by decide) ?_
          exact J5 _ (by grind [bI])
        · refine lv_aload_n hx hb dX8_gotBy_169 rfl (lv_at hl 2 rfl) ?_
          refine o_get (v := .ref (ob + 3)) hx hb hts hown hKK hV.1 5 (by decide) q205 rfl rfl dX8_gotBy_170 ?_
          refine lv_iload_n hx hb dX8_gotBy_173 rfl (lv_at hl 1 rfl) ?_
          obtain ⟨a174, hsa174, hla174, hoa174⟩ := hV.2.1.1 (ix (heL r j (nH r)).1) (by omega) (by omega)
          have hka174 : ix (so r (ix (heL r j (nH r)).1) 0) < 6 := okK (hOk.song (i := ix (heL r j (nH r)).1) (by omega))
          refine o_sald hx hb hKK hV.1 hib.1 (by omega) hsa174 dX8_gotBy_174 ?_
          refine cv_X8_Song_fresh (k := ix (so r (ix (heL r j (nH r)).1) 0)) hka174 (rest := []) S hKK hoa174 ⟨Nat.le_of_ble_eq_true rfl, Nat.le_of_ble_eq_true rfl⟩ hl.1 rfl (Nat.le_of_ble_eq_true rfl) dX8_gotBy_175 ⟨Nat.le_of_ble_eq_true rfl, Nat.le_of_ble_eq_true rfl⟩ ?_
          refine z_top (y := frS r (ix (heL r j (nH r)).1)) (frK_eq (hOk.song hib.2)) ?_
          refine lv_aload_n hx hb dX8_gotBy_178 rfl (lv_at hl 2 rfl) ?_
          refine o_get (v := .ref (ob + 8)) hx hb hts hown hKK hV.1 11 (by decide) q223 rfl rfl dX8_gotBy_179 ?_
          refine lv_iload_n hx hb dX8_gotBy_182 rfl (lv_at hl 3 rfl) ?_
          refine o_ald hx hb hKK hV.1 8 rfl (k := j) (v := hd r j 4) rfl (by omega) (by decide) rfl dX8_gotBy_183 ?_
          refine lv_icmp_le (tgt := 191) hx hb dX8_gotBy_184 (by decide) (fun c184 => ?_) (fun c184 => ?_)
          · refine lv_iconst (v := 0) hx hb dX8_gotBy_191 (by decide) ?_
            exact J5 _ (by grind [bI])
          · refine lv_iconst (v := 1) hx hb dX8_gotBy_187 (by decide) ?_
            refine lv_goto (tgt := 192) hx hb dX8_gotBy_188 (by decide) ?_
            exact J5 _ (by grind [bI])
  · have hk2 : k < nH r := lp_go hh3 (by omega) (by omega) c10
    have hu := hU k hk2
    have hb9 : (heL r j k).1 = -9 ∨ 0 ≤ (heL r j k).1 := by rcases heL_ok hOk (j := j) (o := k) (by omega) with q | ⟨q, -⟩; (exact Or.inl (by rw [q])); (exact Or.inr q)
    have hnot : huS r k = true → ¬ hd r k 3 = -9 := fun q z => huS_has q (by rw [z]; decide)
    refine W.join (fun vJ => F0 m 33 ls (.int vJ :: [])) (fun vJ => vJ = (if neS r j k = true ∧ huS r k = true then hd r k 3 else -9)) (fun vJ hJ => ?_) (fun J => ?_)
    · subst hJ
      refine lv_istore (lv' := [(4, .int (if neS r j k = true ∧ huS r k = true then hd r k 3 else -9)), (3, .int (nI k)), (2, .int ((heL r j k).1)), (0, .ref ob), (1, .int (nI j))]) hx hb dX8_gotBy_33 hl (by decide) rfl (fun ls hl => ?_)
      refine W.join (fun vJ => F0 m 58 ls (.int vJ :: [])) (fun vJ => vJ = bI (decide (huS r k = true ∧ neS r j k = true ∧ ¬ hd r k 3 = hd r j 3))) (fun vJ hJ => ?_) (fun J2 => ?_)
      · subst hJ
        refine lv_istore (lv' := [(5, .int (bI (decide (huS r k = true ∧ neS r j k = true ∧ ¬ hd r k 3 = hd r j 3)))), (4, .int (if neS r j k = true ∧ huS r k = true then hd r k 3 else -9)), (3, .int (nI k)), (2, .int ((heL r j k).1)), (0, .ref ob), (1, .int (nI j))]) hx hb dX8_gotBy_58 hl (by decide) rfl (fun ls hl => ?_)
        refine W.join (fun vJ => F0 m 126 ls (.int vJ :: [])) (fun vJ => vJ = bI (decide (huS r k = true ∧ neS r j k = true ∧ ¬ hd r k 3 = hd r j 3) && betB r j k)) (fun vJ hJ => ?_) (fun J3 => ?_)
        · subst hJ
          refine lv_istore (lv' := [(6, .int (bI (decide (huS r k = true ∧ neS r j k = true ∧ ¬ hd r k 3 = hd r j 3) && betB r j k))), (5, .int (bI (decide (huS r k = true ∧ neS r j k = true ∧ ¬ hd r k 3 = hd r j 3)))), (4, .int (if neS r j k = true ∧ huS r k = true then hd r k 3 else -9)), (3, .int (nI k)), (2, .int ((heL r j k).1)), (0, .ref ob), (1, .int (nI j))]) hx hb dX8_gotBy_126 hl (by decide) rfl (fun ls hl => ?_)
          refine W.join (fun vJ => F0 m 139 ls (.int vJ :: [])) (fun vJ => vJ = (heL r j (k + 1)).1) (fun vJ hJ => ?_) (fun J4 => ?_)
          · subst hJ
            refine lv_istore_n (lv' := [(2, .int ((heL r j (k + 1)).1)), (6, .int (bI (decide (huS r k = true ∧ neS r j k = true ∧ ¬ hd r k 3 = hd r j 3) && betB r j k))), (5, .int (bI (decide (huS r k = true ∧ neS r j k = true ∧ ¬ hd r k 3 = hd r j 3)))), (4, .int (if neS r j k = true ∧ huS r k = true then hd r k 3 else -9)), (3, .int (nI k)), (0, .ref ob), (1, .int (nI j))]) hx hb dX8_gotBy_139 rfl hl (by decide) rfl (fun ls hl => ?_)
            refine lv_iinc (v := nI (k + 1)) (lv' := [(3, .int (nI (k + 1))), (2, .int ((heL r j (k + 1)).1)), (6, .int (bI (decide (huS r k = true ∧ neS r j k = true ∧ ¬ hd r k 3 = hd r j 3) && betB r j k))), (5, .int (bI (decide (huS r k = true ∧ neS r j k = true ∧ ¬ hd r k 3 = hd r j 3)))), (4, .int (if neS r j k = true ∧ huS r k = true then hd r k 3 else -9)), (0, .ref ob), (1, .int (nI j))]) hx hb dX8_gotBy_140 hl (k := 4) rfl (nI_1 k) (by decide) rfl (fun ls hl => ?_)
            refine lv_goto (tgt := 5) hx hb dX8_gotBy_143 (by decide) ?_
            exact ihk (k + 1) ls (by omega) ⟨by omega, trivial, lv_sub hl [0, 1, 5, 6] rfl⟩
          · refine lv_iload hx hb dX8_gotBy_128 (lv_at hl 0 rfl) ?_
            refine z_ifeq (tgt := 138) hx hb dX8_gotBy_130 (by decide) (fun c130 => ?_) (fun c130 => ?_)
            · refine lv_iload_n hx hb dX8_gotBy_138 rfl (lv_at hl 4 rfl) ?_
              exact J4 _ (by rw [heL_skip (fun q => by rw [decide_eq_true ⟨q.1, q.2.1, q.2.2.1⟩, Bool.true_and] at c130; exact betB_f c130 q.2.2.2)])
            · refine lv_iload hx hb dX8_gotBy_133 (lv_at hl 2 rfl) ?_
              refine lv_goto (tgt := 139) hx hb dX8_gotBy_135 (by decide) ?_
              exact J4 _ (by obtain ⟨q1, q2⟩ := Bool.and_eq_true_iff.mp c130; have q1 := of_decide_eq_true q1; rw [heL_take q1.1 q1.2.1 q1.2.2 (betB_t q2), if_pos ⟨q1.2.1, q1.1⟩])
        · refine lv_iload hx hb dX8_gotBy_60 (lv_at hl 0 rfl) ?_
          refine z_ifeq (tgt := 125) hx hb dX8_gotBy_62 (by decide) (fun c62 => ?_) (fun c62 => ?_)
          · refine lv_iconst (v := 0) hx hb dX8_gotBy_125 (by decide) ?_
            exact J3 _ (by unfold betB; grind [bI])
          · have hix := hOk.hasIx (j := k) (by omega) (huS_has (of_decide_eq_true c62).1)
            have hT4 : (if neS r j k = true ∧ huS r k = true then hd r k 3 else -9) = hd r k 3 := if_pos ⟨(of_decide_eq_true c62).2.1, (of_decide_eq_true c62).1⟩
            refine lv_iload_n hx hb dX8_gotBy_65 rfl (lv_at hl 3 rfl) ?_
            refine lv_bipush (v := (-9)) hx hb dX8_gotBy_66 (by decide) ?_
            refine lv_icmp_eq (tgt := 121) hx hb dX8_gotBy_68 (by decide) (fun c68 => ?_) (fun c68 => ?_)
            · refine lv_iconst (v := 1) hx hb dX8_gotBy_121 (by decide) ?_
              refine lv_goto (tgt := 126) hx hb dX8_gotBy_122 (by decide) ?_
              exact J3 _ (by unfold betB; grind [bI])
            · have hib := heL_ix hOk (j := j) (o := k) (by omega) (by grind)
              refine lv_aload_n hx hb dX8_gotBy_71 rfl (lv_at hl 4 rfl) ?_
              refine o_get (v := .ref (ob + 3)) hx hb hts hown hKK hV.1 5 (by decide) q205 rfl rfl dX8_gotBy_72 ?_
              refine lv_iload hx hb dX8_gotBy_75 (lv_at hl 1 rfl) ?_
              obtain ⟨a77, hsa77, hla77, hoa77⟩ := hV.2.1.1 (ix (hd r k 3)) (by omega) (by omega)
              have hka77 : ix (so r (ix (hd r k 3)) 0) < 6 := okK (hOk.song (i := ix (hd r k 3)) (by omega))
              refine o_sald hx hb hKK hV.1 (by rw [hT4]; exact hix.1) (by omega) hsa77 dX8_gotBy_77 ?_
              refine cg_song hka77 hx hb hts hown hKK hoa77 0 (by decide) q682 rfl dX8_gotBy_78 ?_
              refine lv_aload_n hx hb dX8_gotBy_81 rfl (lv_at hl 4 rfl) ?_
              refine o_get (v := .ref (ob + 3)) hx hb hts hown hKK hV.1 5 (by decide) q205 rfl rfl dX8_gotBy_82 ?_
              refine lv_iload_n hx hb dX8_gotBy_85 rfl (lv_at hl 3 rfl) ?_
              obtain ⟨a86, hsa86, hla86, hoa86⟩ := hV.2.1.1 (ix (heL r j k).1) (by omega) (by omega)
              have hka86 : ix (so r (ix (heL r j k).1) 0) < 6 := okK (hOk.song (i := ix (heL r j k).1) (by omega))
              refine o_sald hx hb hKK hV.1 hib.1 (by omega) hsa86 dX8_gotBy_86 ?_
              refine cg_song hka86 hx hb hts hown hKK hoa86 0 (by decide) q682 rfl dX8_gotBy_87 ?_
              refine lv_icmp_gt (tgt := 121) hx hb dX8_gotBy_90 (by decide) (fun c90 => ?_) (fun c90 => ?_)
              · refine lv_iconst (v := 1) hx hb dX8_gotBy_121 (by decide) ?_
                refine lv_goto (tgt := 126) hx hb dX8_gotBy_122 (by decide) ?_
                exact J3 _ (by unfold betB; grind [bI])
              · refine lv_aload_n hx hb dX8_gotBy_93 rfl (lv_at hl 4 rfl) ?_
                refine o_get (v := .ref (ob + 3)) hx hb hts hown hKK hV.1 5 (by decide) q205 rfl rfl dX8_gotBy_94 ?_
                refine lv_iload hx hb dX8_gotBy_97 (lv_at hl 1 rfl) ?_
                obtain ⟨a99, hsa99, hla99, hoa99⟩ := hV.2.1.1 (ix (hd r k 3)) (by omega) (by omega)
                have hka99 : ix (so r (ix (hd r k 3)) 0) < 6 := okK (hOk.song (i := ix (hd r k 3)) (by omega))
                refine o_sald hx hb hKK hV.1 (by rw [hT4]; exact hix.1) (by omega) hsa99 dX8_gotBy_99 ?_
                refine cg_song hka99 hx hb hts hown hKK hoa99 0 (by decide) q682 rfl dX8_gotBy_100 ?_
                refine lv_aload_n hx hb dX8_gotBy_103 rfl (lv_at hl 4 rfl) ?_
                refine o_get (v := .ref (ob + 3)) hx hb hts hown hKK hV.1 5 (by decide) q205 rfl rfl dX8_gotBy_104 ?_
                refine lv_iload_n hx hb dX8_gotBy_107 rfl (lv_at hl 3 rfl) ?_
                obtain ⟨a108, hsa108, hla108, hoa108⟩ := hV.2.1.1 (ix (heL r j k).1) (by omega) (by omega)
                have hka108 : ix (so r (ix (heL r j k).1) 0) < 6 := okK (hOk.song (i := ix (heL r j k).1) (by omega))
                refine o_sald hx hb hKK hV.1 hib.1 (by omega) hsa108 dX8_gotBy_108 ?_
                refine cg_song hka108 hx hb hts hown hKK hoa108 0 (by decide) q682 rfl dX8_gotBy_109 ?_
                refine lv_icmp_ne (tgt := 125) hx hb dX8_gotBy_112 (by decide) (fun c112 => ?_) (fun c112 => ?_)
                · refine lv_iconst (v := 0) hx hb dX8_gotBy_125 (by decide) ?_
                  exact J3 _ (by unfold betB; grind [bI])
                · refine lv_iload hx hb dX8_gotBy_115 (lv_at hl 1 rfl) ?_
                  refine lv_iload_n hx hb dX8_gotBy_117 rfl (lv_at hl 3 rfl) ?_
                  refine lv_icmp_ge (tgt := 125) hx hb dX8_gotBy_118 (by decide) (fun c118 => ?_) (fun c118 => ?_)
                  · refine lv_iconst (v := 0) hx hb dX8_gotBy_125 (by decide) ?_
                    exact J3 _ (by unfold betB; grind [bI])
                  · refine lv_iconst (v := 1) hx hb dX8_gotBy_121 (by decide) ?_
                    refine lv_goto (tgt := 126) hx hb dX8_gotBy_122 (by decide) ?_
                    exact J3 _ (by unfold betB; grind [bI])
      · refine lv_iload hx hb dX8_gotBy_35 (lv_at hl 0 rfl) ?_
        refine lv_bipush (v := (-9)) hx hb dX8_gotBy_37 (by decide) ?_
        refine lv_icmp_eq (tgt := 57) hx hb dX8_gotBy_39 (by decide) (fun c39 => ?_) (fun c39 => ?_)
        · refine lv_iconst (v := 0) hx hb dX8_gotBy_57 (by decide) ?_
          exact J2 _ (by grind [bI])
        · refine lv_iload hx hb dX8_gotBy_42 (lv_at hl 0 rfl) ?_
          refine lv_aload_n hx hb dX8_gotBy_44 rfl (lv_at hl 3 rfl) ?_
          refine o_get (v := .ref (ob + 7)) hx hb hts hown hKK hV.1 10 (by decide) q221 rfl rfl dX8_gotBy_45 ?_
          refine lv_iload_n hx hb dX8_gotBy_48 rfl (lv_at hl 4 rfl) ?_
          refine o_ald hx hb hKK hV.1 7 rfl (k := j) (v := hd r j 3) rfl (by omega) (by decide) rfl dX8_gotBy_49 ?_
          refine lv_icmp_eq (tgt := 57) hx hb dX8_gotBy_50 (by decide) (fun c50 => ?_) (fun c50 => ?_)
          · refine lv_iconst (v := 0) hx hb dX8_gotBy_57 (by decide) ?_
            exact J2 _ (by grind [bI])
          · refine lv_iconst (v := 1) hx hb dX8_gotBy_53 (by decide) ?_
            refine lv_goto (tgt := 58) hx hb dX8_gotBy_54 (by decide) ?_
            exact J2 _ (by grind [bI])
    · refine lv_aload_n hx hb dX8_gotBy_13 rfl (lv_at hl 2 rfl) ?_
      refine lv_iload_n hx hb dX8_gotBy_14 rfl (lv_at hl 3 rfl) ?_
      refine lv_iload_n hx hb dX8_gotBy_15 rfl (lv_at hl 0 rfl) ?_
      refine g_r (g_runV (As := [.int (nI j), .int (nI k)]) (rest := []) S hKK hV (hV.recv hKK) (co_X8_areNear l D t ob kb lo sg kd r A j k (by omega) (by omega) hX) (cwV 2 hts (lw_V q919 q860 q861 q103 q862) rfl rfl rfl (by decide +kernel) ⟨Nat.le_of_ble_eq_true rfl, Nat.le_of_ble_eq_true rfl⟩) rfl hl.1 rfl (Nat.le_of_ble_eq_true rfl) dX8_gotBy_16 ⟨Nat.le_of_ble_eq_true rfl, Nat.le_of_ble_eq_true rfl⟩) ?_
      refine z_ifeq (tgt := 31) hx hb dX8_gotBy_19 (by decide) (fun c19 => ?_) (fun c19 => ?_)
      · refine lv_bipush (v := (-9)) hx hb dX8_gotBy_31 (by decide) ?_
        exact J _ (by grind)
      · refine lv_aload_n hx hb dX8_gotBy_22 rfl (lv_at hl 2 rfl) ?_
        refine o_get (v := .ref (ob + 10)) hx hb hts hown hKK hV.1 15 (by decide) q233 rfl rfl dX8_gotBy_23 ?_
        refine lv_iload_n hx hb dX8_gotBy_26 rfl (lv_at hl 0 rfl) ?_
        refine o_ald hx hb hKK hV.1 10 rfl (k := k) (v := A 10 k) rfl (by omega) (by decide) rfl dX8_gotBy_27 ?_
        refine lv_goto (tgt := 33) hx hb dX8_gotBy_28 (by decide) ?_
        exact J _ (by grind)
set_option maxHeartbeats 4000000 in
theorem co_X8_giverOf (l : Launch) (D : va_G) (t : Nat → ClassId) (ob kb lo : Nat) (sg kd : GT) (r : RT) (A : BT) (j q : Nat) (hX : OkX r) (hj : j < nH r) (hq : q < nH r) (hn : neS r j q = true) (he : A 10 q = A 11 j) (hf : ∀ o, o < q → ¬ (neS r j o = true ∧ A 10 o = A 11 j)) : Met l yX8_giverOf (ws_ yX8_giverOf cX8_giverOf 3 (some .int)) ({ frames := 3, cells := 0, slots := 0, locals := 68 }) (zPc [.ref ob, .int (nI j)] (OV D t ob kb lo sg kd r A) (KK D t)) (QcRead (nI q)) 0 0 (fun _ => False) := by
  refine zOf (cc := cX8_giverOf) (maxL := 3) (ret := (some .int)) (by decide) (Nat.le_of_ble_eq_true rfl) (fun pg ev s m below meth cd ls F hV hKK hl hnm => ?_)
  obtain ⟨hx, hb, hml, hown, hts, hr, hlk⟩ := F
  have S : CallFix pg m cd cX8_giverOf 3 s _ lw_all RX8 := ⟨hx, hb, hml, hown, hts⟩
  have hl : lv_has ls 3 [(0, .ref ob), (1, .int (nI j))] := hl
  have hd0 := hX.1.1
  have hd8 := hX.1.2
  have hh3 := hX.2.2.1.1
  have hh6 := hX.2.2.1.2
  have hs5 := hX.2.1.2
  refine lv_iconst (v := 0) hx hb dX8_giverOf_0 (by decide) ?_
  refine lv_istore_n (lv' := [(2, .int 0), (0, .ref ob), (1, .int (nI j))]) hx hb dX8_giverOf_1 rfl hl (by decide) rfl (fun ls hl => ?_)
  refine W.loopR (fun (k : Nat) ls => k ≤ q ∧ (True) ∧ lv_has ls 3 [(2, .int (nI k)), (0, .ref ob), (1, .int (nI j))]) (fun k => q - k) (fun k ls hIk ihk => ?_) 0 ⟨by omega, trivial, lv_sub hl [0, 1, 2] rfl⟩
  obtain ⟨hk, hEk, hl⟩ := hIk
  refine lv_iload_n hx hb dX8_giverOf_2 rfl (lv_at hl 0 rfl) ?_
  refine lv_aload_n hx hb dX8_giverOf_3 rfl (lv_at hl 1 rfl) ?_
  refine o_get (v := .int (r 3)) hx hb hts hown hKK hV.1 6 (by decide) q210 rfl rfl dX8_giverOf_4 ?_
  refine lv_icmp_ge (tgt := 42) hx hb dX8_giverOf_7 (by decide) (fun c7 => ?_) (fun c7 => ?_)
  · exact absurd (lp_end hh3 (by omega) (by omega) c7) (by omega)
  · refine lv_aload_n hx hb dX8_giverOf_10 rfl (lv_at hl 1 rfl) ?_
    refine lv_iload_n hx hb dX8_giverOf_11 rfl (lv_at hl 2 rfl) ?_
    refine lv_iload_n hx hb dX8_giverOf_12 rfl (lv_at hl 0 rfl) ?_
    refine g_r (g_runV (As := [.int (nI j), .int (nI k)]) (rest := []) S hKK hV (hV.recv hKK) (co_X8_areNear l D t ob kb lo sg kd r A j k (by omega) (by omega) hX) (cwV 2 hts (lw_V q919 q860 q861 q103 q862) rfl rfl rfl (by decide +kernel) ⟨Nat.le_of_ble_eq_true rfl, Nat.le_of_ble_eq_true rfl⟩) rfl hl.1 rfl (Nat.le_of_ble_eq_true rfl) dX8_giverOf_13 ⟨Nat.le_of_ble_eq_true rfl, Nat.le_of_ble_eq_true rfl⟩) ?_
    refine z_ifeq (tgt := 36) hx hb dX8_giverOf_16 (by decide) (fun c16 => ?_) (fun c16 => ?_)
    · have hkq : k < q := by rcases Nat.lt_or_ge k q with z | z; (exact z); (rw [show k = q by omega, hn] at c16; cases c16)
      refine lv_iinc (v := nI (k + 1)) (lv' := [(2, .int (nI (k + 1))), (0, .ref ob), (1, .int (nI j))]) hx hb dX8_giverOf_36 hl (k := 0) rfl (nI_1 k) (by decide) rfl (fun ls hl => ?_)
      refine lv_goto (tgt := 2) hx hb dX8_giverOf_39 (by decide) ?_
      exact ihk (k + 1) ls (by omega) ⟨by omega, trivial, lv_sub hl [0, 1, 2] rfl⟩
    · refine lv_aload_n hx hb dX8_giverOf_19 rfl (lv_at hl 1 rfl) ?_
      refine o_get (v := .ref (ob + 10)) hx hb hts hown hKK hV.1 15 (by decide) q233 rfl rfl dX8_giverOf_20 ?_
      refine lv_iload_n hx hb dX8_giverOf_23 rfl (lv_at hl 0 rfl) ?_
      refine o_ald hx hb hKK hV.1 10 rfl (k := k) (v := A 10 k) rfl (by omega) (by decide) rfl dX8_giverOf_24 ?_
      refine lv_aload_n hx hb dX8_giverOf_25 rfl (lv_at hl 1 rfl) ?_
      refine o_get (v := .ref (ob + 11)) hx hb hts hown hKK hV.1 16 (by decide) q234 rfl rfl dX8_giverOf_26 ?_
      refine lv_iload_n hx hb dX8_giverOf_29 rfl (lv_at hl 2 rfl) ?_
      refine o_ald hx hb hKK hV.1 11 rfl (k := j) (v := A 11 j) rfl (by omega) (by decide) rfl dX8_giverOf_30 ?_
      refine lv_icmp_ne (tgt := 36) hx hb dX8_giverOf_31 (by decide) (fun c31 => ?_) (fun c31 => ?_)
      · have hkq : k < q := by rcases Nat.lt_or_ge k q with z | z; (exact z); (rw [show k = q by omega] at c31; exact absurd he c31)
        refine lv_iinc (v := nI (k + 1)) (lv' := [(2, .int (nI (k + 1))), (0, .ref ob), (1, .int (nI j))]) hx hb dX8_giverOf_36 hl (k := 0) rfl (nI_1 k) (by decide) rfl (fun ls hl => ?_)
        refine lv_goto (tgt := 2) hx hb dX8_giverOf_39 (by decide) ?_
        exact ihk (k + 1) ls (by omega) ⟨by omega, trivial, lv_sub hl [0, 1, 2] rfl⟩
      · refine lv_iload_n hx hb dX8_giverOf_34 rfl (lv_at hl 0 rfl) ?_
        exact z_iretR hx hb hr (by rcases Nat.lt_or_ge k q with z | z; (exact absurd ⟨c16, c31⟩ (hf k z)); (rw [show k = q by omega])) (fun q h => by cases h) rfl dX8_giverOf_35 hlk
set_option maxHeartbeats 4000000 in
theorem co_X8_get (l : Launch) (D : va_G) (t : Nat → ClassId) (ob kb lo : Nat) (sg kd : GT) (r : RT) (A : BT) (j : Nat) (v : Int32) (hX : OkX r) (hkb : kb + 6 ≤ ob) (hlo : ob + 15 ≤ lo) (hj : j < 6) (hv : v = -9 ∨ (0 ≤ v ∧ v < r 2)) : Met l yX8_get (ws_ yX8_get cX8_get 3 none) ({ frames := 3, cells := 0, slots := 0, locals := 60 }) (zPc [.ref ob, .int (nI j), .int v] (OV D t ob kb lo sg kd r A) (KK D t)) (va_Qv (fun u => u = (geS r j v, A)) (fun u U => OV D t ob kb lo sg kd u.1 u.2 U.heap) (oA ob)) 0 0 (oA ob) := by
  refine zOf (cc := cX8_get) (maxL := 3) (ret := none) (by decide) (Nat.le_of_ble_eq_true rfl) (fun pg ev s m below meth cd ls F hV hKK hl hnm => ?_)
  obtain ⟨hx, hb, hml, hown, hts, hr, hlk⟩ := F
  have S : CallFix pg m cd cX8_get 3 s _ lw_all RX8 := ⟨hx, hb, hml, hown, hts⟩
  have hl : lv_has ls 3 [(0, .ref ob), (1, .int (nI j)), (2, .int v)] := hl
  have hS : va_S (oA ob) s.heap s.heap [] := va_S.rf
  have hd0 := hX.1.1
  have hd8 := hX.1.2
  have hh3 := hX.2.2.1.1
  have hh6 := hX.2.2.1.2
  have hs5 := hX.2.1.2
  refine lv_aload_n hx hb dX8_get_0 rfl (lv_at hl 0 rfl) ?_
  refine o_get (v := .ref (ob + 7)) hx hb hts hown hKK hV.1 10 (by decide) q221 rfl rfl dX8_get_1 ?_
  refine lv_iload_n hx hb dX8_get_4 rfl (lv_at hl 1 rfl) ?_
  refine lv_iload_n hx hb dX8_get_5 rfl (lv_at hl 2 rfl) ?_
  refine o_astH hx hb hKK hV hkb hlo (fun q h => h) hS 3 (by decide) rfl (k := j) rfl (by omega) rfl dX8_get_6 (fun H locs hV _ _ hS => ?_)
  refine lv_aload_n hx hb dX8_get_7 rfl (lv_at hl 0 rfl) ?_
  refine o_get (v := .ref (ob + 8)) hx hb hts hown hKK hV.1 11 (by decide) q223 rfl rfl dX8_get_8 ?_
  refine lv_iload_n hx hb dX8_get_11 rfl (lv_at hl 1 rfl) ?_
  refine lv_iload_n hx hb dX8_get_12 rfl (lv_at hl 2 rfl) ?_
  refine lv_bipush (v := (-9)) hx hb dX8_get_13 (by decide) ?_
  refine lv_icmp_ne (tgt := 22) hx hb dX8_get_15 (by decide) (fun c15 => ?_) (fun c15 => ?_)
  · have hv := hv.resolve_left c15
    have hix := hX.ix hv.1 hv.2
    refine lv_bipush (v := 60) hx hb dX8_get_22 (by decide) ?_
    refine lv_aload_n hx hb dX8_get_24 rfl (lv_at hl 0 rfl) ?_
    refine o_get (v := .ref (ob + 3)) hx hb hts hown hKK hV.1 5 (by decide) q205 rfl rfl dX8_get_25 ?_
    refine lv_iload_n hx hb dX8_get_28 rfl (lv_at hl 2 rfl) ?_
    obtain ⟨a29, hsa29, hla29, hoa29⟩ := hV.2.1.1 (ix v) (by omega) (show ix v < nS (upd r (37 + 6 * j + 3) v) by rw [nS_hd]; exact hix.2)
    have hka29 : ix (so (upd r (37 + 6 * j + 3) v) (ix v) 0) < 6 := okK (OkS_hd (i := ix v) (by omega) (hX.song hix.2) )
    refine o_sald hx hb hKK hV.1 hix.1 (by omega) hsa29 dX8_get_29 ?_
    refine cv_X8_Song_fresh (k := ix (so (upd r (37 + 6 * j + 3) v) (ix v) 0)) hka29 (rest := [.int 60, .int (nI j), .ref (ob + 8)]) S hKK hoa29 ⟨Nat.le_of_ble_eq_true rfl, Nat.le_of_ble_eq_true rfl⟩ hl.1 rfl (Nat.le_of_ble_eq_true rfl) dX8_get_30 ⟨Nat.le_of_ble_eq_true rfl, Nat.le_of_ble_eq_true rfl⟩ ?_
    refine z_top (y := frS r (ix v)) ((frK_eq (OkS_hd (by omega) (hX.song hix.2))).trans (frS_hd (by omega))) ?_
    refine va_mmin hx hb (hml.trans hl.1.symm) hown (hts _ q654) (hts _ q655) (hts _ q119) (hts _ q656) (Nat.le_of_ble_eq_true rfl) (Nat.le_of_ble_eq_true rfl) (Nat.le_of_ble_eq_true rfl) (Nat.le_of_ble_eq_true rfl) dX8_get_33 ?_
    refine o_astH hx hb hKK hV hkb hlo (fun q h => h) hS 4 (by decide) rfl (k := j) rfl (by omega) rfl dX8_get_36 (fun H locs hV _ _ hS => ?_)
    exact o_vret hx hb hr (by show (_, A) = _; rw [ge_close (v := v)]; first | exact Or.inl ⟨c15, rfl⟩ | exact Or.inr ⟨hv.1, by have := frS_bd (hX.song hix.2); grind⟩) hV hS dX8_get_37 hlk
  · refine lv_iconst (v := 0) hx hb dX8_get_18 (by decide) ?_
    refine lv_goto (tgt := 36) hx hb dX8_get_19 (by decide) ?_
    refine o_astH hx hb hKK hV hkb hlo (fun q h => h) hS 4 (by decide) rfl (k := j) rfl (by omega) rfl dX8_get_36 (fun H locs hV _ _ hS => ?_)
    exact o_vret hx hb hr (by show (_, A) = _; rw [ge_close (v := v)]; first | exact Or.inl ⟨c15, rfl⟩ | exact Or.inr ⟨hv.1, by have := frS_bd (hX.song hix.2); grind⟩) hV hS dX8_get_37 hlk
set_option maxHeartbeats 4000000 in
theorem co_X8_weaken (l : Launch) (D : va_G) (t : Nat → ClassId) (ob kb lo : Nat) (sg kd : GT) (r : RT) (A : BT) (j : Nat) (x : Int32) (hj : j < 6) (hkb : kb + 6 ≤ ob) (hlo : ob + 15 ≤ lo) : Met l yX8_weaken (ws_ yX8_weaken cX8_weaken 3 none) ({ frames := 1, cells := 0, slots := 0, locals := 21 }) (zPc [.ref ob, .int (nI j), .int x] (OV D t ob kb lo sg kd r A) (KK D t)) (va_Qv (fun u => u = (wkS r j x, A)) (fun u U => OV D t ob kb lo sg kd u.1 u.2 U.heap) (oA ob)) 0 0 (oA ob) := by
  refine zOf (cc := cX8_weaken) (maxL := 3) (ret := none) (by decide) (Nat.le_of_ble_eq_true rfl) (fun pg ev s m below meth cd ls F hV hKK hl hnm => ?_)
  obtain ⟨hx, hb, hml, hown, hts, hr, hlk⟩ := F
  have S : CallFix pg m cd cX8_weaken 3 s _ lw_all RX8 := ⟨hx, hb, hml, hown, hts⟩
  have hl : lv_has ls 3 [(0, .ref ob), (1, .int (nI j)), (2, .int x)] := hl
  have hS : va_S (oA ob) s.heap s.heap [] := va_S.rf
  refine lv_aload_n hx hb dX8_weaken_0 rfl (lv_at hl 0 rfl) ?_
  refine o_get (v := .ref (ob + 8)) hx hb hts hown hKK hV.1 11 (by decide) q223 rfl rfl dX8_weaken_1 ?_
  refine lv_iload_n hx hb dX8_weaken_4 rfl (lv_at hl 1 rfl) ?_
  refine lv_iconst (v := 0) hx hb dX8_weaken_5 (by decide) ?_
  refine lv_bipush (v := 60) hx hb dX8_weaken_6 (by decide) ?_
  refine lv_aload_n hx hb dX8_weaken_8 rfl (lv_at hl 0 rfl) ?_
  refine o_get (v := .ref (ob + 8)) hx hb hts hown hKK hV.1 11 (by decide) q223 rfl rfl dX8_weaken_9 ?_
  refine lv_iload_n hx hb dX8_weaken_12 rfl (lv_at hl 1 rfl) ?_
  refine o_ald hx hb hKK hV.1 8 rfl (k := j) (v := hd r j 4) rfl (by omega) (by decide) rfl dX8_weaken_13 ?_
  refine lv_iload_n hx hb dX8_weaken_14 rfl (lv_at hl 2 rfl) ?_
  refine lv_isub hx hb dX8_weaken_15 ?_
  refine va_mmin hx hb (hml.trans hl.1.symm) hown (hts _ q654) (hts _ q655) (hts _ q119) (hts _ q656) (Nat.le_of_ble_eq_true rfl) (Nat.le_of_ble_eq_true rfl) (Nat.le_of_ble_eq_true rfl) (Nat.le_of_ble_eq_true rfl) dX8_weaken_16 ?_
  refine va_mmax hx hb (hml.trans hl.1.symm) hown (hts _ q902) (hts _ q903) (hts _ q119) (hts _ q904) (Nat.le_of_ble_eq_true rfl) (Nat.le_of_ble_eq_true rfl) (Nat.le_of_ble_eq_true rfl) (Nat.le_of_ble_eq_true rfl) dX8_weaken_19 ?_
  refine z_top (y := wkV (hd r j 4) x) rfl ?_
  refine o_astH hx hb hKK hV hkb hlo (fun q h => h) hS 4 (by decide) rfl (k := j) rfl (by omega) rfl dX8_weaken_22 (fun H locs hV _ _ hS => ?_)
  refine lv_aload_n hx hb dX8_weaken_23 rfl (lv_at hl 0 rfl) ?_
  refine o_get (v := .ref (ob + 7)) hx hb hts hown hKK hV.1 10 (by decide) q221 rfl rfl dX8_weaken_24 ?_
  refine lv_iload_n hx hb dX8_weaken_27 rfl (lv_at hl 1 rfl) ?_
  refine W.join (fun vJ => F0 m 48 ls (.int vJ :: [.int (nI j), .ref (ob + 7)])) (fun vJ => vJ = (if wkV (hd r j 4) x = 0 then -9 else hd r j 3)) (fun vJ hJ => ?_) (fun J => ?_)
  · subst hJ
    refine o_astH hx hb hKK hV hkb hlo (fun q h => h) hS 3 (by decide) rfl (k := j) rfl (by omega) rfl dX8_weaken_48 (fun H locs hV _ _ hS => ?_)
    exact o_vret hx hb hr rfl hV hS dX8_weaken_49 hlk
  · refine lv_aload_n hx hb dX8_weaken_28 rfl (lv_at hl 0 rfl) ?_
    refine o_get (v := .ref (ob + 8)) hx hb hts hown hKK hV.1 11 (by decide) q223 rfl rfl dX8_weaken_29 ?_
    refine lv_iload_n hx hb dX8_weaken_32 rfl (lv_at hl 1 rfl) ?_
    refine o_ald hx hb hKK hV.1 8 rfl (k := j) (v := wkV (hd r j 4) x) rfl (by omega) (by decide) (upd_self _ _ _) dX8_weaken_33 ?_
    refine lv_if_ne (tgt := 42) hx hb dX8_weaken_34 (by decide) (fun c34 => ?_) (fun c34 => ?_)
    · refine lv_aload_n hx hb dX8_weaken_42 rfl (lv_at hl 0 rfl) ?_
      refine o_get (v := .ref (ob + 7)) hx hb hts hown hKK hV.1 10 (by decide) q221 rfl rfl dX8_weaken_43 ?_
      refine lv_iload_n hx hb dX8_weaken_46 rfl (lv_at hl 1 rfl) ?_
      refine o_ald hx hb hKK hV.1 7 rfl (k := j) (v := hd r j 3) rfl (by omega) (by decide) (upd_ne (k := 37 + 6 * j + 4) (q := 37 + 6 * j + 3) _ _ (by omega)) dX8_weaken_47 ?_
      exact J _ (by grind)
    · refine lv_bipush (v := (-9)) hx hb dX8_weaken_37 (by decide) ?_
      refine lv_goto (tgt := 48) hx hb dX8_weaken_39 (by decide) ?_
      exact J _ (by grind)
set_option maxHeartbeats 4000000 in
theorem co_X8_fade (l : Launch) (D : va_G) (t : Nat → ClassId) (ob kb lo : Nat) (sg kd : GT) (r : RT) (A : BT) (j T : Nat) (hX : OkX r) (hT : r 4 = nI T) (hN : T < 2 ^ 30) (hkb : kb + 6 ≤ ob) (hlo : ob + 15 ≤ lo) (hj : j < 6) (h3 : 0 ≤ hd r j 3 ∧ hd r j 3 < r 2) : Met l yX8_fade (ws_ yX8_fade cX8_fade 3 none) ({ frames := 3, cells := 0, slots := 0, locals := 63 }) (zPc [.ref ob, .int (nI j)] (OV D t ob kb lo sg kd r A) (KK D t)) (va_Qv (fun u => u = (waS r j, A)) (fun u U => OV D t ob kb lo sg kd u.1 u.2 U.heap) (oA ob)) 0 0 (oA ob) := by
  refine zOf (cc := cX8_fade) (maxL := 3) (ret := none) (by decide) (Nat.le_of_ble_eq_true rfl) (fun pg ev s m below meth cd ls F hV hKK hl hnm => ?_)
  obtain ⟨hx, hb, hml, hown, hts, hr, hlk⟩ := F
  have S : CallFix pg m cd cX8_fade 3 s _ lw_all RX8 := ⟨hx, hb, hml, hown, hts⟩
  have hl : lv_has ls 3 [(0, .ref ob), (1, .int (nI j))] := hl
  have hS : va_S (oA ob) s.heap s.heap [] := va_S.rf
  have hd0 := hX.1.1
  have hd8 := hX.1.2
  have hh3 := hX.2.2.1.1
  have hh6 := hX.2.2.1.2
  have hs5 := hX.2.1.2
  have hix := hX.ix h3.1 h3.2
  refine lv_aload_n hx hb dX8_fade_0 rfl (lv_at hl 0 rfl) ?_
  refine o_get (v := .ref (ob + 3)) hx hb hts hown hKK hV.1 5 (by decide) q205 rfl rfl dX8_fade_1 ?_
  refine lv_aload_n hx hb dX8_fade_4 rfl (lv_at hl 0 rfl) ?_
  refine o_get (v := .ref (ob + 7)) hx hb hts hown hKK hV.1 10 (by decide) q221 rfl rfl dX8_fade_5 ?_
  refine lv_iload_n hx hb dX8_fade_8 rfl (lv_at hl 1 rfl) ?_
  refine o_ald hx hb hKK hV.1 7 rfl (k := j) (v := hd r j 3) rfl (by omega) (by decide) rfl dX8_fade_9 ?_
  obtain ⟨a10, hsa10, hla10, hoa10⟩ := hV.2.1.1 (ix (hd r j 3)) (by omega) (by omega)
  have hka10 : ix (so r (ix (hd r j 3)) 0) < 6 := okK (hX.song (i := ix (hd r j 3)) (by omega))
  refine o_sald hx hb hKK hV.1 hix.1 (by omega) hsa10 dX8_fade_10 ?_
  refine lv_aload_n hx hb dX8_fade_11 rfl (lv_at hl 0 rfl) ?_
  refine o_get (v := .int (r 4)) hx hb hts hown hKK hV.1 13 (by decide) q228 rfl rfl dX8_fade_12 ?_
  refine cv_X8_Song_fades (k := ix (so r (ix (hd r j 3)) 0)) hka10 (rest := []) S hKK hoa10 ⟨Nat.le_of_ble_eq_true rfl, Nat.le_of_ble_eq_true rfl⟩ hl.1 rfl (Nat.le_of_ble_eq_true rfl) dX8_fade_15 ⟨Nat.le_of_ble_eq_true rfl, Nat.le_of_ble_eq_true rfl⟩ ?_
  refine z_top (y := faS r (ix (hd r j 3))) (faK_eq (hX.song hix.2) hT hN) ?_
  refine W.join (fun vJ => F0 m 32 ls (.int vJ :: [.int (faS r (ix (hd r j 3)))])) (fun vJ => vJ = (if 0 < hd r j 5 then 1 else 0)) (fun vJ hJ => ?_) (fun J => ?_)
  · subst hJ
    refine lv_iadd hx hb dX8_fade_32 ?_
    refine lv_istore_n (lv' := [(2, .int ((faS r (ix (hd r j 3))) + (if 0 < hd r j 5 then 1 else 0))), (0, .ref ob), (1, .int (nI j))]) hx hb dX8_fade_33 rfl hl (by decide) rfl (fun ls hl => ?_)
    refine lv_aload_n hx hb dX8_fade_34 rfl (lv_at hl 1 rfl) ?_
    refine lv_iload_n hx hb dX8_fade_35 rfl (lv_at hl 2 rfl) ?_
    refine lv_iload_n hx hb dX8_fade_36 rfl (lv_at hl 0 rfl) ?_
    refine va_callv (g_runV (As := [.int (nI j), .int ((faS r (ix (hd r j 3))) + (if 0 < hd r j 5 then 1 else 0))]) (rest := []) S hKK hV (hV.recv hKK) (co_X8_weaken l D t ob kb lo sg kd r A j ((faS r (ix (hd r j 3))) + (if 0 < hd r j 5 then 1 else 0)) (by omega) hkb hlo) (cwV 2 hts (lw_V q898 q899 q900 q103 q901) rfl rfl rfl (by decide +kernel) ⟨Nat.le_of_ble_eq_true rfl, Nat.le_of_ble_eq_true rfl⟩) rfl hl.1 rfl (Nat.le_of_ble_eq_true rfl) dX8_fade_37 ⟨Nat.le_of_ble_eq_true rfl, Nat.le_of_ble_eq_true rfl⟩) hS (fun q _ h => h) (fun q h => h) (fun u37 tt H locs ht _ h37 hV _ _ hS => ?_)
    obtain ⟨R37, A37⟩ := u37
    rw [ht] at hV
    have hV : OV D t ob kb lo sg kd R37 A37 H := hV
    have h37 : (R37, A37) = (wkS r j ((faS r (ix (hd r j 3))) + (if 0 < hd r j 5 then 1 else 0)), A) := h37
    obtain ⟨e1, e2⟩ := Prod.mk.inj h37
    rw [e1, e2] at hV
    exact o_vret hx hb hr (by show (wkS r j _, A) = _; rw [wa_wk (by have := h3.1; grind)]) hV hS dX8_fade_40 hlk
  · refine lv_aload_n hx hb dX8_fade_18 rfl (lv_at hl 0 rfl) ?_
    refine o_get (v := .ref (ob + 9)) hx hb hts hown hKK hV.1 12 (by decide) q225 rfl rfl dX8_fade_19 ?_
    refine lv_iload_n hx hb dX8_fade_22 rfl (lv_at hl 1 rfl) ?_
    refine o_ald hx hb hKK hV.1 9 rfl (k := j) (v := hd r j 5) rfl (by omega) (by decide) rfl dX8_fade_23 ?_
    refine lv_if_le (tgt := 31) hx hb dX8_fade_24 (by decide) (fun c24 => ?_) (fun c24 => ?_)
    · refine lv_iconst (v := 0) hx hb dX8_fade_31 (by decide) ?_
      exact J _ (by grind)
    · refine lv_iconst (v := 1) hx hb dX8_fade_27 (by decide) ?_
      refine lv_goto (tgt := 32) hx hb dX8_fade_28 (by decide) ?_
      exact J _ (by grind)
set_option maxHeartbeats 4000000 in
theorem co_X8_remedy (l : Launch) (D : va_G) (t : Nat → ClassId) (ob kb lo : Nat) (sg kd : GT) (r : RT) (A : BT) (j : Nat) (w : Int32) (N : Nat) (hOk : Ok r N) (hkb : kb + 6 ≤ ob) (hlo : ob + 15 ≤ lo) (hj : j < nH r) (hw : ((w = 0 ∨ w = 1) ∧ ¬ hd r j 3 = -9) ∨ w = 2 ∨ w = 3) : Met l yX8_remedy (ws_ yX8_remedy cX8_remedy 3 none) ({ frames := 2, cells := 0, slots := 0, locals := 43 }) (zPc [.ref ob, .int (nI j), .int w] (OV D t ob kb lo sg kd r A) (KK D t)) (va_Qv (fun u => u = (meS r j w, A)) (fun u U => OV D t ob kb lo sg kd u.1 u.2 U.heap) (oA ob)) 0 0 (oA ob) := by
  refine zOf (cc := cX8_remedy) (maxL := 3) (ret := none) (by decide) (Nat.le_of_ble_eq_true rfl) (fun pg ev s m below meth cd ls F hV hKK hl hnm => ?_)
  obtain ⟨hx, hb, hml, hown, hts, hr, hlk⟩ := F
  have S : CallFix pg m cd cX8_remedy 3 s _ lw_all RX8 := ⟨hx, hb, hml, hown, hts⟩
  have hl : lv_has ls 3 [(0, .ref ob), (1, .int (nI j)), (2, .int w)] := hl
  have hS : va_S (oA ob) s.heap s.heap [] := va_S.rf
  have hd0 := hOk.hr0
  have hd8 := hOk.d8
  have hh3 := hOk.hr3
  have hh6 := hOk.h6
  have hs5 := hOk.s5
  have hX := hOk.X
  refine lv_iload_n hx hb dX8_remedy_0 rfl (lv_at hl 2 rfl) ?_
  refine lv_iconst (v := 2) hx hb dX8_remedy_1 (by decide) ?_
  refine lv_icmp_ne (tgt := 15) hx hb dX8_remedy_2 (by decide) (fun c2 => ?_) (fun c2 => ?_)
  · refine lv_aload_n hx hb dX8_remedy_15 rfl (lv_at hl 0 rfl) ?_
    refine o_get (v := .ref (ob + 7)) hx hb hts hown hKK hV.1 10 (by decide) q221 rfl rfl dX8_remedy_16 ?_
    refine lv_iload_n hx hb dX8_remedy_19 rfl (lv_at hl 1 rfl) ?_
    refine o_ald hx hb hKK hV.1 7 rfl (k := j) (v := hd r j 3) rfl (by omega) (by decide) rfl dX8_remedy_20 ?_
    refine lv_bipush (v := (-9)) hx hb dX8_remedy_21 (by decide) ?_
    refine lv_icmp_eq (tgt := 59) hx hb dX8_remedy_23 (by decide) (fun c23 => ?_) (fun c23 => ?_)
    · exact o_vret hx hb hr (by show (_, A) = _; unfold meS; rw [if_pos (show w = 3 by grind)]) hV hS dX8_remedy_59 hlk
    · refine lv_iload_n hx hb dX8_remedy_26 rfl (lv_at hl 2 rfl) ?_
      refine lv_iconst (v := 2) hx hb dX8_remedy_27 (by decide) ?_
      refine lv_icmp_ge (tgt := 59) hx hb dX8_remedy_28 (by decide) (fun c28 => ?_) (fun c28 => ?_)
      · exact o_vret hx hb hr (by show (_, A) = _; unfold meS; rw [if_pos (show w = 3 by grind)]) hV hS dX8_remedy_59 hlk
      · have hw1 : w = 0 ∨ w = 1 := by grind
        refine lv_aload_n hx hb dX8_remedy_31 rfl (lv_at hl 0 rfl) ?_
        refine lv_iload_n hx hb dX8_remedy_32 rfl (lv_at hl 1 rfl) ?_
        refine W.join (fun vJ => F0 m 56 ls (.int vJ :: [.int (nI j), .ref ob])) (fun vJ => vJ = (if w = 0 then hd r j 4 - hd r j 4 / 2 else 4)) (fun vJ hJ => ?_) (fun J => ?_)
        · subst hJ
          refine va_callv (g_runV (As := [.int (nI j), .int (if w = 0 then hd r j 4 - hd r j 4 / 2 else 4)]) (rest := []) S hKK hV (hV.recv hKK) (co_X8_weaken l D t ob kb lo sg kd r A j (if w = 0 then hd r j 4 - hd r j 4 / 2 else 4) (by omega) hkb hlo) (cwV 2 hts (lw_V q898 q899 q900 q103 q901) rfl rfl rfl (by decide +kernel) ⟨Nat.le_of_ble_eq_true rfl, Nat.le_of_ble_eq_true rfl⟩) rfl hl.1 rfl (Nat.le_of_ble_eq_true rfl) dX8_remedy_56 ⟨Nat.le_of_ble_eq_true rfl, Nat.le_of_ble_eq_true rfl⟩) hS (fun q _ h => h) (fun q h => h) (fun u56 tt H locs ht _ h56 hV _ _ hS => ?_)
          obtain ⟨R56, A56⟩ := u56
          rw [ht] at hV
          have hV : OV D t ob kb lo sg kd R56 A56 H := hV
          have h56 : (R56, A56) = (wkS r j (if w = 0 then hd r j 4 - hd r j 4 / 2 else 4), A) := h56
          obtain ⟨e1, e2⟩ := Prod.mk.inj h56
          rw [e1, e2] at hV
          exact o_vret hx hb hr (by show (wkS r j _, A) = _; rw [me_wk hOk hj hw1]) hV hS dX8_remedy_59 hlk
        · refine lv_iload_n hx hb dX8_remedy_33 rfl (lv_at hl 2 rfl) ?_
          refine lv_if_ne (tgt := 55) hx hb dX8_remedy_34 (by decide) (fun c34 => ?_) (fun c34 => ?_)
          · refine lv_iconst (v := 4) hx hb dX8_remedy_55 (by decide) ?_
            exact J _ (by grind)
          · refine lv_aload_n hx hb dX8_remedy_37 rfl (lv_at hl 0 rfl) ?_
            refine o_get (v := .ref (ob + 8)) hx hb hts hown hKK hV.1 11 (by decide) q223 rfl rfl dX8_remedy_38 ?_
            refine lv_iload_n hx hb dX8_remedy_41 rfl (lv_at hl 1 rfl) ?_
            refine o_ald hx hb hKK hV.1 8 rfl (k := j) (v := hd r j 4) rfl (by omega) (by decide) rfl dX8_remedy_42 ?_
            refine lv_aload_n hx hb dX8_remedy_43 rfl (lv_at hl 0 rfl) ?_
            refine o_get (v := .ref (ob + 8)) hx hb hts hown hKK hV.1 11 (by decide) q223 rfl rfl dX8_remedy_44 ?_
            refine lv_iload_n hx hb dX8_remedy_47 rfl (lv_at hl 1 rfl) ?_
            refine o_ald hx hb hKK hV.1 8 rfl (k := j) (v := hd r j 4) rfl (by omega) (by decide) rfl dX8_remedy_48 ?_
            refine lv_iconst (v := 2) hx hb dX8_remedy_49 (by decide) ?_
            refine lv_idiv hx hb dX8_remedy_50 (by decide) ?_
            refine lv_isub hx hb dX8_remedy_51 ?_
            refine lv_goto (tgt := 56) hx hb dX8_remedy_52 (by decide) ?_
            exact J _ (by grind)
  · refine lv_aload_n hx hb dX8_remedy_5 rfl (lv_at hl 0 rfl) ?_
    refine o_get (v := .ref (ob + 9)) hx hb hts hown hKK hV.1 12 (by decide) q225 rfl rfl dX8_remedy_6 ?_
    refine lv_iload_n hx hb dX8_remedy_9 rfl (lv_at hl 1 rfl) ?_
    refine lv_iconst (v := 3) hx hb dX8_remedy_10 (by decide) ?_
    refine o_astH hx hb hKK hV hkb hlo (fun q h => h) hS 5 (by decide) rfl (k := j) rfl (by omega) rfl dX8_remedy_11 (fun H locs hV _ _ hS => ?_)
    refine lv_goto (tgt := 59) hx hb dX8_remedy_12 (by decide) ?_
    exact o_vret hx hb hr (by show (_, A) = _; unfold meS; rw [if_neg (show ¬ w = 3 by grind), if_pos (show w = 2 by grind)]) hV hS dX8_remedy_59 hlk
