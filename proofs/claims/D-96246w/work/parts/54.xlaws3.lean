/-! PLAIN LAWS for doors, seats, told rows, seeds -/
set_option maxRecDepth 100000
theorem bt_sl {d i : Nat} (hd : d < 32) (hi : i < 32) : bt ((1 : Int32) <<< (nI d &&& 31)) i = decide (i = d) := by
  rw [b_shl d hd 1 hi, b_1]
  by_cases h : i = d
  · subst h; simp
  · rw [decide_eq_false h]
    by_cases g : d ≤ i
    · rw [decide_eq_true g, decide_eq_false (by omega)]; rfl
    · rw [decide_eq_false g]; rfl
theorem nD_1 {r : RT} {v : Int32} : nD (upd r 1 v) = nD r := by
  unfold nD; rw [upd_ne _ _ (by decide)]
theorem shS_sh {r : RT} {d : Nat} (h8 : nD r ≤ 8) (hd : d < nD r) : shS (shR r d) = shS r ||| (1 <<< (nI d &&& 31)) := by
  unfold shS shR
  rw [nD_1, upd_self]
  apply b_ext
  intro i hi
  rw [b_xor, b_and, b_xor, b_or, b_xor, bt_sl (by omega) hi, b_m1 i hi]
  by_cases e : i = d
  · subst e
    rw [bt_ones (nD r) (by omega) i hd]
    simp
  · rw [decide_eq_false e]
    cases bt (r 1) i <;> cases bt (nI (2 ^ nD r - 1)) i <;> rfl
theorem shS_dx {r : RT} {x : Int32} : shS (upd r 1 (doorX r x)) = shS r ^^^ (1 <<< (x &&& 31)) := by
  unfold shS doorX
  rw [nD_1, upd_self]
  apply b_ext
  intro i hi
  rw [b_xor, b_xor, b_xor, b_xor]
  cases bt (r 1) i <;> cases bt (nI (2 ^ nD r - 1)) i <;> cases bt (1 <<< (x &&& 31)) i <;> rfl
theorem oC_one {r : RT} {A : BT} {v x : Int32} (hs : shS (upd r 1 v) = x) : ∀ c, c < 15 → c ≠ 3 → c ≠ 4 → ∀ q, q < oN c → up2 (oC r A) 0 1 x c q = oC (upd r 1 v) A c q := by
  intro c h15 h3 h4 q hq
  have hz : ∀ z, z ≠ 1 → r z = upd r 1 v z := fun z h => (upd_ne _ _ h).symm
  have : c = 0 ∨ c = 1 ∨ c = 2 ∨ c = 5 ∨ c = 6 ∨ c = 7 ∨ c = 8 ∨ c = 9 ∨ c = 10 ∨ c = 11 ∨ c = 12 ∨ c = 13 ∨ c = 14 := by omega
  rcases this with rfl | rfl | rfl | rfl | rfl | rfl | rfl | rfl | rfl | rfl | rfl | rfl | rfl
  · have : q = 0 ∨ q = 1 ∨ q = 2 ∨ q = 3 ∨ q = 4 ∨ q = 5 := by unfold oN at hq; simp at hq; omega
    rcases this with rfl | rfl | rfl | rfl | rfl | rfl
    · exact hz 0 (by decide)
    · exact hs.symm
    · exact hz 2 (by decide)
    · exact hz 3 (by decide)
    · exact hz 4 (by decide)
    · exact hz 5 (by decide)
  · exact hz (6 + 2 * q) (by omega)
  · exact hz (6 + 2 * q + 1) (by omega)
  · exact hz (37 + 6 * q + 1) (by omega)
  · exact hz (37 + 6 * q + 2) (by omega)
  · exact hz (37 + 6 * q + 3) (by omega)
  · exact hz (37 + 6 * q + 4) (by omega)
  · exact hz (37 + 6 * q + 5) (by omega)
  all_goals rfl
theorem shS_eq {r r' : RT} (h0 : r' 0 = r 0) (h1 : r' 1 = r 1) : shS r' = shS r := by
  unfold shS nD; rw [h0, h1]
/-- a scalar of a row changed: songs (2), heads (3), loud (5) -/
theorem oC_sc {r : RT} {A : BT} {j : Nat} {v : Int32} (hj : j = 2 ∨ j = 3 ∨ j = 5) : ∀ c, c < 15 → c ≠ 3 → c ≠ 4 → ∀ q, q < oN c → up2 (oC r A) 0 j v c q = oC (upd r j v) A c q := by
  intro c h15 h3 h4 q hq
  have hz : ∀ z, z ≠ j → r z = upd r j v z := fun z h => (upd_ne _ _ h).symm
  have hsh : shS (upd r j v) = shS r := shS_eq (hz 0 (by omega)).symm (hz 1 (by omega)).symm
  have : c = 0 ∨ c = 1 ∨ c = 2 ∨ c = 5 ∨ c = 6 ∨ c = 7 ∨ c = 8 ∨ c = 9 ∨ c = 10 ∨ c = 11 ∨ c = 12 ∨ c = 13 ∨ c = 14 := by omega
  rcases this with rfl | rfl | rfl | rfl | rfl | rfl | rfl | rfl | rfl | rfl | rfl | rfl | rfl
  · have : q = 0 ∨ q = 1 ∨ q = 2 ∨ q = 3 ∨ q = 4 ∨ q = 5 := by unfold oN at hq; simp at hq; omega
    rcases hj with rfl | rfl | rfl <;> rcases this with rfl | rfl | rfl | rfl | rfl | rfl <;> first | rfl | exact hsh.symm
  · exact hz (6 + 2 * q) (by omega)
  · exact hz (6 + 2 * q + 1) (by omega)
  · exact hz (37 + 6 * q + 1) (by omega)
  · exact hz (37 + 6 * q + 2) (by omega)
  · exact hz (37 + 6 * q + 3) (by omega)
  · exact hz (37 + 6 * q + 4) (by omega)
  · exact hz (37 + 6 * q + 5) (by omega)
  all_goals rfl
theorem SK_1 {r : RT} {v : Int32} : SK r (upd r 1 v) := ⟨fun q hq => upd_ne _ _ (by omega), fun j hj => upd_ne _ _ (by omega)⟩
theorem SK_5 {r : RT} {v : Int32} : SK r (upd r 5 v) := ⟨fun q hq => upd_ne _ _ (by omega), fun j hj => upd_ne _ _ (by omega)⟩
section LS
variable {g : Nat → Bool} {f : Nat → Int32} {i : Int32 × Int32} {k : Nat}
theorem ls_step : lsL g f i (k + 1) = if g k = true ∧ f k < (lsL g f i k).2 then (nI k, f k) else lsL g f i k := rfl
theorem ls_no (h : g k = false) : lsL g f i (k + 1) = lsL g f i k := by
  rw [ls_step, if_neg (fun q => by rw [h] at q; exact absurd q.1 (by decide))]
theorem ls_t1 (h : g k = true) (c : (lsL g f i k).2 ≤ f k) : (lsL g f i k).1 = (lsL g f i (k + 1)).1 := by
  rw [ls_step, if_neg (fun q => Int32.not_lt.mpr c q.2)]
theorem ls_f1 (h : g k = true) (c : ¬ (lsL g f i k).2 ≤ f k) : nI k = (lsL g f i (k + 1)).1 := by
  rw [ls_step, if_pos ⟨h, Int32.not_le.mp c⟩]
theorem ls_min (h : g k = true) : (if f k < (lsL g f i k).2 then f k else (lsL g f i k).2) = (lsL g f i (k + 1)).2 := by
  rw [ls_step]
  by_cases c : f k < (lsL g f i k).2
  · rw [if_pos c, if_pos ⟨h, c⟩]
  · rw [if_neg c, if_neg (fun q => c q.2)]
end LS
theorem ls_ext {g g' : Nat → Bool} {f f' : Nat → Int32} {i : Int32 × Int32} (h : ∀ k, g k = g' k) (h' : ∀ k, f k = f' k) (n : Nat) : lsL g f i n = lsL g' f' i n := by rw [show g = g' from funext h, show f = f' from funext h']
section SE
variable {f : Nat → Nat → Int32} {a m : Nat} {i : Int32 × Int32}
theorem se_t1 (c : (seI f a i m).2 ≤ f a (a + 1 + m)) : (seI f a i m).1 = (seI f a i (m + 1)).1 := by
  show _ = (if f a (a + 1 + m) < (seI f a i m).2 then _ else _ : Int32 × Int32).1
  rw [if_neg (Int32.not_lt.mpr c)]
theorem se_f1 (c : ¬ (seI f a i m).2 ≤ f a (a + 1 + m)) : 10 * nI a + nI (a + 1 + m) = (seI f a i (m + 1)).1 := by
  show _ = (if f a (a + 1 + m) < (seI f a i m).2 then _ else _ : Int32 × Int32).1
  rw [if_pos (Int32.not_le.mp c)]
theorem se_min : (if f a (a + 1 + m) < (seI f a i m).2 then f a (a + 1 + m) else (seI f a i m).2) = (seI f a i (m + 1)).2 := by
  show _ = (if f a (a + 1 + m) < (seI f a i m).2 then _ else _ : Int32 × Int32).2
  by_cases c : f a (a + 1 + m) < (seI f a i m).2
  · rw [if_pos c, if_pos c]
  · rw [if_neg c, if_neg c]
end SE
theorem seP_eq {r : RT} {n : Nat} {f : Nat → Nat → Int32} (h : ∀ a b, f a b = haS (hrS (swR r a b) n) (-1)) {h0 : Int32} (hh : h0 = haS (hrS r n) (-1)) : seP r n = seJ f (nH r) (-9, h0) (nH r) := by
  unfold seP; rw [hh, show f = fun a b => haS (hrS (swR r a b) n) (-1) from funext fun a => funext fun b => h a b]
theorem shP_eq {r : RT} {n : Nat} {f : Nat → Int32} (h : ∀ d, f d = haS (hrS (shR r d) n) (-1)) {h0 : Int32} (hh : h0 = haS (hrS r n) (-1)) : shP r n = lsL (fun d => bt (r 1) d) f (-9, h0) (nD r) := by
  unfold shP; rw [hh, show f = fun d => haS (hrS (shR r d) n) (-1) from funext h]
theorem bI_and (a b : Bool) : bI a &&& bI b = bI (a && b) := by cases a <;> cases b <;> decide
section OT
variable {f : Nat → Bool} {k : Nat}
theorem ot_step : otL f (k + 1) = if f k = true then ((otL f k).1 + 1, if (otL f k).1 = 0 then nI k else (otL f k).2) else otL f k := rfl
theorem ot_no (h : f k = false) : otL f (k + 1) = otL f k := by
  rw [ot_step, if_neg (by rw [h]; decide)]
theorem ot_1 (h : f k = true) : (otL f (k + 1)).1 = (otL f k).1 + 1 := by
  rw [ot_step, if_pos h]
theorem ot_2 (h : f k = true) : (otL f (k + 1)).2 = if (otL f k).1 = 0 then nI k else (otL f k).2 := by
  rw [ot_step, if_pos h]
end OT
theorem ot_ext {f g : Nat → Bool} (h : ∀ k, f k = g k) (n : Nat) : otL f n = otL g n := by rw [show f = g from funext h]
/-- how many ones -/
theorem po_less : ∀ b, b < 256 → 0 < b → poS 8 (b &&& (b - 1)) + 1 = poS 8 b ∧ b &&& (b - 1) < 256 := by decide +kernel
theorem po_nI : ∀ b, b < 256 → 0 < b → nI b &&& (nI b - 1) = nI (b &&& (b - 1)) := by decide +kernel
theorem po_sh : ∀ n, n ≤ 8 → ∀ b, b < 2 ^ n → nI (2 ^ n - 1) ^^^ nI b = nI ((2 ^ n - 1) ^^^ b) ∧ (2 ^ n - 1) ^^^ b < 256 ∧ poS 8 ((2 ^ n - 1) ^^^ b) + poS 8 b = n := by decide +kernel
theorem jud_1 {B : BT} {k M : Nat} {F : Nat → Bool} (hF : ∀ h, F h = (decide (h = nH (B 2)) || !toB (B 13) (B 2) h)) (hM : B 0 3 = nI M) (hM6 : M ≤ 6) (hh : B 2 3 = nI (nH (B 2))) (hh6 : nH (B 2) ≤ 6) (hE : fdS F k = -9) (hk : k < nH (B 2)) (hkM : k ≤ M) (hc : k = M ∨ toB (B 13) (B 2) k = false) : nI k = judV B := by
  have e : F = fun h => decide (h = nH (B 2)) || !toB (B 13) (B 2) h := funext hF
  have hix : ix (B 0 3) = M := by rw [hM, ix_nI (by omega)]
  unfold judV
  rw [← e, hix]
  by_cases h : k = M
  · subst h
    rw [hE, if_neg (by decide), if_pos (by rw [hM, hh]; exact nI_lt hk (by omega)), hM]
  · have h2 := hc.resolve_left h
    have h3 : fdS F M = nI k := fd_hit hE (by rw [hF, h2]; simp) (by omega) (by omega)
    rw [h3, if_pos (nI_pos' (by omega))]
theorem jud_2 {B : BT} {M : Nat} {F : Nat → Bool} (hF : ∀ h, F h = (decide (h = nH (B 2)) || !toB (B 13) (B 2) h)) (hM : B 0 3 = nI M) (hM6 : M ≤ 6) (hh : B 2 3 = nI (nH (B 2))) (hh6 : nH (B 2) ≤ 6) (hE : fdS F (nH (B 2)) = -9) (hkM : nH (B 2) < M) : nI (nH (B 2)) = judV B := by
  have e : F = fun h => decide (h = nH (B 2)) || !toB (B 13) (B 2) h := funext hF
  have hix : ix (B 0 3) = M := by rw [hM, ix_nI (by omega)]
  unfold judV
  rw [← e, hix]
  have h3 : fdS F M = nI (nH (B 2)) := fd_hit hE (by rw [hF]; simp) hkM (by omega)
  rw [h3, if_pos (nI_pos' (by omega))]
theorem jud_3 {B : BT} {M : Nat} {F : Nat → Bool} (hF : ∀ h, F h = (decide (h = nH (B 2)) || !toB (B 13) (B 2) h)) (hM : B 0 3 = nI M) (hM6 : M ≤ 6) (hh : B 2 3 = nI (nH (B 2))) (hh6 : nH (B 2) ≤ 6) (hE : fdS F (nH (B 2)) = -9) (hkM : M = nH (B 2)) : -9 = judV B := by
  have e : F = fun h => decide (h = nH (B 2)) || !toB (B 13) (B 2) h := funext hF
  have hix : ix (B 0 3) = M := by rw [hM, ix_nI (by omega)]
  unfold judV
  rw [← e, hix, hkM, hE, if_neg (by decide), if_neg (by rw [hM, hh, hkM]; exact nI_nlt (Nat.le_refl _) (by omega))]
