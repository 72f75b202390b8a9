/-! PLAIN LAWS for the class's methods over hours in mind -/
set_option maxRecDepth 100000
theorem fd_miss {f : Nat → Bool} {k : Nat} (h : fdS f k = -9) (hf : f k = false) : fdS f (k + 1) = -9 := by
  show (if 0 ≤ fdS f k then _ else _) = _
  rw [h, if_neg (by decide), hf]
  rfl
theorem fd_hit {f : Nat → Bool} {k n : Nat} (h : fdS f k = -9) (hf : f k = true) (hk : k < n) (hn : n < 2 ^ 31) : fdS f n = nI k := by
  have h1 : fdS f (k + 1) = nI k := by
    show (if 0 ≤ fdS f k then _ else _) = _
    rw [h, if_neg (by decide), hf]
    rfl
  rw [fdS_more (k := k + 1) (by rw [h1]; exact nI_pos' (by omega)) (by omega), h1]
theorem haL_le (r : RT) (v : Int32) : ∀ n, haL r v n ≤ n
  | 0 => Nat.le_refl 0
  | n + 1 => by
    have := haL_le r v n
    unfold haL
    split <;> split <;> omega
theorem haS_b {r : RT} {v : Int32} (h6 : nH r ≤ 6) : haL r v (nH r) ≤ 6 := Nat.le_trans (haL_le _ _ _) h6
theorem mx_step {f : Nat → Int32} {i : Int32 × Int32} {k : Nat} : mxL f i (k + 1) = if (mxL f i k).2 < f k then (nI k, f k) else mxL f i k := rfl
theorem mx_1 {f : Nat → Int32} {i : Int32 × Int32} {k : Nat} : (mxL f i (k + 1)).1 = if (mxL f i k).2 < f k then nI k else (mxL f i k).1 := by
  rw [mx_step]; split <;> rfl
theorem mx_2 {f : Nat → Int32} {i : Int32 × Int32} {k : Nat} : (mxL f i (k + 1)).2 = if (mxL f i k).2 < f k then f k else (mxL f i k).2 := by
  rw [mx_step]; split <;> rfl
theorem mx_one {f : Nat → Int32} (h : 0 ≤ f 0) : mxL f (-9, -9) (0 + 1) = (0, f 0) := by
  rw [mx_step, if_pos (show (mxL f (-9, -9) 0).2 < f 0 by show (-9 : Int32) < f 0; rw [Int32.lt_iff_toInt_lt]; rw [Int32.le_iff_toInt_le] at h; rw [show (-9 : Int32).toInt = -9 by decide +kernel]; rw [show (0 : Int32).toInt = 0 by decide +kernel] at h; omega)]
  rfl
theorem haS_nn {r : RT} {v : Int32} (h : nH r ≤ 6) : 0 ≤ haS r v := nI_pos' (by have := haS_b (v := v) h; omega)
theorem nI_n9 {k : Nat} (h : k < 2 ^ 31) : ¬ nI k = -9 := fun e => by
  have h1 := nI_pos' h
  rw [e] at h1
  exact absurd h1 (by decide)
theorem mx_two {g : Int32 → Int32} : ∀ k, k < 2 ^ 31 → (mxL (fun i => g (nI i)) (-9, 0) k).2 = if (mxL (fun i => g (nI i)) (-9, 0) k).1 = -9 then 0 else g (mxL (fun i => g (nI i)) (-9, 0) k).1
  | 0, _ => rfl
  | k + 1, hk => by
    rw [mx_step]
    by_cases h : (mxL (fun i => g (nI i)) (-9, 0) k).2 < g (nI k)
    · rw [if_pos h]; show g (nI k) = _; rw [if_neg (nI_n9 (by omega))]
    · rw [if_neg h]; exact mx_two k (by omega)
theorem fgS_ltH {r g o : RT} {N n j : Nat} (h : Ok r N) (hg : ∀ j, j < nH r → g j = nI j ∧ o j = nI j) (hj : j < nH r) : (fgS r g o n).1 j = (fgS r nI nI n).1 j ∧ (fgS r g o n).2 j = (fgS r nI nI n).2 j := by
  have h6 := h.h6
  induction n generalizing j with
  | zero => exact hg j hj
  | succ n ih =>
    refine ⟨?_, ?_⟩
    · show fmS _ _ j = fmS _ _ j
      unfold fmS
      split
      · rfl
      · exact (ih hj).1
    · show orS _ _ j = orS _ _ j
      unfold orS
      split
      · rename_i c
        have hb : ix (byS (hrS r n) j) < nH r := by
          have hl : nH (hrS r n) = nH r := nH_hrS r n
          rcases heL_by (hrS r n) j (nH (hrS r n)) (by omega) with h1 | ⟨q, h1, h2⟩
          · unfold byS; rw [h1, show ix (-9) = 0 by decide]; omega
          · unfold byS; rw [h2, ix_nI (by omega)]; omega
        exact (ih hb).2
      · exact (ih hj).2
