/-! PLAIN LAWS for remedies and for another song: the least of numbers, none as 61 -/
set_option maxRecDepth 100000
/-- none is 61 -/
def leN61 (x : Int32) : Int32 := if x < 0 then 61 else x
def frN (r : RT) (j : Nat) : Int32 := leN61 (rdS r j)
theorem le_hit {x : Int32} {k : Nat} (h : x = nI k) (hk : k < 2 ^ 31) : nI k = leN61 x := by
  rw [h]; unfold leN61; rw [if_neg (nI_pos hk)]
theorem le_none {x : Int32} (h : x = -9) : 61 = leN61 x := by
  rw [h]; rfl
theorem mn_ext {f g : Nat → Int32} {i : Int32 × Int32} (h : ∀ k, f k = g k) (n : Nat) : mnL f i n = mnL g i n := by rw [show f = g from funext h]
theorem neg9 {r : RT} {j : Nat} (h : OkH r j) : hd r j 3 < 0 ↔ hd r j 3 = -9 := by
  have h3 := h.2.2.2.2.2.2.1
  constructor
  · intro q
    rcases h3 with h | ⟨h, -⟩
    · exact h
    · exact absurd q (Int32.not_lt.mpr h)
  · intro q; rw [q]; decide
/-- a number of hours, or none -/
def BD (x : Int32) : Prop := x = -9 ∨ (0 ≤ x ∧ x ≤ 60)
theorem fd_bd {f : Nat → Bool} : ∀ n, n ≤ 61 → BD (fdS f n)
  | 0, _ => Or.inl rfl
  | n + 1, hn => by
    have ih := fd_bd (f := f) n (by omega)
    show BD (if 0 ≤ fdS f n then fdS f n else if f n = true then nI n else -9)
    by_cases h : 0 ≤ fdS f n
    · rw [if_pos h]; exact ih
    · rw [if_neg h]
      by_cases g : f n = true
      · rw [if_pos g]; exact Or.inr ⟨nI_pos' (by omega), nI_le (b := 60) (by omega) (by omega)⟩
      · rw [if_neg g]; exact Or.inl rfl
theorem rdS_bd {r : RT} {j : Nat} : BD (rdS r j) := fd_bd 61 (Nat.le_refl _)
theorem rdS_if {r : RT} {j : Nat} {c : Prop} [Decidable c] : BD (if c then -9 else rdS r j) := by
  by_cases h : c
  · rw [if_pos h]; exact Or.inl rfl
  · rw [if_neg h]; exact rdS_bd
theorem mn_step {f : Nat → Int32} {i : Int32 × Int32} {k : Nat} : mnL f i (k + 1) = if f k < 0 ∨ (0 ≤ (mnL f i k).2 ∧ (mnL f i k).2 ≤ f k) then mnL f i k else (nI k, f k) := rfl
theorem mn_bd {f : Nat → Int32} {i : Int32 × Int32} (hf : ∀ k, BD (f k)) (hi : BD i.2) : ∀ k, BD (mnL f i k).2
  | 0 => hi
  | k + 1 => by
    rw [mn_step]
    split
    · exact mn_bd hf hi k
    · exact hf k
theorem le_lt {a b : Int32} (ha : BD a) (hb : BD b) : leN61 a < leN61 b ↔ ¬ (a < 0 ∨ (0 ≤ b ∧ b ≤ a)) := by
  unfold leN61
  rcases ha with rfl | ⟨h1, h2⟩
  · rw [if_pos (show (-9 : Int32) < 0 by decide)]
    rcases hb with rfl | ⟨g1, g2⟩
    · decide
    · rw [if_neg (Int32.not_lt.mpr g1)]
      constructor
      · intro q
        rw [Int32.lt_iff_toInt_lt] at q
        rw [Int32.le_iff_toInt_le] at g2
        have e1 : (61 : Int32).toInt = 61 := by decide +kernel
        have e2 : (60 : Int32).toInt = 60 := by decide +kernel
        omega
      · intro q; exact absurd (Or.inl (by decide)) q
  · rw [if_neg (Int32.not_lt.mpr h1)]
    rcases hb with rfl | ⟨g1, g2⟩
    · rw [if_pos (show (-9 : Int32) < 0 by decide)]
      constructor
      · intro _ q
        rcases q with q | q
        · exact absurd q (Int32.not_lt.mpr h1)
        · exact absurd q.1 (by decide)
      · intro _
        rw [Int32.lt_iff_toInt_lt]
        rw [Int32.le_iff_toInt_le] at h2
        have e1 : (61 : Int32).toInt = 61 := by decide +kernel
        have e2 : (60 : Int32).toInt = 60 := by decide +kernel
        omega
    · rw [if_neg (Int32.not_lt.mpr g1)]
      constructor
      · intro q z
        rcases z with z | z
        · exact absurd z (Int32.not_lt.mpr h1)
        · exact absurd q (Int32.not_lt.mpr z.2)
      · intro q
        exact Int32.not_le.mp (fun z => q (Or.inr ⟨g1, z⟩))
theorem mn_z {f : Nat → Int32} (hf : ∀ k, BD (f k)) : ∀ k, k < 2 ^ 31 → ((mnL f (-9, -9) k).1 = -9 → (mnL f (-9, -9) k).2 = -9) ∧ (¬ (mnL f (-9, -9) k).1 = -9 → 0 ≤ (mnL f (-9, -9) k).2)
  | 0, _ => ⟨fun _ => rfl, fun h => absurd rfl h⟩
  | k + 1, hk => by
    rw [mn_step]
    by_cases c : f k < 0 ∨ (0 ≤ (mnL f (-9, -9) k).2 ∧ (mnL f (-9, -9) k).2 ≤ f k)
    · rw [if_pos c]; exact mn_z hf k (by omega)
    · rw [if_neg c]
      exact ⟨fun h => absurd h (nI_n9 (by omega)), fun _ => Int32.not_lt.mp (fun q => c (Or.inl q))⟩
theorem mn_out {f : Nat → Int32} {w : Int32} (hf : ∀ k, BD (f k)) (h : ¬ (mnL f (-9, -9) 4).1 = -9) : leN61 (mnL f (-9, -9) 4).2 = (mnL f (-9, -9) 4).2 := by
  have := (mn_z hf 4 (by decide)).2 h
  unfold leN61; rw [if_neg (Int32.not_lt.mpr this)]
section MN
variable {f : Nat → Int32} {i : Int32 × Int32} {k : Nat}
theorem mn_f1 (hb : BD (mnL f i k).2) (ha : BD (f k)) (c : ¬ leN61 (mnL f i k).2 ≤ leN61 (f k)) : nI k = (mnL f i (k + 1)).1 := by
  rw [mn_step, if_neg ((le_lt ha hb).mp (Int32.not_le.mp c))]
theorem mn_t1 (hb : BD (mnL f i k).2) (ha : BD (f k)) (c : leN61 (mnL f i k).2 ≤ leN61 (f k)) : (mnL f i k).1 = (mnL f i (k + 1)).1 := by
  rw [mn_step, if_pos (Decidable.of_not_not (fun q => Int32.not_lt.mpr c ((le_lt ha hb).mpr q)))]
theorem mn_min (hb : BD (mnL f i k).2) (ha : BD (f k)) : (if leN61 (f k) < leN61 (mnL f i k).2 then leN61 (f k) else leN61 (mnL f i k).2) = leN61 (mnL f i (k + 1)).2 := by
  by_cases c : leN61 (f k) < leN61 (mnL f i k).2
  · rw [if_pos c, mn_step, if_neg ((le_lt ha hb).mp c)]
  · rw [if_neg c, mn_step, if_pos (Decidable.of_not_not (fun q => c ((le_lt ha hb).mpr q)))]
end MN
