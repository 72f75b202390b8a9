/-! LAWS OF THE PLAIN WORDS (1): what a row keeps; the model's columns in an hour -/
set_option maxRecDepth 100000
theorem Ok.hr0 {r : RT} {N : Nat} (h : Ok r N) : r 0 = nI (nD r) := h.1.1
theorem Ok.d8 {r : RT} {N : Nat} (h : Ok r N) : nD r ≤ 8 := h.1.2
theorem Ok.hr2 {r : RT} {N : Nat} (h : Ok r N) : r 2 = nI (nS r) := h.2.1.1
theorem Ok.s5 {r : RT} {N : Nat} (h : Ok r N) : nS r ≤ 5 := h.2.1.2
theorem Ok.hr3 {r : RT} {N : Nat} (h : Ok r N) : r 3 = nI (nH r) := h.2.2.1.1
theorem Ok.h6 {r : RT} {N : Nat} (h : Ok r N) : nH r ≤ 6 := h.2.2.1.2
theorem Ok.hr4 {r : RT} {N : Nat} (h : Ok r N) : r 4 = nI (nT r) := h.2.2.2.1.1
theorem Ok.tN {r : RT} {N : Nat} (h : Ok r N) : nT r ≤ N := h.2.2.2.1.2
theorem Ok.loud {r : RT} {N : Nat} (h : Ok r N) : 1 ≤ r 5 ∧ r 5 ≤ 20 := h.2.2.2.2.1
theorem Ok.op {r : RT} {N : Nat} (h : Ok r N) : r 1 = nI (ix (r 1)) ∧ ix (r 1) < 2 ^ nD r := h.2.2.2.2.2.1
theorem Ok.song {r : RT} {N : Nat} (h : Ok r N) {i : Nat} (hi : i < nS r) : OkS r i := h.2.2.2.2.2.2.1 i hi
theorem Ok.head {r : RT} {N : Nat} (h : Ok r N) {j : Nat} (hj : j < nH r) : OkH r j := h.2.2.2.2.2.2.2 j hj
theorem Ok.more {r : RT} {N M : Nat} (h : Ok r N) (hM : N ≤ M) : Ok r M := ⟨h.1, h.2.1, h.2.2.1, ⟨h.hr4, Nat.le_trans h.tN hM⟩, h.2.2.2.2⟩
/-- a song's place -/
theorem Ok.ix {r : RT} {N : Nat} (h : Ok r N) {v : Int32} (h0 : 0 ≤ v) (h1 : v < r 2) : v = nI (_root_.Jvm.Pilot.@@N@@.ix v) ∧ _root_.Jvm.Pilot.@@N@@.ix v < nS r := by
  rw [h.hr2] at h1
  exact ix_of h0 h1 (by have := h.s5; omega)
/-- what a head has -/
theorem Ok.has {r : RT} {N : Nat} (h : Ok r N) {j : Nat} (hj : j < nH r) (h0 : ¬ hd r j 3 < 0) : 0 ≤ hd r j 3 ∧ hd r j 3 < r 2 := by
  have h1 := (h.head hj).2.2.2.2.2.2.1
  rcases h1 with h1 | h1
  · exact absurd (by rw [h1]; decide) h0
  · exact h1
theorem Ok.hasIx {r : RT} {N : Nat} (h : Ok r N) {j : Nat} (hj : j < nH r) (h0 : ¬ hd r j 3 < 0) : hd r j 3 = nI (_root_.Jvm.Pilot.@@N@@.ix (hd r j 3)) ∧ _root_.Jvm.Pilot.@@N@@.ix (hd r j 3) < nS r := by
  have h1 := h.has hj h0
  exact h.ix h1.1 h1.2
theorem huS_has {r : RT} {j : Nat} (h : huS r j = true) : ¬ hd r j 3 < 0 := by
  intro q
  simp [huS, q] at h
/-- the better song -/
def betS (r : RT) (j o : Nat) : Prop := (heL r j o).1 < 0 ∨ so r (ix (heL r j o).1) 1 < so r (ix (hd r o 3)) 1 ∨ (so r (ix (hd r o 3)) 1 = so r (ix (heL r j o).1) 1 ∧ hd r o 3 < (heL r j o).1)
theorem heL_skip {r : RT} {j o : Nat} (h : ¬ (huS r o = true ∧ neS r j o = true ∧ ¬ hd r o 3 = hd r j 3 ∧ betS r j o)) : heL r j (o + 1) = heL r j o := by
  unfold betS at h
  simp only [heL]
  rw [if_neg h]
theorem heL_take {r : RT} {j o : Nat} (h1 : huS r o = true) (h2 : neS r j o = true) (h3 : ¬ hd r o 3 = hd r j 3) (h4 : betS r j o) : heL r j (o + 1) = (hd r o 3, nI o) := by
  unfold betS at h4
  simp only [heL]
  rw [if_pos ⟨h1, h2, h3, h4⟩]
/-- what is heard is a song, from a head -/
theorem heL_ok {r : RT} {N : Nat} (h : Ok r N) {j : Nat} : ∀ {o : Nat}, o ≤ nH r → (heL r j o = (-9, -9) ∨ (0 ≤ (heL r j o).1 ∧ (heL r j o).1 < r 2 ∧ ∃ q, q < o ∧ (heL r j o).2 = nI q ∧ (heL r j o).1 = hd r q 3 ∧ huS r q = true ∧ neS r j q = true))
  | 0, _ => Or.inl rfl
  | o + 1, ho => by
    by_cases c : huS r o = true ∧ neS r j o = true ∧ ¬ hd r o 3 = hd r j 3 ∧ betS r j o
    · rw [heL_take c.1 c.2.1 c.2.2.1 c.2.2.2]
      have h1 := h.has (j := o) (by omega) (huS_has c.1)
      exact Or.inr ⟨h1.1, h1.2, o, by omega, rfl, rfl, c.1, c.2.1⟩
    · rw [heL_skip c]
      rcases heL_ok h (j := j) (o := o) (by omega) with h1 | ⟨h1, h2, q, h3, h4⟩
      · exact Or.inl h1
      · exact Or.inr ⟨h1, h2, q, by omega, h4⟩
theorem heL_ix {r : RT} {N : Nat} (h : Ok r N) {j o : Nat} (ho : o ≤ nH r) (h0 : ¬ (heL r j o).1 < 0) : (heL r j o).1 = nI (ix (heL r j o).1) ∧ ix (heL r j o).1 < nS r := by
  rcases heL_ok h (j := j) ho with h1 | ⟨h1, h2, -⟩
  · exact absurd (by rw [h1]; decide) h0
  · exact h.ix h1 h2
theorem heS_ok {r : RT} {N : Nat} (h : Ok r N) {j : Nat} (h0 : 0 ≤ heS r j) : heS r j = (heL r j (nH r)).1 ∧ heS r j < r 2 ∧ ∃ q, q < nH r ∧ byS r j = nI q ∧ heS r j = hd r q 3 ∧ huS r q = true ∧ neS r j q = true := by
  unfold heS at h0 ⊢
  split at h0
  · exact absurd h0 (by decide)
  · rename_i c
    rw [if_neg c]
    rcases heL_ok h (j := j) (Nat.le_refl _) with h1 | ⟨h1, h2, q, h3⟩
    · rw [h1] at h0; exact absurd h0 (by decide)
    · exact ⟨rfl, h2, q, h3⟩
theorem heS_neg {r : RT} {N : Nat} (h : Ok r N) {j : Nat} (h0 : ¬ 0 ≤ heS r j) : heS r j = -9 := by
  unfold heS at h0 ⊢
  split
  · rfl
  · rename_i c
    rw [if_neg c] at h0
    rcases heL_ok h (j := j) (Nat.le_refl _) with h1 | ⟨h1, -⟩
    · rw [h1]
    · exact absurd h1 h0
/-- the model's columns while a head hears -/
def heB (B : BT) (j o : Nat) : BT := upc (upc B 6 (upd (B 6) j (heL (B 2) j o).1)) 7 (upd (B 7) j (heL (B 2) j o).2)
def heE (B : BT) (j : Nat) : BT := upc (upc B 6 (upd (B 6) j (heS (B 2) j))) 7 (upd (B 7) j (byS (B 2) j))
theorem upd_self (f : RT) (k : Nat) (v : Int32) : upd f k v k = v := by simp [upd]
theorem upd_upd (f : RT) (k : Nat) (v w : Int32) : upd (upd f k v) k w = upd f k w := by
  funext q; unfold upd; split <;> rfl
theorem heB_6 (B : BT) (j o : Nat) : heB B j o 6 j = (heL (B 2) j o).1 := upd_self _ _ _
theorem heB_7 (B : BT) (j o : Nat) : heB B j o 7 j = (heL (B 2) j o).2 := upd_self _ _ _
theorem heB_0 (B : BT) (j : Nat) : up2 (up2 B 6 j (-9)) 7 j (-9) = heB B j 0 := rfl
theorem heB_put (B : BT) (j o : Nat) (x y : Int32) : up2 (up2 (heB B j o) 7 j x) 6 j y = upc (upc B 6 (upd (B 6) j y)) 7 (upd (B 7) j x) := by
  funext c
  by_cases h6 : c = 6
  · subst h6; show upd (upd (B 6) j _) j y = upd (B 6) j y; exact upd_upd _ _ _ _
  · by_cases h7 : c = 7
    · subst h7; show upd (upd (B 7) j _) j x = upd (B 7) j x; exact upd_upd _ _ _ _
    · simp [up2, upc, heB, h6, h7]
theorem heB_put6 (B : BT) (j o : Nat) (y : Int32) : up2 (heB B j o) 6 j y = upc (upc B 6 (upd (B 6) j y)) 7 (upd (B 7) j (heL (B 2) j o).2) := by
  funext c
  by_cases h6 : c = 6
  · subst h6; show upd (upd (B 6) j _) j y = upd (B 6) j y; exact upd_upd _ _ _ _
  · by_cases h7 : c = 7
    · subst h7; rfl
    · simp [up2, upc, heB, h6, h7]
def betB (r : RT) (j o : Nat) : Bool := decide ((heL r j o).1 < 0 ∨ so r (ix (heL r j o).1) 1 < so r (ix (hd r o 3)) 1 ∨ (so r (ix (hd r o 3)) 1 = so r (ix (heL r j o).1) 1 ∧ hd r o 3 < (heL r j o).1))
theorem betB_t {r : RT} {j o : Nat} (h : betB r j o = true) : betS r j o := by unfold betS; unfold betB at h; exact of_decide_eq_true h
theorem betB_f {r : RT} {j o : Nat} (h : betB r j o = false) : ¬ betS r j o := by unfold betS; unfold betB at h; exact of_decide_eq_false h
theorem heB_skip {B : BT} {j o : Nat} (h : ¬ (huS (B 2) o = true ∧ neS (B 2) j o = true ∧ ¬ hd (B 2) o 3 = hd (B 2) j 3)) : heB B j (o + 1) = heB B j o := by
  unfold heB
  rw [heL_skip (fun q => h ⟨q.1, q.2.1, q.2.2.1⟩)]
theorem heB_step {B : BT} {j o : Nat} (h1 : huS (B 2) o = true) (h2 : neS (B 2) j o = true) (h3 : ¬ hd (B 2) o 3 = hd (B 2) j 3) : heB B j (o + 1) = up2 (up2 (heB B j o) 7 j (if betB (B 2) j o = true then nI o else (heL (B 2) j o).2)) 6 j (if betB (B 2) j o = true then hd (B 2) o 3 else (heL (B 2) j o).1) := by
  rw [heB_put]
  unfold heB
  cases hb : betB (B 2) j o with
  | true => rw [heL_take h1 h2 h3 (betB_t hb)]; rfl
  | false => rw [heL_skip (fun q => betB_f hb q.2.2.2)]; rfl
theorem heE_lo {B : BT} {j : Nat} (h : (heL (B 2) j (nH (B 2))).1 < 0) : heB B j (nH (B 2)) = heE B j := by
  unfold heB heE heS byS
  rw [if_neg (fun q => by have := q.1; grind)]
theorem heE_keep {B : BT} {j : Nat} (h1 : ¬ so (B 2) (ix (heL (B 2) j (nH (B 2))).1) 1 ≤ baS (B 2) j) (h2 : ¬ frS (B 2) (ix (heL (B 2) j (nH (B 2))).1) ≤ hd (B 2) j 4) : heB B j (nH (B 2)) = heE B j := by
  unfold heB heE heS byS
  rw [if_neg (fun q => by rcases q.2 with q | q; exact h1 q; exact h2 q)]
theorem heE_drop {B : BT} {j : Nat} (h0 : ¬ (heL (B 2) j (nH (B 2))).1 < 0) (h : so (B 2) (ix (heL (B 2) j (nH (B 2))).1) 1 ≤ baS (B 2) j ∨ frS (B 2) (ix (heL (B 2) j (nH (B 2))).1) ≤ hd (B 2) j 4) : up2 (heB B j (nH (B 2))) 6 j (-9) = heE B j := by
  rw [heB_put6]
  unfold heE heS byS
  rw [if_pos ⟨by grind, h⟩]
