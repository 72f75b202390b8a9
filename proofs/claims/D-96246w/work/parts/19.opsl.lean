/-! SMALL LAWS FOR THE CALLS' ENDS -/
set_option maxRecDepth 100000
def rfOk (x : Int32) : Prop := x = -1 ∨ x = -2 ∨ x = -3 ∨ x = -4 ∨ x = -6
theorem rf1 {x : Int32} (h : rfOk x) : -x = nI (ix (-x)) := by rcases h with rfl | rfl | rfl | rfl | rfl <;> decide
theorem rf2 {x : Int32} (h : rfOk x) : ix (-x) < 7 := by rcases h with rfl | rfl | rfl | rfl | rfl <;> decide
theorem rf_m1 : rfOk (-1) := Or.inl rfl
theorem rf_m2 : rfOk (-2) := Or.inr (Or.inl rfl)
theorem rf_m3 : rfOk (-3) := Or.inr (Or.inr (Or.inl rfl))
theorem rf_m6 : rfOk (-6) := Or.inr (Or.inr (Or.inr (Or.inr rfl)))
theorem rf_wi {x a b : Int32} (h : ¬ wiS x a b = 0) : rfOk (wiS x a b) := by
  unfold wiS at h ⊢
  unfold rfOk
  grind
theorem rf_close {o : OT} {B B' : BT} {x r : Int32} (h : r = x ∧ B' = up2 B 1 (ix (-x)) (B 1 (ix (-x)) + 1)) (e : o = refS B x) : r = o.1 ∧ PE o.2 B' := by
  subst e
  obtain ⟨rfl, rfl⟩ := h
  exact ⟨rfl, PE.rf _⟩
theorem ok_close {o : OT} {B1 B' : BT} {v : Int32} (e : o = (v, B1)) (hp : PE B1 B') : v = o.1 ∧ PE o.2 B' := by
  subst e
  exact ⟨rfl, hp⟩
theorem isH_ix {r : RT} {N : Nat} (h : Ok r N) {x : Int32} (c : decide (0 ≤ x ∧ x < r 3) = true) : x = nI (ix x) ∧ ix x < nH r := by
  have c := of_decide_eq_true c
  rw [h.hr3] at c
  exact ix_of c.1 c.2 (by have := h.h6; omega)
theorem isS_ix {r : RT} {N : Nat} (h : Ok r N) {x : Int32} (c : decide (0 ≤ x ∧ x < r 2) = true) : x = nI (ix x) ∧ ix x < nS r := by
  have c := of_decide_eq_true c
  exact h.ix c.1 c.2
theorem isD_ix {r : RT} {N : Nat} (h : Ok r N) {x : Int32} (c : decide (0 ≤ x ∧ x < r 0) = true) : x = nI (ix x) ∧ ix x < nD r := by
  have c := of_decide_eq_true c
  rw [h.hr0] at c
  exact ix_of c.1 c.2 (by have := h.d8; omega)
theorem isI_ix {x : Int32} {n : Nat} (hn : n < 2 ^ 31) (c : decide (0 ≤ x ∧ x < nI n) = true) : x = nI (ix x) ∧ ix x < n := by
  have c := of_decide_eq_true c
  exact ix_of c.1 c.2 hn
theorem le_ix {x : Int32} {n : Nat} (hn : n < 2 ^ 30) (h0 : 0 ≤ x) (h : x ≤ nI n) : x = nI (ix x) ∧ ix x ≤ n := by
  have h2 : x < nI (n + 1) := by
    have := nI_lt (a := n) (b := n + 1) (by omega) (by omega)
    grind
  have := ix_of h0 h2 (by omega)
  exact ⟨this.1, by omega⟩
theorem wi_ix {x : Int32} (h : wiS x 0 60 = 0) : x = nI (ix x) ∧ ix x ≤ 60 := by
  unfold wiS at h
  have h1 : 0 ≤ x ∧ x ≤ 60 := by grind
  exact le_ix (n := 60) (by omega) h1.1 h1.2
theorem wr_ix {b : Bool} {x : Int32} (h : wrS b x = 0) : b = true ∧ x = nI (ix x) ∧ ix x ≤ 60 := by
  unfold wrS at h
  cases b with
  | false => rw [if_neg (by decide)] at h; exact absurd h (by decide)
  | true => exact ⟨rfl, wi_ix h⟩
theorem rf_wr {b : Bool} {x : Int32} (h : ¬ wrS b x = 0) : rfOk (wrS b x) := by
  unfold wrS at h ⊢
  cases b with
  | false => exact rf_m1
  | true => exact rf_wi h
theorem PE_goE (B : BT) : PE (upc B 2 (hoS (B 2))) (goE B) := by
  refine ⟨?_, ?_, ?_, ?_, ?_, ?_, ?_, ?_⟩
  · rw [goE_x B (by decide), upc_ne _ _ (by decide)]
  · rw [goE_2, upc_same]
  · rw [goE_x B (by decide), upc_ne _ _ (by decide)]
  · rw [goE_x B (by decide), upc_ne _ _ (by decide)]
  · rw [goE_x B (by decide), upc_ne _ _ (by decide)]
  · rw [goE_x B (by decide), upc_ne _ _ (by decide)]
  · rw [goE_x B (by decide), upc_ne _ _ (by decide)]
  · rw [goE_x B (by decide), upc_ne _ _ (by decide)]
/-- hours in mind are put back -/
theorem PE_back {B B1 : BT} (h1 : B1 1 = B 1) (h3 : B1 3 = B 3) (h11 : B1 11 = B 11) (h13 : B1 13 = B 13) (h0 : B1 0 = B 0) (f : RT) (hf : f = B 2) : PE B (upc B1 2 f) := by
  refine ⟨?_, ?_, ?_, ?_, ?_, ?_, ?_, ?_⟩
  · rw [upc_ne _ _ (by decide)]; exact h1
  · rw [upc_same]; exact hf
  · rw [upc_ne _ _ (by decide)]; exact h3
  · rw [upc_ne _ _ (by decide)]; exact h11
  · rw [upc_ne _ _ (by decide)]; exact h13
  · rw [upc_ne _ _ (by decide), h0]
  · rw [upc_ne _ _ (by decide), h0]
  · rw [upc_ne _ _ (by decide), h0]
theorem grB_at (B : BT) {c : Nat} (h : c ≠ 2 ∧ c ≠ 6 ∧ c ≠ 7 ∧ c ≠ 8 ∧ c ≠ 9 ∧ c ≠ 10) (n : Nat) : grB B n c = B c := grB_x B h n
theorem PE_gr (B : BT) (n : Nat) : PE B (upc (grB (upc B 5 (B 2)) n) 2 (grB (upc B 5 (B 2)) n 5)) := by
  refine PE_back ?_ ?_ ?_ ?_ ?_ _ ?_
  · rw [grB_x _ (by decide)]; rfl
  · rw [grB_x _ (by decide)]; rfl
  · rw [grB_x _ (by decide)]; rfl
  · rw [grB_x _ (by decide)]; rfl
  · rw [grB_x _ (by decide)]; rfl
  · rw [grB_x _ (by decide)]; rfl
theorem fdS_more {f : Nat → Bool} {k n : Nat} (h : 0 ≤ fdS f k) (hk : k ≤ n) : fdS f n = fdS f k := by
  induction n with
  | zero => rw [show k = 0 by omega]
  | succ n ih =>
    by_cases e : k = n + 1
    · rw [e]
    · have h1 := ih (by omega)
      show (if 0 ≤ fdS f n then _ else _) = _
      rw [h1, if_pos h]
theorem lp_gt {x : Int32} {n k : Nat} (e : x = nI n) (hn : n < 2 ^ 31) (hk : k < 2 ^ 31) (c : x < nI k) : n + 1 ≤ k := by subst e; exact (nI_ltI hn hk).mp c
theorem lp_ng {x : Int32} {n k : Nat} (e : x = nI n) (hn : n < 2 ^ 31) (hk : k < 2 ^ 31) (c : ¬ x < nI k) : k ≤ n := by
  subst e
  exact Nat.le_of_not_lt fun q => c ((nI_ltI hn hk).mpr q)
theorem PE_hb (B : BT) (n : Nat) : PE B (upc (grB (upc B 5 (B 2)) n) 2 (upc B 5 (B 2) 5)) := by
  have h := PE_gr B n
  rw [grB_x _ (by decide)] at h
  exact h
theorem PE_st (B : BT) (n : Nat) : PE B (upc (grB (upc (upc (upc B 5 (B 2)) 8 (tk 6 nI (B 8))) 9 (tk 6 nI (B 9))) n) 2 (grB (upc (upc (upc B 5 (B 2)) 8 (tk 6 nI (B 8))) 9 (tk 6 nI (B 9))) n 5)) := by
  refine PE_back ?_ ?_ ?_ ?_ ?_ _ ?_
  · rw [grB_x _ (by decide)]; rfl
  · rw [grB_x _ (by decide)]; rfl
  · rw [grB_x _ (by decide)]; rfl
  · rw [grB_x _ (by decide)]; rfl
  · rw [grB_x _ (by decide)]; rfl
  · rw [grB_x _ (by decide)]; rfl
