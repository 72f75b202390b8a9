/-! THE MODEL's COLUMNS BEHIND HOURS -/
set_option maxRecDepth 100000
def mN (c : Nat) : Nat := if c = 0 then 4 else if c = 1 then 7 else if c ≤ 5 then 73 else if c = 11 then 96 else if c = 12 then 3 else 6
theorem MW_congr {D : va_G} {t : Nat → ClassId} {mb : Nat} {B B' : BT} {H : Heap} (h : ∀ c, c < 14 → ∀ k, k < mN c → B c k = B' c k) (hP : MW D t mb B H) : MW D t mb B' H := by
  intro k q hk
  have h14 := (mL_at hk).2
  have hF : mF mb B' = mF mb B := by
    unfold mF
    rw [h 0 (by decide) 0 (by decide), h 0 (by decide) 1 (by decide), h 0 (by decide) 2 (by decide), h 0 (by decide) 3 (by decide)]
  have : k = 0 ∨ k = 1 ∨ k = 2 ∨ k = 3 ∨ k = 4 ∨ k = 5 ∨ k = 6 ∨ k = 7 ∨ k = 8 ∨ k = 9 ∨ k = 10 ∨ k = 11 ∨ k = 12 ∨ k = 13 := by omega
  rcases this with rfl | rfl | rfl | rfl | rfl | rfl | rfl | rfl | rfl | rfl | rfl | rfl | rfl | rfl
  · cases hk
    show va_at D vwCl (mb, .inr (1, mF mb B')) H
    rw [hF]
    exact hP 0 _ rfl
  · cases hk; exact (hP 1 _ rfl : H[mb + 1]? = some (vp_cell (t 0) (7, .inl (B 1)))).trans (congrArg some (vp_cell_ext (h 1 (by decide))))
  · cases hk; exact (hP 2 _ rfl : H[mb + 2]? = some (vp_cell (t 0) (73, .inl (B 2)))).trans (congrArg some (vp_cell_ext (h 2 (by decide))))
  · cases hk; exact (hP 3 _ rfl : H[mb + 3]? = some (vp_cell (t 0) (73, .inl (B 3)))).trans (congrArg some (vp_cell_ext (h 3 (by decide))))
  · cases hk; exact (hP 4 _ rfl : H[mb + 4]? = some (vp_cell (t 0) (73, .inl (B 4)))).trans (congrArg some (vp_cell_ext (h 4 (by decide))))
  · cases hk; exact (hP 5 _ rfl : H[mb + 5]? = some (vp_cell (t 0) (73, .inl (B 5)))).trans (congrArg some (vp_cell_ext (h 5 (by decide))))
  · cases hk; exact (hP 6 _ rfl : H[mb + 6]? = some (vp_cell (t 0) (6, .inl (B 6)))).trans (congrArg some (vp_cell_ext (h 6 (by decide))))
  · cases hk; exact (hP 7 _ rfl : H[mb + 7]? = some (vp_cell (t 0) (6, .inl (B 7)))).trans (congrArg some (vp_cell_ext (h 7 (by decide))))
  · cases hk; exact (hP 8 _ rfl : H[mb + 8]? = some (vp_cell (t 0) (6, .inl (B 8)))).trans (congrArg some (vp_cell_ext (h 8 (by decide))))
  · cases hk; exact (hP 9 _ rfl : H[mb + 9]? = some (vp_cell (t 0) (6, .inl (B 9)))).trans (congrArg some (vp_cell_ext (h 9 (by decide))))
  · cases hk; exact (hP 10 _ rfl : H[mb + 10]? = some (vp_cell (t 0) (6, .inl (B 10)))).trans (congrArg some (vp_cell_ext (h 10 (by decide))))
  · cases hk; exact (hP 11 _ rfl : H[mb + 11]? = some (vp_cell (t 0) (96, .inl (B 11)))).trans (congrArg some (vp_cell_ext (h 11 (by decide))))
  · cases hk; exact (hP 12 _ rfl : H[mb + 12]? = some (vp_cell (t 0) (3, .inl (B 12)))).trans (congrArg some (vp_cell_ext (h 12 (by decide))))
  · cases hk; exact (hP 13 _ rfl : H[mb + 13]? = some (vp_cell (t 0) (6, .inl (B 13)))).trans (congrArg some (vp_cell_ext (h 13 (by decide))))
/-- a column is laid over another -/
def lyB (B : BT) (a b k : Nat) : BT := upc B b (tk k (B a) (B b))
theorem lyB_0 (B : BT) (a b : Nat) : lyB B a b 0 = B := by unfold lyB; rw [tk_0, upc_self]
theorem lyB_step (B : BT) (a b k : Nat) : lyB B a b (k + 1) = up2 (lyB B a b k) b k (B a k) := by
  unfold lyB
  rw [up2_upc, upc_same, upc_upc, tk_succ]
theorem lyB_end {D : va_G} {t : Nat → ClassId} {mb : Nat} {B : BT} {H : Heap} {a b : Nat} (h2 : 2 ≤ b) (h5 : b ≤ 5) (hP : MW D t mb (lyB B a b 73) H) : MW D t mb (upc B b (B a)) H := by
  refine MW_congr (fun c hc k hk => ?_) hP
  by_cases e : c = b
  · subst e
    rw [upc_same]
    unfold lyB
    rw [upc_same]
    have : mN c = 73 := by unfold mN; rw [if_neg (by omega), if_neg (by omega), if_pos h5]
    exact tk_lt (by omega)
  · unfold lyB
    rw [upc_ne _ _ e, upc_ne _ _ e]
theorem goE_2 (B : BT) : goE B 2 = hoS (B 2) := upc_same _ _ _
theorem goE_8 (B : BT) : goE B 8 = fmS (B 2) (B 8) := by unfold goE; rw [upc_ne _ _ (by decide), go3_c8]; rfl
theorem goE_9 (B : BT) : goE B 9 = orS (B 2) (B 9) := by unfold goE; rw [upc_ne _ _ (by decide), go3_c9]; rfl
theorem goE_x (B : BT) {c : Nat} (h : c ≠ 2 ∧ c ≠ 6 ∧ c ≠ 7 ∧ c ≠ 8 ∧ c ≠ 9 ∧ c ≠ 10) : goE B c = B c := by
  unfold goE
  rw [upc_ne _ _ h.1, go3_cx B _ h.1 h.2.2.2.1 h.2.2.2.2.1]
  unfold go2
  rw [upc_ne _ _ h.2.2.2.2.2, upc_ne _ _ h.2.2.1, upc_ne _ _ h.2.1]
/-- the columns behind n hours -/
def grB (B : BT) : Nat → BT
  | 0 => B
  | n + 1 => goE (grB B n)
theorem grB_2 (B : BT) : ∀ n, grB B n 2 = hrS (B 2) n
  | 0 => rfl
  | n + 1 => by show goE _ 2 = hoS _; rw [goE_2, grB_2 B n]
theorem grB_x (B : BT) {c : Nat} (h : c ≠ 2 ∧ c ≠ 6 ∧ c ≠ 7 ∧ c ≠ 8 ∧ c ≠ 9 ∧ c ≠ 10) : ∀ n, grB B n c = B c
  | 0 => rfl
  | n + 1 => (goE_x _ h).trans (grB_x B h n)
/-- from whom, who first, behind n hours -/
def fgS (r g o : RT) : Nat → RT × RT
  | 0 => (g, o)
  | n + 1 => (fmS (hrS r n) (fgS r g o n).1, orS (hrS r n) (fgS r g o n).2)
theorem grB_89 (B : BT) : ∀ n, grB B n 8 = (fgS (B 2) (B 8) (B 9) n).1 ∧ grB B n 9 = (fgS (B 2) (B 8) (B 9) n).2
  | 0 => ⟨rfl, rfl⟩
  | n + 1 => by
    obtain ⟨h1, h2⟩ := grB_89 B n
    refine ⟨?_, ?_⟩
    · show goE _ 8 = _
      rw [goE_8, h1, grB_2]; rfl
    · show goE _ 9 = _
      rw [goE_9, h2, grB_2]; rfl
/-- each head is its own giver -/
def stB (B : BT) (k : Nat) : BT := upc (upc (upc B 5 (B 2)) 8 (tk k nI (B 8))) 9 (tk k nI (B 9))
theorem stB_0 (B : BT) : stB B 0 = upc B 5 (B 2) := by
  unfold stB
  rw [tk_0, tk_0]
  funext c
  by_cases h9 : c = 9
  · subst h9; rw [upc_same, upc_ne _ _ (by decide)]
  · rw [upc_ne _ _ h9]
    by_cases h8 : c = 8
    · subst h8; rw [upc_same, upc_ne _ _ (by decide)]
    · rw [upc_ne _ _ h8]
theorem stB_step (B : BT) (k : Nat) : stB B (k + 1) = up2 (up2 (stB B k) 8 k (nI k)) 9 k (nI k) := by
  funext c
  by_cases h9 : c = 9
  · subst h9; unfold stB; rw [upc_same, up2_same, up2_ne _ _ _ (by decide), upc_same, tk_succ]
  · rw [up2_ne _ _ _ h9]
    by_cases h8 : c = 8
    · subst h8; unfold stB; rw [upc_ne _ _ (by decide), upc_same, up2_same, upc_ne _ _ (by decide), upc_same, tk_succ]
    · rw [up2_ne _ _ _ h8]
      unfold stB
      rw [upc_ne _ _ h9, upc_ne _ _ h8, upc_ne _ _ h9, upc_ne _ _ h8]
