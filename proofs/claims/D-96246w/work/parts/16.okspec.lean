/-! LAWS OF THE PLAIN WORDS (3): a row stays as it must be -/
set_option maxRecDepth 100000
theorem frS_bd {r : RT} {i : Nat} (h : OkS r i) : 0 ≤ frS r i ∧ frS r i ≤ 60 := by
  obtain ⟨h1, h2, h3, h4, h5, h6⟩ := h
  unfold frS
  generalize so r i 0 = k at *
  generalize so r i 1 = p at *
  generalize so r i 2 = q at *
  rw [Int32.le_iff_toInt_le] at h1 h2 h3 h4 h5 h6
  have e : ∀ a b : Int32, 0 ≤ a.toInt → a.toInt ≤ 9 → 1 ≤ b.toInt → b.toInt ≤ 9 → (2 * a + b).toInt = 2 * a.toInt + b.toInt := by
    intro a b _ _ _ _
    rw [Int32.toInt_add, Int32.toInt_mul]
    show ((2 * a.toInt).bmod (2 ^ 32) + b.toInt).bmod (2 ^ 32) = _
    have e1 : (2 * a.toInt).bmod (2 ^ 32) = 2 * a.toInt := Int.bmod_eq_of_le (by omega) (by omega)
    rw [e1, Int.bmod_eq_of_le (by omega) (by omega)]
  have hpq := e p q h3 h4 h5 h6
  have h9 : p.toInt ≤ 9 := h4
  have h9' : q.toInt ≤ 9 := h6
  have h0 : 0 ≤ p.toInt := h3
  have h1' : 1 ≤ q.toInt := h5
  have hp3 : (2 * p + q + 3).toInt = 2 * p.toInt + q.toInt + 3 := by
    rw [Int32.toInt_add, hpq]
    show (2 * p.toInt + q.toInt + 3).bmod _ = _
    rw [Int.bmod_eq_of_le (by omega) (by omega)]
  have hp6 : (2 * (2 * p + q + 3)).toInt = 2 * (2 * p.toInt + q.toInt + 3) := by
    rw [Int32.toInt_mul, hp3]
    show (2 * (2 * p.toInt + q.toInt + 3)).bmod _ = _
    rw [Int.bmod_eq_of_le (by omega) (by omega)]
  have z : (0 : Int32).toInt = 0 := rfl
  have s : (60 : Int32).toInt = 60 := rfl
  rw [Int32.le_iff_toInt_le, Int32.le_iff_toInt_le, z, s]
  split
  · rw [hp3]; omega
  · split
    · rw [hp6]; omega
    · rw [hpq]; omega
theorem faS_bd (r : RT) (i : Nat) : -4 ≤ faS r i ∧ faS r i ≤ 6 := by
  unfold faS
  repeat' split
  all_goals decide
/-- songs alike: told alike -/
theorem frS_eq {r r' : RT} {i : Nat} (h : ∀ k, k < 3 → so r' i k = so r i k) : frS r' i = frS r i := by
  unfold frS
  rw [h 0 (by omega), h 1 (by omega), h 2 (by omega)]
theorem faS_eq {r r' : RT} {i : Nat} (h : so r' i 0 = so r i 0) (h4 : r' 4 = r 4) : faS r' i = faS r i := by
  unfold faS
  rw [h, h4]
theorem wvS_eq {r r' : RT} {j : Nat} (hlo : ∀ q, q < 37 → r' q = r q) (hh : ∀ k, k < 6 → hd r' j k = hd r j k) (h5 : ix (hd r j 3) < 5) : wvS r' j = wvS r j := by
  unfold wvS
  rw [hh 4 (by omega), hh 5 (by omega), hh 3 (by omega), faS_eq (hlo _ (by omega)) (hlo _ (by omega))]
/-- a head behind its own hour -/
theorem OkH_st {r0 r : RT} {N j : Nat} (h0 : Ok r0 N) (hj : j < nH r0) (hlo : ∀ q, q < 37 → r q = r0 q) (hh : ∀ k, k < 6 → hd r j k = hd r0 j k) : OkH (stS r0 r j) j := by
  have hH := h0.head hj
  have h2 : stS r0 r j 2 = r0 2 := by rw [stS_off (by omega)]; exact hlo 2 (by omega)
  have e0 : hd (stS r0 r j) j 0 = hd r0 j 0 := by rw [← hh 0 (by omega)]; exact stS_off (by omega)
  have e1 : hd (stS r0 r j) j 1 = hd r0 j 1 := by rw [← hh 1 (by omega)]; exact stS_off (by omega)
  have e2 : hd (stS r0 r j) j 2 = hd r0 j 2 := by rw [← hh 2 (by omega)]; exact stS_off (by omega)
  have key : ∀ r1 : RT, hd r1 j 5 = hd r0 j 5 → 0 ≤ hd (guS r1 j) j 5 ∧ hd (guS r1 j) j 5 ≤ 3 := by
    intro r1 h5
    have a := hH.2.2.2.2.2.2.2.2.2
    unfold guS
    split
    · rename_i c
      show 0 ≤ upd r1 _ _ _ ∧ upd r1 _ _ _ ≤ 3
      rw [upd_self]
      rw [h5] at c ⊢
      grind
    · rw [h5]; exact a
  have hS : ∀ i, i < nS r0 → OkS r0 i := fun i hi => h0.song hi
  have s5 := h0.s5
  have g34 : ∀ r1 : RT, hd (guS r1 j) j 3 = hd r1 j 3 ∧ hd (guS r1 j) j 4 = hd r1 j 4 := fun r1 => ⟨guS_off (by omega), guS_off (by omega)⟩
  have ge3 : ∀ v : Int32, hd (geS r j v) j 3 = (if v < 0 then -9 else v) := by
    intro v
    show upd _ _ _ _ = _
    rw [upd_ne _ _ (by omega), upd_self]
  have ge4 : ∀ v : Int32, hd (geS r j v) j 4 = (if v < 0 then 0 else frS r (ix v)) := by
    intro v
    show upd _ _ _ _ = _
    rw [upd_self]
  have ge5 : ∀ v : Int32, hd (geS r j v) j 5 = hd r0 j 5 := fun v => (geS_off (by omega)).trans (hh 5 (by omega))
  have ok : ∀ r1 : RT, hd r1 j 5 = hd r0 j 5 → (hd r1 j 3 = -9 ∨ (0 ≤ hd r1 j 3 ∧ hd r1 j 3 < r0 2)) → (0 ≤ hd r1 j 4 ∧ hd r1 j 4 ≤ 60) → stS r0 r j = guS r1 j → OkH (stS r0 r j) j := by
    intro r1 a5 a3 a4 e
    refine ⟨by rw [e0]; exact hH.1, by rw [e0]; exact hH.2.1, by rw [e1]; exact hH.2.2.1, by rw [e1]; exact hH.2.2.2.1, by rw [e2]; exact hH.2.2.2.2.1, by rw [e2]; exact hH.2.2.2.2.2.1, ?_, ?_⟩
    · rw [h2, e, (g34 r1).1]; exact a3
    · rw [e, (g34 r1).2]; exact ⟨a4.1, a4.2, key r1 a5⟩
  by_cases c : 0 ≤ heS r0 j
  · obtain ⟨-, c2, -⟩ := heS_ok h0 c
    have hix := h0.ix c c2
    have hn : ¬ heS r0 j < 0 := by grind
    refine ok (geS r j (heS r0 j)) (ge5 _) ?_ ?_ (by unfold stS; rw [if_pos c])
    · rw [ge3, if_neg hn]; exact Or.inr ⟨c, c2⟩
    · rw [ge4, if_neg hn, frS_eq (r := r0) (fun k hk => hlo _ (by omega))]; exact frS_bd (hS _ hix.2)
  · by_cases d : hd r j 3 < 0
    · refine ok r (hh 5 (by omega)) ?_ ?_ (by unfold stS waS; rw [if_neg c, if_pos d])
      · rw [hh 3 (by omega)]; exact hH.2.2.2.2.2.2.1
      · rw [hh 4 (by omega)]; exact ⟨hH.2.2.2.2.2.2.2.1, hH.2.2.2.2.2.2.2.2.1⟩
    · by_cases f : (if 60 < wvS r j then 60 else wvS r j) ≤ 0
      · refine ok (geS r j (-9)) (ge5 _) ?_ ?_ (by unfold stS waS; rw [if_neg c, if_neg d, if_pos f])
        · rw [ge3]; exact Or.inl (by decide)
        · rw [ge4, if_pos (by decide)]; decide
      · refine ok (upd r (37 + 6 * j + 4) (if 60 < wvS r j then 60 else wvS r j)) ?_ ?_ ?_ (by unfold stS waS; rw [if_neg c, if_neg d, if_neg f])
        · show upd _ _ _ _ = _
          rw [upd_ne _ _ (by omega)]; exact hh 5 (by omega)
        · have e3 : hd (upd r (37 + 6 * j + 4) (if 60 < wvS r j then 60 else wvS r j)) j 3 = hd r0 j 3 := by
            show upd _ _ _ _ = _
            rw [upd_ne _ _ (by omega)]; exact hh 3 (by omega)
          rw [e3]; exact hH.2.2.2.2.2.2.1
        · have e4 : hd (upd r (37 + 6 * j + 4) (if 60 < wvS r j then 60 else wvS r j)) j 4 = (if 60 < wvS r j then 60 else wvS r j) := upd_self _ _ _
          rw [e4]; grind
theorem hoL_at {r : RT} {j q : Nat} (h1 : 37 + 6 * j ≤ q) (h2 : q < 37 + 6 * j + 6) : ∀ {k : Nat}, j < k → hoL r k q = hoL r (j + 1) q
  | 0, h => by omega
  | k + 1, h => by
    by_cases e : j = k
    · subst e; rfl
    · show stS r (hoL r k) k q = _
      rw [stS_off (by omega)]
      exact hoL_at h1 h2 (by omega)
theorem hoS_lo {r : RT} {q : Nat} (h : q < 37) (h4 : q ≠ 4) : hoS r q = r q := by
  unfold hoS
  rw [upd_ne _ _ h4]
  exact hoL_off (by omega)
theorem hoS_4 (r : RT) : hoS r 4 = r 4 + 1 := by
  unfold hoS
  rw [upd_self, hoL_off (by omega)]
theorem hoS_hd {r : RT} {j k : Nat} (hj : j < nH r) (hk : k < 6) : hd (hoS r) j k = hd (stS r (hoL r j) j) j k := by
  show hoS r _ = _
  unfold hoS
  rw [upd_ne _ _ (by omega), hoL_at (j := j) (by omega) (by omega) hj]
  rfl
theorem Ok_hoS {r : RT} {N : Nat} (h : Ok r N) (hN : N < 2 ^ 30) : Ok (hoS r) (N + 1) := by
  have e0 : hoS r 0 = r 0 := hoS_lo (by omega) (by omega)
  have e1 : hoS r 1 = r 1 := hoS_lo (by omega) (by omega)
  have e2 : hoS r 2 = r 2 := hoS_lo (by omega) (by omega)
  have e3 : hoS r 3 = r 3 := hoS_lo (by omega) (by omega)
  have e4 : hoS r 4 = nI (nT r + 1) := by rw [hoS_4, h.hr4]; exact nI_1 _
  have e5 : hoS r 5 = r 5 := hoS_lo (by omega) (by omega)
  have tN := h.tN
  have n0 : nD (hoS r) = nD r := by unfold nD; rw [e0]
  have n2 : nS (hoS r) = nS r := by unfold nS; rw [e2]
  have n3 : nH (hoS r) = nH r := by unfold nH; rw [e3]
  have n4 : nT (hoS r) = nT r + 1 := by
    have : nT (hoS r) = ix (nI (nT r + 1)) := by show ix (hoS r 4) = _; rw [e4]
    rw [this, ix_nI (by omega)]
  refine ⟨⟨by rw [n0, e0]; exact h.hr0, by rw [n0]; exact h.d8⟩, ⟨by rw [n2, e2]; exact h.hr2, by rw [n2]; exact h.s5⟩, ⟨by rw [n3, e3]; exact h.hr3, by rw [n3]; exact h.h6⟩, ⟨by rw [n4, e4], by rw [n4]; omega⟩, by rw [e5]; exact h.loud, by rw [e1, n0]; exact h.op, ?_, ?_⟩
  · intro i hi
    rw [n2] at hi
    have hs := h.song hi
    have s5 := h.s5
    unfold OkS so
    rw [hoS_lo (by omega) (by omega), hoS_lo (by omega) (by omega), hoS_lo (by omega) (by omega)]
    exact hs
  · intro j hj
    rw [n3] at hj
    have := OkH_st (r := hoL r j) h hj (fun q hq => hoL_off (by omega)) (fun k hk => hoL_off (by omega))
    unfold OkH at this ⊢
    rw [hoS_hd hj (by omega), hoS_hd hj (by omega), hoS_hd hj (by omega), hoS_hd hj (by omega), hoS_hd hj (by omega), hoS_hd hj (by omega), e2]
    rw [show stS r (hoL r j) j 2 = r 2 by rw [stS_off (by omega), hoL_off (by omega)]] at this
    exact this
theorem Ok_hrS {r : RT} {N : Nat} (h : Ok r N) : ∀ {n : Nat}, N + n < 2 ^ 30 → Ok (hrS r n) (N + n)
  | 0, _ => h
  | n + 1, hn => Ok_hoS (Ok_hrS h (n := n) (by omega)) (show N + n < 2 ^ 30 by omega)
theorem nH_hoS (r : RT) : nH (hoS r) = nH r := by unfold nH; rw [hoS_lo (by omega) (by omega)]
theorem nS_hoS (r : RT) : nS (hoS r) = nS r := by unfold nS; rw [hoS_lo (by omega) (by omega)]
theorem nD_hoS (r : RT) : nD (hoS r) = nD r := by unfold nD; rw [hoS_lo (by omega) (by omega)]
theorem nH_hrS (r : RT) : ∀ n, nH (hrS r n) = nH r
  | 0 => rfl
  | n + 1 => (nH_hoS _).trans (nH_hrS r n)
