/-! A ROW STAYS AS IT MUST BE UNDER THE CALLS' WRITES -/
set_option maxRecDepth 100000
/-- rows alike but for one head -/
theorem Ok_head {r r' : RT} {N j : Nat} (h : Ok r N) (hj : j < nH r) (hoff : ∀ q, q < 37 + 6 * j ∨ 37 + 6 * j + 6 ≤ q → r' q = r q) (hH : OkH r' j) : Ok r' N := by
  have e : ∀ q, q < 37 → r' q = r q := fun q hq => hoff q (by omega)
  have n0 : nD r' = nD r := by unfold nD; rw [e 0 (by omega)]
  have n2 : nS r' = nS r := by unfold nS; rw [e 2 (by omega)]
  have n3 : nH r' = nH r := by unfold nH; rw [e 3 (by omega)]
  have n4 : nT r' = nT r := by unfold nT; rw [e 4 (by omega)]
  have s5 := h.s5
  refine ⟨⟨by rw [n0, e 0 (by omega)]; exact h.hr0, by rw [n0]; exact h.d8⟩, ⟨by rw [n2, e 2 (by omega)]; exact h.hr2, by rw [n2]; exact s5⟩, ⟨by rw [n3, e 3 (by omega)]; exact h.hr3, by rw [n3]; exact h.h6⟩, ⟨by rw [n4, e 4 (by omega)]; exact h.hr4, by rw [n4]; exact h.tN⟩, by rw [e 5 (by omega)]; exact h.loud, by rw [e 1 (by omega), n0]; exact h.op, ?_, ?_⟩
  · intro i hi
    rw [n2] at hi
    have hs := h.song hi
    unfold OkS so
    rw [e _ (by omega), e _ (by omega), e _ (by omega)]
    exact hs
  · intro i hi
    rw [n3] at hi
    by_cases c : i = j
    · subst c; exact hH
    · have hs := h.head hi
      unfold OkH hd
      rw [hoff _ (by omega), hoff _ (by omega), hoff _ (by omega), hoff _ (by omega), hoff _ (by omega), hoff _ (by omega), hoff _ (by omega)]
      exact hs
theorem hd_ne {r : RT} {j k k' : Nat} {v : Int32} (h : k ≠ k') : hd (upd r (37 + 6 * j + k') v) j k = hd r j k := upd_ne _ _ (by omega)
theorem hd_self {r : RT} {j k : Nat} {v : Int32} : hd (upd r (37 + 6 * j + k) v) j k = v := upd_self _ _ _
theorem Ok_geS {r : RT} {N j : Nat} {v : Int32} (h : Ok r N) (hj : j < nH r) (hv : v < 0 ∨ (0 ≤ v ∧ v < r 2)) : Ok (geS r j v) N := by
  refine Ok_head h hj (fun q hq => geS_off (by omega)) ?_
  have hH := h.head hj
  have e2 : geS r j v 2 = r 2 := geS_off (by omega)
  have e3 : hd (geS r j v) j 3 = (if v < 0 then -9 else v) := by unfold geS; rw [hd_ne (by omega), hd_self]
  have e4 : hd (geS r j v) j 4 = (if v < 0 then 0 else frS r (ix v)) := by unfold geS; rw [hd_self]
  have ek : ∀ k, k < 6 → k ≠ 3 → k ≠ 4 → hd (geS r j v) j k = hd r j k := fun k h1 h2 h3 => geS_off (by omega)
  unfold OkH
  rw [ek 0 (by omega) (by omega) (by omega), ek 1 (by omega) (by omega) (by omega), ek 2 (by omega) (by omega) (by omega), ek 5 (by omega) (by omega) (by omega), e3, e4, e2]
  refine ⟨hH.1, hH.2.1, hH.2.2.1, hH.2.2.2.1, hH.2.2.2.2.1, hH.2.2.2.2.2.1, ?_, ?_⟩
  · by_cases c : v < 0
    · rw [if_pos c]; exact Or.inl rfl
    · rw [if_neg c]; rcases hv with q | q
      · exact absurd q c
      · exact Or.inr q
  · by_cases c : v < 0
    · rw [if_pos c]; exact ⟨by decide, by decide, hH.2.2.2.2.2.2.2.2.2.1, hH.2.2.2.2.2.2.2.2.2.2⟩
    · rw [if_neg c]
      rcases hv with q | q
      · exact absurd q c
      · have := frS_bd (h.song (h.ix q.1 q.2).2)
        exact ⟨this.1, this.2, hH.2.2.2.2.2.2.2.2.2.1, hH.2.2.2.2.2.2.2.2.2.2⟩
theorem Ok_st {r : RT} {N j : Nat} {v : Int32} (h : Ok r N) (hj : j < nH r) (h0 : 0 ≤ v) (h1 : v ≤ 60) : Ok (upd r (37 + 6 * j + 4) v) N := by
  refine Ok_head h hj (fun q hq => upd_ne _ _ (by omega)) ?_
  have hH := h.head hj
  unfold OkH
  rw [hd_ne (by omega), hd_ne (by omega), hd_ne (by omega), hd_ne (by omega), hd_self, hd_ne (by omega), upd_ne _ _ (by omega)]
  exact ⟨hH.1, hH.2.1, hH.2.2.1, hH.2.2.2.1, hH.2.2.2.2.1, hH.2.2.2.2.2.1, hH.2.2.2.2.2.2.1, h0, h1, hH.2.2.2.2.2.2.2.2.2⟩
theorem Ok_gum {r : RT} {N j : Nat} {v : Int32} (h : Ok r N) (hj : j < nH r) (h0 : 0 ≤ v) (h1 : v ≤ 3) : Ok (upd r (37 + 6 * j + 5) v) N := by
  refine Ok_head h hj (fun q hq => upd_ne _ _ (by omega)) ?_
  have hH := h.head hj
  unfold OkH
  rw [hd_ne (by omega), hd_ne (by omega), hd_ne (by omega), hd_ne (by omega), hd_ne (by omega), hd_self, upd_ne _ _ (by omega)]
  exact ⟨hH.1, hH.2.1, hH.2.2.1, hH.2.2.2.1, hH.2.2.2.2.1, hH.2.2.2.2.2.1, hH.2.2.2.2.2.2.1, hH.2.2.2.2.2.2.2.1, hH.2.2.2.2.2.2.2.2.1, h0, h1⟩
theorem Ok_room {r : RT} {N j : Nat} {v : Int32} (h : Ok r N) (hj : j < nH r) (h0 : 0 ≤ v) (h1 : v < 5) : Ok (upd r (37 + 6 * j + 1) v) N := by
  refine Ok_head h hj (fun q hq => upd_ne _ _ (by omega)) ?_
  have hH := h.head hj
  unfold OkH
  rw [hd_ne (by omega), hd_self, hd_ne (by omega), hd_ne (by omega), hd_ne (by omega), hd_ne (by omega), upd_ne _ _ (by omega)]
  exact ⟨hH.1, hH.2.1, h0, by grind, hH.2.2.2.2.1, hH.2.2.2.2.2.1, hH.2.2.2.2.2.2.1, hH.2.2.2.2.2.2.2.1, hH.2.2.2.2.2.2.2.2.1, hH.2.2.2.2.2.2.2.2.2⟩
theorem half_bd {x : Int32} (h0 : 0 ≤ x) (h1 : x ≤ 60) : 0 ≤ x / 2 ∧ x / 2 ≤ 60 := by
  obtain ⟨e, hi⟩ := le_ix (n := 60) (by omega) h0 h1
  rw [e, show (2 : Int32) = nI 2 from rfl, pk_div (by omega) (by omega) (by omega)]
  exact ⟨nI_le (a := 0) (by omega) (by omega), nI_le (b := 60) (by omega) (by omega)⟩
theorem Ok_meS {r : RT} {N j : Nat} {w : Int32} (h : Ok r N) (hj : j < nH r) : Ok (meS r j w) N := by
  have hH := h.head hj
  unfold meS
  split
  · exact h
  · split
    · exact Ok_gum h hj (by decide) (by decide)
    · split
      · exact Ok_geS h hj (Or.inl (by decide))
      · rename_i c
        refine Ok_st h hj ?_ ?_
        · grind
        · unfold meV
          have hb := half_bd hH.2.2.2.2.2.2.2.1 hH.2.2.2.2.2.2.2.2.1
          have h0 := hH.2.2.2.2.2.2.2.1
          have h1 := hH.2.2.2.2.2.2.2.2.1
          split
          · exact hb.2
          · grind
/-- numbers under 'and', 'or else', and one bit -/
theorem nI_andL {b : Nat} (hb : b < 2 ^ 31) (m : Int32) : ∃ b', b' ≤ b ∧ nI b &&& m = nI b' := by
  refine ⟨b &&& m.toBitVec.toNat, Nat.and_le_left, ?_⟩
  apply Int32.toBitVec_inj.mp
  apply BitVec.eq_of_toNat_eq
  rw [Int32.toBitVec_and, BitVec.toNat_and, pk_tn (by omega), pk_tn (by have := Nat.and_le_left (n := b) (m := m.toBitVec.toNat); omega)]
theorem nI_xorN (a b : Nat) : nI a ^^^ nI b = nI (a ^^^ b) := by
  apply Int32.toBitVec_inj.mp
  show BitVec.ofNat 32 a ^^^ BitVec.ofNat 32 b = BitVec.ofNat 32 (a ^^^ b)
  apply BitVec.eq_of_getLsbD_eq
  intro i hi
  simp [hi]
theorem nI_orN (a b : Nat) : nI a ||| nI b = nI (a ||| b) := by
  apply Int32.toBitVec_inj.mp
  show BitVec.ofNat 32 a ||| BitVec.ofNat 32 b = BitVec.ofNat 32 (a ||| b)
  apply BitVec.eq_of_getLsbD_eq
  intro i hi
  simp [hi]
theorem nI_pow {d : Nat} (hd : d < 31) : (1 : Int32) <<< (nI d &&& 31) = nI (2 ^ d) := by
  have h := pk_shlN (n := 1) (nI d &&& 31) d (s_l d (by omega)) (by rw [Nat.one_mul]; exact Nat.pow_lt_pow_right (by omega) (by omega))
  rw [Nat.one_mul] at h
  exact h
theorem Ok_open {r : RT} {N b : Nat} (h : Ok r N) (hb : b < 2 ^ nD r) : Ok (upd r 1 (nI b)) N := by
  have d8 := h.d8
  have hb2 : b < 256 := Nat.lt_of_lt_of_le hb (Nat.pow_le_pow_right (by omega) d8)
  have e : ∀ q, q ≠ 1 → upd r 1 (nI b) q = r q := fun q hq => upd_ne _ _ hq
  have n0 : nD (upd r 1 (nI b)) = nD r := by unfold nD; rw [e 0 (by omega)]
  have n2 : nS (upd r 1 (nI b)) = nS r := by unfold nS; rw [e 2 (by omega)]
  have n3 : nH (upd r 1 (nI b)) = nH r := by unfold nH; rw [e 3 (by omega)]
  have n4 : nT (upd r 1 (nI b)) = nT r := by unfold nT; rw [e 4 (by omega)]
  refine ⟨⟨by rw [n0, e 0 (by omega)]; exact h.hr0, by rw [n0]; exact h.d8⟩, ⟨by rw [n2, e 2 (by omega)]; exact h.hr2, by rw [n2]; exact h.s5⟩, ⟨by rw [n3, e 3 (by omega)]; exact h.hr3, by rw [n3]; exact h.h6⟩, ⟨by rw [n4, e 4 (by omega)]; exact h.hr4, by rw [n4]; exact h.tN⟩, by rw [e 5 (by omega)]; exact h.loud, by rw [n0, upd_self, ix_nI (by omega)]; exact ⟨rfl, hb⟩, ?_, ?_⟩
  · intro i hi
    rw [n2] at hi
    have hs := h.song hi
    unfold OkS so
    rw [e _ (by omega), e _ (by omega), e _ (by omega)]
    exact hs
  · intro i hi
    rw [n3] at hi
    have hs := h.head hi
    unfold OkH hd
    rw [e _ (by omega), e _ (by omega), e _ (by omega), e _ (by omega), e _ (by omega), e _ (by omega), e _ (by omega)]
    exact hs
theorem Ok_shR {r : RT} {N d : Nat} (h : Ok r N) : Ok (shR r d) N := by
  have hd8 := h.d8
  have h256 : (2 : Nat) ^ nD r ≤ 256 := Nat.pow_le_pow_right (n := 2) (by omega) hd8
  have ho := h.op
  unfold shR
  rw [ho.1]
  obtain ⟨b, h1, h2⟩ := nI_andL (b := ix (r 1)) (by omega) ((1 <<< (nI d &&& 31)) ^^^ (-1))
  rw [h2]
  exact Ok_open h (by omega)
theorem Ok_doorX {r : RT} {N : Nat} {x : Int32} (h : Ok r N) (hx : x = nI (ix x)) (hd : ix x < nD r) : Ok (upd r 1 (doorX r x)) N := by
  have hd8 := h.d8
  have ho := h.op
  unfold doorX
  rw [ho.1, hx, nI_pow (by omega), nI_xorN]
  refine Ok_open h (Nat.xor_lt_two_pow ho.2 ?_)
  exact Nat.pow_lt_pow_right (by omega) hd
theorem Ok_loud {r : RT} {N : Nat} {v : Int32} (h : Ok r N) (h0 : 1 ≤ v) (h1 : v ≤ 20) : Ok (upd r 5 v) N := by
  have e : ∀ q, q ≠ 5 → upd r 5 v q = r q := fun q hq => upd_ne _ _ hq
  have n0 : nD (upd r 5 v) = nD r := by unfold nD; rw [e 0 (by omega)]
  have n2 : nS (upd r 5 v) = nS r := by unfold nS; rw [e 2 (by omega)]
  have n3 : nH (upd r 5 v) = nH r := by unfold nH; rw [e 3 (by omega)]
  have n4 : nT (upd r 5 v) = nT r := by unfold nT; rw [e 4 (by omega)]
  refine ⟨⟨by rw [n0, e 0 (by omega)]; exact h.hr0, by rw [n0]; exact h.d8⟩, ⟨by rw [n2, e 2 (by omega)]; exact h.hr2, by rw [n2]; exact h.s5⟩, ⟨by rw [n3, e 3 (by omega)]; exact h.hr3, by rw [n3]; exact h.h6⟩, ⟨by rw [n4, e 4 (by omega)]; exact h.hr4, by rw [n4]; exact h.tN⟩, by rw [upd_self]; exact ⟨h0, h1⟩, by rw [n0, e 1 (by omega)]; exact h.op, ?_, ?_⟩
  · intro i hi
    rw [n2] at hi
    have hs := h.song hi
    unfold OkS so
    rw [e _ (by omega), e _ (by omega), e _ (by omega)]
    exact hs
  · intro i hi
    rw [n3] at hi
    have hs := h.head hi
    unfold OkH hd
    rw [e _ (by omega), e _ (by omega), e _ (by omega), e _ (by omega), e _ (by omega), e _ (by omega), e _ (by omega)]
    exact hs
theorem nH_eq {r r' : RT} (h : r' 3 = r 3) : nH r' = nH r := by unfold nH; rw [h]
theorem nS_eq {r r' : RT} (h : r' 2 = r 2) : nS r' = nS r := by unfold nS; rw [h]
theorem Ok_swR {r : RT} {N a b : Nat} (h : Ok r N) (ha : a < nH r) (hb : b < nH r) : Ok (swR r a b) N := by
  have hA := h.head ha
  have hBb := h.head hb
  unfold swR
  have h1 := Ok_room (v := hd r b 1) h ha hBb.2.2.1 (by have := hBb.2.2.2.1; grind)
  refine Ok_room h1 (by rw [nH_eq (upd_ne _ _ (by omega))]; exact hb) hA.2.2.1 (by have := hA.2.2.2.1; grind)
theorem Ok_wsR {r : RT} {N k : Nat} {len : Int32} (h : Ok r N) (hs : nS r < 5) (hk : k < 60) (h1 : 1 ≤ len) (h9 : len ≤ 9) : Ok (wsR r len k) N ∧ nS (wsR r len k) = nS r + 1 ∧ nH (wsR r len k) = nH r := by
  have e : ∀ q, q ≠ 2 → (q < 22 + 3 * nS r ∨ 22 + 3 * nS r + 2 < q) → wsR r len k q = r q := by
    intro q h2 hq
    unfold wsR
    rw [upd_ne _ _ h2, upd_ne _ _ (by omega), upd_ne _ _ (by omega), upd_ne _ _ (by omega)]
  have e2 : wsR r len k 2 = nI (nS r + 1) := upd_self _ _ _
  have n0 : nD (wsR r len k) = nD r := by unfold nD; rw [e 0 (by omega) (by omega)]
  have n2 : nS (wsR r len k) = nS r + 1 := by
    have : nS (wsR r len k) = ix (nI (nS r + 1)) := by show ix (wsR r len k 2) = _; rw [e2]
    rw [this, ix_nI (by omega)]
  have n3 : nH (wsR r len k) = nH r := nH_eq (e 3 (by omega) (by omega))
  have n4 : nT (wsR r len k) = nT r := by unfold nT; rw [e 4 (by omega) (by omega)]
  refine ⟨⟨⟨by rw [n0, e 0 (by omega) (by omega)]; exact h.hr0, by rw [n0]; exact h.d8⟩, ⟨by rw [n2, e2], by rw [n2]; omega⟩, ⟨by rw [n3, e 3 (by omega) (by omega)]; exact h.hr3, by rw [n3]; exact h.h6⟩, ⟨by rw [n4, e 4 (by omega) (by omega)]; exact h.hr4, by rw [n4]; exact h.tN⟩, by rw [e 5 (by omega) (by omega)]; exact h.loud, by rw [n0, e 1 (by omega) (by omega)]; exact h.op, ?_, ?_⟩, n2, n3⟩
  · intro i hi
    rw [n2] at hi
    by_cases c : i = nS r
    · subst c
      have a0 : so (wsR r len k) (nS r) 0 = nI (k / 10) := by
        show wsR r len k _ = _
        unfold wsR
        rw [upd_ne _ _ (by omega), upd_ne _ _ (by omega), upd_ne _ _ (by omega)]
        exact upd_self _ _ _
      have a1 : so (wsR r len k) (nS r) 1 = nI (k % 10) := by
        show wsR r len k _ = _
        unfold wsR
        rw [upd_ne _ _ (by omega), upd_ne _ _ (by omega), upd_self]
      have a2 : so (wsR r len k) (nS r) 2 = len := by
        show wsR r len k _ = _
        unfold wsR
        rw [upd_ne _ _ (by omega), upd_self]
      unfold OkS
      rw [a0, a1, a2]
      exact ⟨nI_le (a := 0) (by omega) (by omega), nI_le (b := 5) (by omega) (by omega), nI_le (a := 0) (by omega) (by omega), nI_le (b := 9) (by omega) (by omega), h1, h9⟩
    · have hs := h.song (i := i) (by omega)
      unfold OkS so
      rw [e _ (by omega) (by omega), e _ (by omega) (by omega), e _ (by omega) (by omega)]
      exact hs
  · intro j hj
    rw [n3] at hj
    have hs := h.head hj
    unfold OkH hd
    rw [e2, e _ (by omega) (by omega), e _ (by omega) (by omega), e _ (by omega) (by omega), e _ (by omega) (by omega), e _ (by omega) (by omega), e _ (by omega) (by omega)]
    refine ⟨hs.1, hs.2.1, hs.2.2.1, hs.2.2.2.1, hs.2.2.2.2.1, hs.2.2.2.2.2.1, ?_, hs.2.2.2.2.2.2.2⟩
    rcases hs.2.2.2.2.2.2.1 with q | q
    · exact Or.inl q
    · refine Or.inr ⟨q.1, ?_⟩
      have h3 := q.2
      rw [h.hr2] at h3
      have := nI_lt (a := nS r) (b := nS r + 1) (by omega) (by omega)
      grind
theorem Ok_wgR {r : RT} {N k : Nat} {len : Int32} (h : Ok r N) (hs : nS r < 5) (hH : 0 < nH r) (hk : k < 60) (h1 : 1 ≤ len) (h9 : len ≤ 9) : Ok (wgR r len k) N := by
  obtain ⟨a, b, c⟩ := Ok_wsR h hs hk h1 h9
  refine Ok_geS a (by omega) (Or.inr ⟨nI_le (a := 0) (by omega) (by omega), ?_⟩)
  rw [a.hr2, b]
  exact nI_lt (by omega) (by omega)
theorem sdR_bd (z : Int32) : 0 ≤ sdR z ∧ sdR z < 5 := by
  unfold sdR
  obtain ⟨j, hj, e⟩ := pk_andE (sdZ z) (m := 2147483647) 31 (by decide)
  rw [e, show (256 : Int32) = nI 256 from rfl, pk_div (by omega) (by omega) (by omega), show (5 : Int32) = nI 5 from rfl, pk_rem (by omega) (by omega) (by omega)]
  have : j / 256 % 5 < 5 := Nat.mod_lt _ (by omega)
  exact ⟨nI_le (a := 0) (by omega) (by omega), nI_lt (b := 5) this (by omega)⟩
theorem Ok_sdI {p : RT × Int32} {N : Nat} (h : Ok p.1 N) : ∀ {k : Nat}, k ≤ nH p.1 → Ok (sdI p k).1 N ∧ nH (sdI p k).1 = nH p.1
  | 0, _ => ⟨h, rfl⟩
  | k + 1, hk => by
    obtain ⟨a, b⟩ := Ok_sdI h (k := k) (by omega)
    have c := sdR_bd (sdI p k).2
    exact ⟨Ok_room a (by omega) c.1 c.2, (nH_eq (upd_ne _ _ (by omega))).trans b⟩
theorem Ok_sdL {r : RT} {z : Int32} {N : Nat} (h : Ok r N) : ∀ {k : Nat}, N + k < 2 ^ 30 → Ok (sdL r z k).1 (N + k) ∧ nH (sdL r z k).1 = nH r
  | 0, _ => ⟨h, rfl⟩
  | k + 1, hk => by
    obtain ⟨a, b⟩ := Ok_sdL h (z := z) (k := k) (by omega)
    obtain ⟨c, d⟩ := Ok_sdI a (k := nH r) (by omega)
    exact ⟨Ok_hoS c (show N + k < 2 ^ 30 by omega), (nH_hoS _).trans (d.trans b)⟩
/-- in mind: what was saved, and what else lasts -/
def RB (B B1 : BT) : Prop := B1 2 = B 2 ∧ B1 5 = B 2 ∧ B1 0 = B 0 ∧ B1 1 = B 1 ∧ B1 3 = B 3 ∧ B1 11 = B 11 ∧ B1 13 = B 13
/-- put back -/
def SC (B B1 : BT) : Prop := B1 2 = B 5 ∧ B1 5 = B 5 ∧ B1 0 = B 0 ∧ B1 1 = B 1 ∧ B1 3 = B 3 ∧ B1 11 = B 11 ∧ B1 13 = B 13
theorem RB_begin (B : BT) : RB B (upc B 5 (B 2)) := ⟨rfl, rfl, rfl, rfl, rfl, rfl, rfl⟩
theorem SC_gr (B : BT) (n : Nat) : SC B (upc (grB B n) 2 (B 5)) := by
  refine ⟨upc_same _ _ _, ?_, ?_, ?_, ?_, ?_, ?_⟩ <;> (rw [upc_ne _ _ (by decide), grB_x B (by decide)])
theorem RB.pe {B B1 : BT} (h : RB B B1) : PE B B1 := ⟨h.2.2.2.1, h.1, h.2.2.2.2.1, h.2.2.2.2.2.1, h.2.2.2.2.2.2, by rw [h.2.2.1], by rw [h.2.2.1], by rw [h.2.2.1]⟩
theorem RB.put {B B1 : BT} (h : RB B B1) {f : RT} {B2 : BT} (hs : SC (upc B1 2 f) B2) : RB B B2 := by
  obtain ⟨h1, h2, h3, h4, h5, h6, h7⟩ := h
  obtain ⟨s1, s2, s3, s4, s5, s6, s7⟩ := hs
  rw [upc_ne _ _ (by decide)] at s1 s2 s3 s4 s5 s6 s7
  exact ⟨s1.trans h2, s2.trans h2, s3.trans h3, s4.trans h4, s5.trans h5, s6.trans h6, s7.trans h7⟩
theorem RB.sc {B B1 B2 : BT} (h : RB B B1) (hs : SC B1 B2) : RB B B2 := by
  obtain ⟨h1, h2, h3, h4, h5, h6, h7⟩ := h
  obtain ⟨s1, s2, s3, s4, s5, s6, s7⟩ := hs
  exact ⟨s1.trans h2, s2.trans h2, s3.trans h3, s4.trans h4, s5.trans h5, s6.trans h6, s7.trans h7⟩
theorem nH_meS (r : RT) (j : Nat) (w : Int32) : nH (meS r j w) = nH r := by
  apply nH_eq
  unfold meS
  split
  · rfl
  · split
    · exact upd_ne _ _ (by omega)
    · split
      · exact geS_off (by omega)
      · exact upd_ne _ _ (by omega)
theorem hrS_lo {r : RT} {q : Nat} (h : q < 37) (h4 : q ≠ 4) : ∀ {n : Nat}, hrS r n q = r q
  | 0 => rfl
  | n + 1 => (hoS_lo h h4).trans (hrS_lo h h4)
theorem heL_by (r : RT) (j : Nat) : ∀ o, o < 2 ^ 31 → (heL r j o).2 = -9 ∨ ∃ q, q < o ∧ (heL r j o).2 = nI q
  | 0, _ => Or.inl rfl
  | o + 1, ho => by
    by_cases c : huS r o = true ∧ neS r j o = true ∧ ¬ hd r o 3 = hd r j 3 ∧ betS r j o
    · rw [heL_take c.1 c.2.1 c.2.2.1 c.2.2.2]; exact Or.inr ⟨o, by omega, rfl⟩
    · rw [heL_skip c]
      rcases heL_by r j o (by omega) with h | ⟨q, h1, h2⟩
      · exact Or.inl h
      · exact Or.inr ⟨q, by omega, h2⟩
theorem byS_lt {r : RT} {j : Nat} (h : nH r ≤ 6) : ix (byS r j) < nH r + 1 := by
  unfold byS
  rcases heL_by r j (nH r) (by omega) with h1 | ⟨q, h1, h2⟩
  · rw [h1, show ix (-9) = 0 from by decide]; omega
  · rw [h2, ix_nI (by omega)]; omega
/-- who gave what: alike where heads are -/
theorem fgS_lt {r g g' o o' : RT} {N : Nat} (h : Ok r N) (h6 : nH r ≤ 6) (hg : ∀ j, j < 6 → g j = g' j) (hoo : ∀ j, j < 6 → o j = o' j) : ∀ n j, j < 6 → (fgS r g o n).1 j = (fgS r g' o' n).1 j ∧ (fgS r g o n).2 j = (fgS r g' o' n).2 j := by
  intro n
  induction n with
  | zero => intro j hj; exact ⟨hg j hj, hoo j hj⟩
  | succ n ih =>
    intro j hj
    refine ⟨?_, ?_⟩
    · show fmS _ _ j = fmS _ _ j
      unfold fmS
      split
      · rfl
      · exact (ih j hj).1
    · show orS _ _ j = orS _ _ j
      unfold orS
      split
      · rename_i c
        have hb : ix (byS (hrS r n) j) < 6 := by
          have hl : nH (hrS r n) ≤ 6 := by rw [nH_hrS]; exact h6
          have hj' := c.1
          rcases heL_by (hrS r n) j (nH (hrS r n)) (by omega) with h1 | ⟨q, h1, h2⟩
          · unfold byS; rw [h1]; decide
          · unfold byS; rw [h2, ix_nI (by omega)]; omega
        exact (ih _ hb).2
      · exact (ih j hj).2
theorem atB_f {rw_ r : RT} {k n : Nat} (h : k < n) (hf : toB rw_ r k = false) : atB rw_ r n = false := by
  induction n with
  | zero => omega
  | succ n ih =>
    simp only [atB]
    by_cases e : k = n
    · subst e; rw [hf, Bool.and_false]
    · rw [ih (by omega), Bool.false_and]
theorem otL_le (f : Nat → Bool) : ∀ k, (otL f k).1 ≤ k
  | 0 => Nat.le_refl 0
  | k + 1 => by
    have := otL_le f k
    simp only [otL]
    split
    · show (otL f k).1 + 1 ≤ k + 1; omega
    · omega
theorem poS_0 : ∀ j, poS j 0 = 0
  | 0 => rfl
  | j + 1 => by simp only [poS, Nat.zero_mod, Nat.zero_div, poS_0 j]
/-- in mind, another row at hand -/
def SR (B B1 : BT) (r : RT) : Prop := B1 2 = r ∧ B1 5 = B 2 ∧ B1 0 = B 0 ∧ B1 1 = B 1 ∧ B1 3 = B 3 ∧ B1 11 = B 11 ∧ B1 13 = B 13
theorem SR_begin (B : BT) : SR B (upc B 5 (B 2)) (B 2) := RB_begin B
theorem SR.put {B B1 : BT} {r r' : RT} {q : Nat} {v : Int32} (h : SR B B1 r) (e : r' = upd r q v) : SR B (up2 B1 2 q v) r' := by
  obtain ⟨h1, h2, h3, h4, h5, h6, h7⟩ := h
  refine ⟨by rw [up2_same, h1, e], ?_, ?_, ?_, ?_, ?_, ?_⟩ <;> (rw [up2_ne _ _ _ (by decide)]; assumption)
theorem SR.go {B B1 : BT} {r : RT} (h : SR B B1 r) : SR B (goE B1) (hoS r) := by
  obtain ⟨h1, h2, h3, h4, h5, h6, h7⟩ := h
  refine ⟨by rw [goE_2, h1], ?_, ?_, ?_, ?_, ?_, ?_⟩ <;> (rw [goE_x _ (by decide)]; assumption)
theorem SR.ends {B B1 : BT} {r : RT} (h : SR B B1 r) : PE B (upc B1 2 (B1 5)) := by
  obtain ⟨h1, h2, h3, h4, h5, h6, h7⟩ := h
  exact PE_back h4 h5 h6 h7 h3 _ h2
