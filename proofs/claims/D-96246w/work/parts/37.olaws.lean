/-! WHAT THE SMALL CLASSES ANSWER, IN A ROW's WORDS -/
set_option maxRecDepth 100000
section CG
variable {p : Program} {l : Launch} {e : Env} {R : Room} {s : State} {m : MethodId} {args : Array Value} {below : List Frame} {meth : Method} {c : Code} {H : Heap} {locs : List Loc} {cells slots : Nat} {Q : State → Prop} {cc : ByteArray} {pc : Nat} {ls : Array Slot} {rest : List Value} {D : va_G} {t : Nat → ClassId} {a : Nat} {own : String} {index : Nat}
theorem cg_song {k : Nat} (hk : k < 6) {v0 v1 : Int32} (hexec : p.tables.exec = Jvm.exec) (hb : c.code = cc) (hts : ∀ w ∈ lw_all, w.before args s = true) (hown : s.vm.findClass own = some m.cls) (hKK : KK D t s) (hO : OB D a (9 + k) [.int v0, .int v1] H) (f : Nat) (hf : f < 2) (hlink : (Cond.fieldLink own index "SongThatStays$Song" (TX21 f).2.1 (TX21 f).2.2.1) ∈ lw_all) {v : Value} (hv : ([.int v0, .int v1] : List Value)[f]? = some v) (hdg : decode cc pc = .ok (.getfield index, 3))
    (kk : W p l e R s m args below meth c H locs cells slots Q (F0 m (pc + 3) ls (v :: rest))) : W p l e R s m args below meth c H locs cells slots Q (F0 m pc ls (.ref a :: rest)) := by
  rcases (show f = 0 ∨ f = 1 by omega) with rfl | rfl <;> rcases (show k = 0 ∨ k = 1 ∨ k = 2 ∨ k = 3 ∨ k = 4 ∨ k = 5 by omega) with rfl | rfl | rfl | rfl | rfl | rfl
  all_goals first
    | exact c_get (C := RX21) (T := TX21) (N := 2) hexec hb hts in_X21 hown hKK hO rfl _ hf hlink (Or.inl rfl) hv hdg kk
    | exact c_get (C := RX22) (T := TX22) (N := 2) hexec hb hts in_X22 hown hKK hO rfl _ hf hlink (Or.inl rfl) hv hdg kk
    | exact c_get (C := RX23) (T := TX23) (N := 2) hexec hb hts in_X23 hown hKK hO rfl _ hf hlink (Or.inl rfl) hv hdg kk
    | exact c_get (C := RX24) (T := TX24) (N := 2) hexec hb hts in_X24 hown hKK hO rfl _ hf hlink (Or.inl rfl) hv hdg kk
    | exact c_get (C := RX25) (T := TX25) (N := 2) hexec hb hts in_X25 hown hKK hO rfl _ hf hlink (Or.inl rfl) hv hdg kk
    | exact c_get (C := RX26) (T := TX26) (N := 2) hexec hb hts in_X26 hown hKK hO rfl _ hf hlink (Or.inl rfl) hv hdg kk
end CG
theorem ix5 {x : Int32} (h0 : 0 ≤ x) (h5 : x ≤ 5) : x = nI (ix x) ∧ ix x < 6 := by
  have := le_ix (x := x) (n := 5) (by omega) h0 h5
  exact ⟨this.1, by omega⟩
theorem okK {r : RT} {i : Nat} (h : OkS r i) : ix (so r i 0) < 6 := (ix5 h.1 h.2.1).2
theorem okH {r : RT} {j : Nat} (h : OkH r j) : ix (hd r j 0) < 6 := (ix5 h.1 h.2.1).2
theorem bt_ones : ∀ n, n < 9 → ∀ k, k < n → bt (nI (2 ^ n - 1)) k = true := by decide +kernel
theorem bt_shS {r : RT} {k : Nat} (h : nD r ≤ 8) (hk : k < nD r) : bt (shS r) k = !bt (r 1) k := by
  unfold shS
  rw [b_xor, bt_ones (nD r) (by omega) k hk]
  cases bt (r 1) k <;> rfl
theorem shS_has {r : RT} {k : Nat} (h : nD r ≤ 8) (hk : k < nD r) : bI (decide ((shS r >>> (nI k &&& 31)) &&& 1 = 1)) = bI (!bt (r 1) k) := by
  have hb := b_bit1 (shS r) (o := k) (by omega)
  rw [bt_shS h hk] at hb
  congr 1
  cases hx : bt (r 1) k with
  | true => rw [hx] at hb; exact decide_eq_false (fun q => by have := hb.mp q; cases this)
  | false => rw [hx] at hb; exact decide_eq_true (hb.mpr rfl)
theorem bI_or (a b : Bool) : bI a ||| bI b = bI (a || b) := by cases a <;> cases b <;> decide
theorem doS_eq {r : RT} {k : Nat} {x y : Int32} (h : nD r ≤ 8) (hk : k < nD r) : doS r x y k = (decide ((r (6 + 2 * k) = x ∧ r (6 + 2 * k + 1) = y) ∨ (r (6 + 2 * k) = y ∧ r (6 + 2 * k + 1) = x)) && bt (r 1) k) := by
  have hb := b_bit1 (r 1) (o := k) (by omega)
  unfold doS
  cases hx : bt (r 1) k with
  | true =>
    rw [hx] at hb
    rw [Bool.and_true]
    exact decide_eq_decide.mpr ⟨fun q => q.2, fun q => ⟨hb.mpr rfl, q⟩⟩
  | false =>
    rw [hx] at hb
    rw [Bool.and_false]
    exact decide_eq_false (fun q => by have := hb.mp q.1; cases this)
theorem doS_step {r : RT} {k : Nat} {x y : Int32} (h : nD r ≤ 8) (hk : k < nD r) : bI (decide (x = y) || anS (doS r x y) k) ||| bI (decide ((r (6 + 2 * k) = x ∧ r (6 + 2 * k + 1) = y) ∨ (r (6 + 2 * k) = y ∧ r (6 + 2 * k + 1) = x)) && bt (r 1) k) = bI (decide (x = y) || anS (doS r x y) (k + 1)) := by
  rw [bI_or, ← doS_eq h hk, Bool.or_assoc]
  rfl
theorem nI_injL {a b : Nat} (ha : a < 2 ^ 31) (hb : b < 2 ^ 31) (h : nI a = nI b) : a = b := by
  have := congrArg ix h
  rw [ix_nI ha, ix_nI hb] at this
  exact this
theorem six {k : Nat} (h : k < 6) : k = 0 ∨ k = 1 ∨ k = 2 ∨ k = 3 ∨ k = 4 ∨ k = 5 := by omega
theorem huS_no {r : RT} {j : Nat} (h : hd r j 3 = -9) : huS r j = false := by
  unfold huS
  rw [if_pos (by rw [h]; decide)]
theorem huK_eq {r : RT} {N j : Nat} (h : Ok r N) (hj : j < nH r) (hn : ¬ hd r j 3 = -9) : huK (ix (hd r j 0)) (hd r j 4) (r 5) (r 4) = huS r j := by
  have hh := h.head hj
  have h3 : ¬ hd r j 3 < 0 := by
    rcases hh.2.2.2.2.2.2.1 with q | q
    · exact absurd q hn
    · have := q.1; grind
  have h4 : 0 ≤ hd r j 4 := hh.2.2.2.2.2.2.2.1
  obtain ⟨e, h6⟩ := ix5 hh.1 hh.2.1
  unfold huS
  rw [if_neg h3]
  generalize hk : ix (hd r j 0) = k at e h6
  rw [e]
  rcases six h6 with rfl | rfl | rfl | rfl | rfl | rfl
  · rfl
  · show decide (0 ≤ hd r j 4) = _; rw [decide_eq_true h4]; rfl
  · rfl
  · rfl
  · rfl
  · show (decide (r 4 - r 4 / 2 * 2 = 0) && decide (0 ≤ hd r j 4)) = _; rw [decide_eq_true h4, Bool.and_true]; rfl
theorem dbl_half {x : Int32} (h0 : 0 ≤ x) (h9 : x ≤ 9) : (2 * x) / 2 = x := by
  obtain ⟨e, h⟩ := le_ix (x := x) (n := 9) (by omega) h0 h9
  generalize ix x = n at e h
  subst e
  rcases (show n = 0 ∨ n = 1 ∨ n = 2 ∨ n = 3 ∨ n = 4 ∨ n = 5 ∨ n = 6 ∨ n = 7 ∨ n = 8 ∨ n = 9 by omega) with rfl | rfl | rfl | rfl | rfl | rfl | rfl | rfl | rfl | rfl <;> decide
theorem baK_eq {r : RT} {N j : Nat} (h : Ok r N) (hj : j < nH r) : baK (ix (hd r j 0)) (hd r j 2) = baS r j := by
  have hh := h.head hj
  obtain ⟨e, h6⟩ := ix5 hh.1 hh.2.1
  have h2 := dbl_half hh.2.2.2.2.1 hh.2.2.2.2.2.1
  unfold baS
  generalize hk : ix (hd r j 0) = k at e h6
  rw [e]
  rcases six h6 with rfl | rfl | rfl | rfl | rfl | rfl
  · rfl
  · rfl
  · rfl
  · rfl
  · show (2 * hd r j 2) / 2 + 3 = _; rw [h2]; rfl
  · rfl
theorem frK_eq {r : RT} {i : Nat} (h : OkS r i) : frK (ix (so r i 0)) (so r i 1) (so r i 2) = frS r i := by
  obtain ⟨e, h6⟩ := ix5 h.1 h.2.1
  unfold frS
  generalize hk : ix (so r i 0) = k at e h6
  rw [e]
  rcases six h6 with rfl | rfl | rfl | rfl | rfl | rfl <;> rfl
theorem par_nI {n : Nat} (h : n < 2 ^ 30) : nI n - nI n / 2 * 2 = nI (n % 2) := by
  have h2 : nI n / 2 = nI (n / 2) := pk_div (a := n) (d := 2) (by omega) (by decide) (by decide)
  rw [h2, show nI (n / 2) * 2 = nI (n / 2 * 2) from pk_mul _ _, pk_sub (by omega)]
  congr 1
  omega
theorem faK_eq {r : RT} {i : Nat} (hs : OkS r i) {T : Nat} (hT : r 4 = nI T) (hN : T < 2 ^ 30) : faK (ix (so r i 0)) (r 4) = faS r i := by
  obtain ⟨e, h6⟩ := ix5 hs.1 hs.2.1
  have h4 : r 4 - r 4 / 2 * 2 = nI (T % 2) := by rw [hT]; exact par_nI (by omega)
  unfold faS
  generalize hk : ix (so r i 0) = k at e h6
  rw [e]
  rcases six h6 with rfl | rfl | rfl | rfl | rfl | rfl
  · rfl
  · rfl
  · rfl
  · rfl
  · rfl
  · show (if r 4 - r 4 / 2 * 2 = 0 then (1 : Int32) else 0) = (if r 4 - r 4 / 2 * 2 = 1 then 0 else 1)
    rw [h4]
    rcases Nat.mod_two_eq_zero_or_one T with q | q <;> rw [q] <;> rfl
theorem SK_4 {r : RT} {v : Int32} : SK r (upd r 4 v) := ⟨fun q hq => upd_ne _ _ (by omega), fun j hj => upd_ne _ _ (by omega)⟩
/-- what of a row stands all through an hour -/
def OkX (r : RT) : Prop := (r 0 = nI (nD r) ∧ nD r ≤ 8) ∧ (r 2 = nI (nS r) ∧ nS r ≤ 5) ∧ (r 3 = nI (nH r) ∧ nH r ≤ 6) ∧ ∀ i, i < nS r → OkS r i
theorem Ok.X {r : RT} {N : Nat} (h : Ok r N) : OkX r := ⟨⟨h.hr0, h.d8⟩, ⟨h.hr2, h.s5⟩, ⟨h.hr3, h.h6⟩, fun _ hi => h.song hi⟩
theorem OkX.song {r : RT} (h : OkX r) {i : Nat} (hi : i < nS r) : OkS r i := h.2.2.2 i hi
theorem OkX.ix {r : RT} (h : OkX r) {v : Int32} (h0 : 0 ≤ v) (h1 : v < r 2) : v = nI (_root_.Jvm.Pilot.@@N@@.ix v) ∧ _root_.Jvm.Pilot.@@N@@.ix v < nS r := by
  rw [h.2.1.1] at h1
  exact ix_of h0 h1 (by have := h.2.1.2; omega)
theorem OkX.lo {r r' : RT} (h : OkX r) (hq : ∀ q, q < 37 → r' q = r q) : OkX r' := by
  have n0 : nD r' = nD r := by unfold nD; rw [hq 0 (by omega)]
  have n2 : nS r' = nS r := nS_eq (hq 2 (by omega))
  have n3 : nH r' = nH r := nH_eq (hq 3 (by omega))
  refine ⟨⟨by rw [n0, hq 0 (by omega)]; exact h.1.1, by rw [n0]; exact h.1.2⟩, ⟨by rw [n2, hq 2 (by omega)]; exact h.2.1.1, by rw [n2]; exact h.2.1.2⟩, ⟨by rw [n3, hq 3 (by omega)]; exact h.2.2.1.1, by rw [n3]; exact h.2.2.1.2⟩, fun i hi => ?_⟩
  rw [n2] at hi
  have h5 := h.2.1.2
  have hs := h.song hi
  unfold OkS so at *
  rw [hq _ (by omega), hq _ (by omega), hq _ (by omega)]
  exact hs
