/-! LAWS OF THE PLAIN WORDS (2): the model's columns in an hour -/
set_option maxRecDepth 100000
theorem upd_ne (f : RT) {k q : Nat} (v : Int32) (h : q ≠ k) : upd f k v q = f q := by simp [upd, h]
theorem geS_off {r : RT} {j q : Nat} {v : Int32} (h : q < 37 + 6 * j + 3 ∨ 37 + 6 * j + 4 < q) : geS r j v q = r q := by
  unfold geS
  rw [upd_ne _ _ (by omega), upd_ne _ _ (by omega)]
theorem waS_off {r : RT} {j q : Nat} (h : q < 37 + 6 * j + 3 ∨ 37 + 6 * j + 4 < q) : waS r j q = r q := by
  unfold waS
  by_cases c1 : hd r j 3 < 0
  · rw [if_pos c1]
  · rw [if_neg c1]
    by_cases c2 : (if 60 < wvS r j then 60 else wvS r j) ≤ 0
    · rw [if_pos c2]; exact geS_off h
    · rw [if_neg c2]; exact upd_ne _ _ (by omega)
theorem guS_off {r : RT} {j q : Nat} (h : q ≠ 37 + 6 * j + 5) : guS r j q = r q := by
  unfold guS
  split
  · exact upd_ne _ _ h
  · rfl
theorem stS_off {r0 r : RT} {j q : Nat} (h : q < 37 + 6 * j + 3 ∨ 37 + 6 * j + 5 < q) : stS r0 r j q = r q := by
  unfold stS
  rw [guS_off (by omega)]
  split
  · exact geS_off (by omega)
  · exact waS_off (by omega)
theorem hoL_off {r : RT} : ∀ {k q : Nat}, q < 37 ∨ 37 + 6 * k ≤ q → hoL r k q = r q
  | 0, _, _ => rfl
  | k + 1, q, h => by
    show stS r (hoL r k) k q = r q
    rw [stS_off (by omega), hoL_off (by omega)]
/-- the heads that hum, as bits -/
def huB (r : RT) : Nat → Int32
  | 0 => 0
  | k + 1 => huB r k ||| (if huS r k = true then 1 <<< (nI k &&& 31) else 0)
theorem huB_bt {r : RT} : ∀ {n : Nat}, n ≤ 32 → ∀ o, o < 32 → bt (huB r n) o = (decide (o < n) && huS r o)
  | 0, _, o, _ => by rw [show huB r 0 = 0 from rfl, b_0, decide_eq_false (by omega)]; rfl
  | n + 1, hn, o, ho => by
    have ih := huB_bt (r := r) (n := n) (by omega) o ho
    show bt (huB r n ||| (if huS r n = true then 1 <<< (nI n &&& 31) else 0)) o = _
    rw [b_or, ih]
    by_cases e : o = n
    · subst e
      rw [decide_eq_false (by omega), decide_eq_true (show o < o + 1 by omega)]
      cases q : huS r o with
      | true => rw [if_pos rfl, b_pow ho ho]; simp
      | false => rw [if_neg (by decide), b_0]; rfl
    · have h2 : bt (if huS r n = true then 1 <<< (nI n &&& 31) else 0) o = false := by
        split
        · rw [b_pow (by omega) ho, decide_eq_false e]
        · exact b_0 o
      rw [h2, Bool.or_false]
      by_cases h3 : o < n
      · rw [decide_eq_true h3, decide_eq_true (show o < n + 1 by omega)]
      · rw [decide_eq_false h3, decide_eq_false (show ¬ o < n + 1 by omega)]
theorem huB_bit {r : RT} {n o : Nat} (hn : n ≤ 6) (ho : o < n) : (huB r n >>> (nI o &&& 31)) &&& 1 = 0 ↔ huS r o = false := by
  rw [b_bit0 _ (by omega), huB_bt (by omega) o (by omega), decide_eq_true ho, Bool.true_and]
/-- one column below k, another from k on -/
def tk (k : Nat) (f g : RT) : RT := fun j => if j < k then f j else g j
theorem tk_lt {k j : Nat} {f g : RT} (h : j < k) : tk k f g j = f j := if_pos h
theorem tk_0 (f g : RT) : tk 0 f g = g := by funext j; simp [tk]
theorem tk_succ (k : Nat) (f g : RT) : tk (k + 1) f g = upd (tk k f g) k (f k) := by
  funext j
  by_cases h : j = k
  · subst h; simp [tk, upd]
  · by_cases h2 : j < k
    · simp [tk, upd, h, h2, show j < k + 1 by omega]
    · simp [tk, upd, h, h2, show ¬ j < k + 1 by omega]
def go2 (B : BT) (k : Nat) : BT := upc (upc (upc B 6 (tk k (heS (B 2)) (B 6))) 7 (tk k (byS (B 2)) (B 7))) 10 (tk k (B 9) (B 10))
theorem go2_0 (B : BT) : go2 B 0 = B := by
  unfold go2
  rw [tk_0, tk_0, tk_0, upc_self, upc_self, upc_self]
theorem go2_step (B : BT) (k : Nat) : go2 B (k + 1) = up2 (heE (go2 B k) k) 10 k (B 9 k) := by
  funext c
  by_cases h6 : c = 6
  · subst h6; exact tk_succ _ _ _
  · by_cases h7 : c = 7
    · subst h7; exact tk_succ _ _ _
    · by_cases h10 : c = 10
      · subst h10; exact tk_succ _ _ _
      · simp [go2, up2, upc, heE, h6, h7, h10]
def go3 (B : BT) (k : Nat) : BT := upc (upc (upc (go2 B (nH (B 2))) 2 (hoL (B 2) k)) 8 (fun j => if j < k ∧ 0 ≤ heS (B 2) j then byS (B 2) j else B 8 j)) 9 (fun j => if j < k ∧ 0 ≤ heS (B 2) j then B 9 (ix (byS (B 2) j)) else B 9 j)
theorem go3_c2 (B : BT) (k : Nat) : go3 B k 2 = hoL (B 2) k := by simp [go3, upc]
theorem go3_c8 (B : BT) (k : Nat) : go3 B k 8 = (fun j => if j < k ∧ 0 ≤ heS (B 2) j then byS (B 2) j else B 8 j) := by simp [go3, upc]
theorem go3_c9 (B : BT) (k : Nat) : go3 B k 9 = (fun j => if j < k ∧ 0 ≤ heS (B 2) j then B 9 (ix (byS (B 2) j)) else B 9 j) := by simp [go3, upc]
theorem go3_cx (B : BT) (k : Nat) {c : Nat} (h2 : c ≠ 2) (h8 : c ≠ 8) (h9 : c ≠ 9) : go3 B k c = go2 B (nH (B 2)) c := by simp [go3, upc, h2, h8, h9]
theorem go3_0 (B : BT) : go3 B 0 = go2 B (nH (B 2)) := by
  funext c
  by_cases h2 : c = 2
  · subst h2; rw [go3_c2]; simp [go2, upc, hoL]
  · by_cases h8 : c = 8
    · subst h8; rw [go3_c8]; simp [go2, upc]
    · by_cases h9 : c = 9
      · subst h9; rw [go3_c9]; simp [go2, upc]
      · exact go3_cx B 0 h2 h8 h9
theorem fn_step {k : Nat} {C : Nat → Prop} [∀ j, Decidable (C j)] {f g : RT} (h : C k) : (fun j => if j < k + 1 ∧ C j then f j else g j) = upd (fun j => if j < k ∧ C j then f j else g j) k (f k) := by
  funext j
  unfold upd
  by_cases e : j = k
  · subst e; simp [h]
  · rw [if_neg e]
    by_cases h2 : j < k
    · simp [h2, show j < k + 1 by omega]
    · simp [h2, show ¬ j < k + 1 by omega]
theorem fn_skip {k : Nat} {C : Nat → Prop} [∀ j, Decidable (C j)] {f g : RT} (h : ¬ C k) : (fun j => if j < k + 1 ∧ C j then f j else g j) = (fun j => if j < k ∧ C j then f j else g j) := by
  funext j
  by_cases e : j = k
  · subst e; simp [h]
  · by_cases h2 : j < k
    · simp [h2, show j < k + 1 by omega]
    · simp [h2, show ¬ j < k + 1 by omega]
/-- the columns behind one head's hour, the row given -/
theorem go3_got {B : BT} {k : Nat} (h : 0 ≤ heS (B 2) k) (r1 : RT) : go3 B (k + 1) = upc (up2 (up2 (upc (go3 B k) 2 r1) 8 k (byS (B 2) k)) 9 k (B 9 (ix (byS (B 2) k)))) 2 (hoL (B 2) (k + 1)) := by
  funext c
  by_cases h2 : c = 2
  · subst h2; rw [go3_c2, upc_same]
  · rw [upc_ne _ _ h2]
    by_cases h8 : c = 8
    · subst h8
      rw [go3_c8, up2_ne _ _ _ (by decide), up2_same, upc_ne _ _ (by decide), go3_c8]
      exact fn_step (C := fun j => 0 ≤ heS (B 2) j) (f := byS (B 2)) (g := B 8) h
    · by_cases h9 : c = 9
      · subst h9
        rw [go3_c9, up2_same, up2_ne _ _ _ (by decide), upc_ne _ _ (by decide), go3_c9]
        exact fn_step (C := fun j => 0 ≤ heS (B 2) j) (f := fun j => B 9 (ix (byS (B 2) j))) (g := B 9) h
      · rw [go3_cx B _ h2 h8 h9, up2_ne _ _ _ h9, up2_ne _ _ _ h8, upc_ne _ _ h2, go3_cx B _ h2 h8 h9]
theorem go3_not {B : BT} {k : Nat} (h : ¬ 0 ≤ heS (B 2) k) (r1 : RT) : go3 B (k + 1) = upc (upc (go3 B k) 2 r1) 2 (hoL (B 2) (k + 1)) := by
  funext c
  by_cases h2 : c = 2
  · subst h2; rw [go3_c2, upc_same]
  · rw [upc_ne _ _ h2, upc_ne _ _ h2]
    by_cases h8 : c = 8
    · subst h8; rw [go3_c8, go3_c8]; exact fn_skip (C := fun j => 0 ≤ heS (B 2) j) (f := byS (B 2)) (g := B 8) h
    · by_cases h9 : c = 9
      · subst h9; rw [go3_c9, go3_c9]; exact fn_skip (C := fun j => 0 ≤ heS (B 2) j) (f := fun j => B 9 (ix (byS (B 2) j))) (g := B 9) h
      · rw [go3_cx B _ h2 h8 h9, go3_cx B _ h2 h8 h9]
def goE (B : BT) : BT := upc (go3 B (nH (B 2))) 2 (hoS (B 2))
theorem hoL_got {r : RT} {k : Nat} (h : 0 ≤ heS r k) : hoL r (k + 1) = guS (geS (hoL r k) k (heS r k)) k := by
  show stS r (hoL r k) k = _
  unfold stS
  rw [if_pos h]
theorem hoL_not {r : RT} {k : Nat} (h : ¬ 0 ≤ heS r k) : hoL r (k + 1) = guS (waS (hoL r k) k) k := by
  show stS r (hoL r k) k = _
  unfold stS
  rw [if_neg h]
theorem go3_g1 {B : BT} {k : Nat} (h : 0 ≤ heS (B 2) k) (hg : 0 < hd (geS (hoL (B 2) k) k (heS (B 2) k)) k 5) : go3 B (k + 1) = up2 (up2 (up2 (upc (go3 B k) 2 (geS (hoL (B 2) k) k (heS (B 2) k))) 8 k (byS (B 2) k)) 9 k (B 9 (ix (byS (B 2) k)))) 2 (37 + 6 * k + 5) (hd (geS (hoL (B 2) k) k (heS (B 2) k)) k 5 - 1) := by
  rw [go3_got h (geS (hoL (B 2) k) k (heS (B 2) k)), hoL_got h, up2_upc _ 2, up2_ne _ _ _ (by decide), up2_ne _ _ _ (by decide), upc_same]
  unfold guS
  rw [if_pos hg]
theorem go3_g0 {B : BT} {k : Nat} (h : 0 ≤ heS (B 2) k) (hg : ¬ 0 < hd (geS (hoL (B 2) k) k (heS (B 2) k)) k 5) : go3 B (k + 1) = up2 (up2 (upc (go3 B k) 2 (geS (hoL (B 2) k) k (heS (B 2) k))) 8 k (byS (B 2) k)) 9 k (B 9 (ix (byS (B 2) k))) := by
  rw [go3_got h (geS (hoL (B 2) k) k (heS (B 2) k)), hoL_got h]
  unfold guS
  rw [if_neg hg]
  funext c
  by_cases h2 : c = 2
  · subst h2; rw [upc_same, up2_ne _ _ _ (by decide), up2_ne _ _ _ (by decide), upc_same]
  · rw [upc_ne _ _ h2]
theorem go3_w1 {B : BT} {k : Nat} (h : ¬ 0 ≤ heS (B 2) k) (hg : 0 < hd (waS (hoL (B 2) k) k) k 5) : go3 B (k + 1) = up2 (upc (go3 B k) 2 (waS (hoL (B 2) k) k)) 2 (37 + 6 * k + 5) (hd (waS (hoL (B 2) k) k) k 5 - 1) := by
  rw [go3_not h (waS (hoL (B 2) k) k), hoL_not h, up2_upc, upc_same]
  unfold guS
  rw [if_pos hg]
theorem go3_w0 {B : BT} {k : Nat} (h : ¬ 0 ≤ heS (B 2) k) (hg : ¬ 0 < hd (waS (hoL (B 2) k) k) k 5) : go3 B (k + 1) = upc (go3 B k) 2 (waS (hoL (B 2) k) k) := by
  rw [go3_not h (waS (hoL (B 2) k) k), hoL_not h, upc_upc]
  unfold guS
  rw [if_neg hg]
