/-! THE READER's PLAIN WORDS: a statement at a place of the tape; all statements; what they make of a row -/
set_option maxRecDepth 100000
def sgS (tp : RT) (n p : Nat) : Int32 := if p < n then tp p else -1
def isD (tp : RT) (n p : Nat) : Bool := decide (0 ≤ sgS tp n p - 48 ∧ sgS tp n p - 48 < 10)
def dgS (tp : RT) (n p : Nat) : Int32 := sgS tp n p - 48
def soO (c : Int32) : Int32 := if c = 115 then 0 else if c = 108 then 1 else if c = 113 then 2 else if c = 99 then 3 else if c = 106 then 4 else if c = 104 then 5 else -9
def heO (c : Int32) : Int32 := if c = 104 then 0 else if c = 119 then 1 else if c = 100 then 2 else if c = 116 then 3 else if c = 98 then 4 else if c = 121 then 5 else -9
/-- a statement: is it one, where it ends (or fails), what is told -/
abbrev ST : Type := Bool × Nat × Int32 × Int32 × Int32
def noP (p : Nat) : ST := (false, p, 0, 0, 0)
def enP (tp : RT) (n p : Nat) (a b d : Int32) : ST := if sgS tp n p = 59 then (true, p + 1, a, b, d) else noP p
def kdP (tp : RT) (n p : Nat) (k : Int32) : ST := if k < 0 then noP (p + 1) else if isD tp n (p + 2) = true then (if isD tp n (p + 3) = true then enP tp n (p + 4) k (dgS tp n (p + 2)) (dgS tp n (p + 3)) else noP (p + 3)) else noP (p + 2)
def twP (tp : RT) (n p : Nat) : ST := if isD tp n (p + 1) = true then (if isD tp n (p + 2) = true then enP tp n (p + 3) (dgS tp n (p + 1)) (dgS tp n (p + 2)) 0 else noP (p + 2)) else noP (p + 1)
def loP (tp : RT) (n p : Nat) : ST := if isD tp n (p + 1) = true then (if isD tp n (p + 2) = true then enP tp n (p + 3) (10 * dgS tp n (p + 1) + dgS tp n (p + 2)) 0 0 else enP tp n (p + 2) (dgS tp n (p + 1)) 0 0) else noP (p + 1)
def stP (tp : RT) (n p : Nat) : ST := if sgS tp n p = 100 ∨ sgS tp n p = 103 then twP tp n p else if sgS tp n p = 115 then kdP tp n p (soO (sgS tp n (p + 1))) else if sgS tp n p = 104 then kdP tp n p (heO (sgS tp n (p + 1))) else if sgS tp n p = 111 then loP tp n p else noP p
/-- all of them: is each one, how many (or where it fails) -/
def p1S (tp : RT) (n : Nat) : Nat → Nat → Nat → Bool × Nat
  | 0, _, _ => (false, 0)
  | f + 1, p, k => if (stP tp n p).1 = true then (if (stP tp n p).2.1 < n then p1S tp n f (stP tp n p).2.1 (k + 1) else (true, k + 1)) else (false, (stP tp n p).2.1)
/-- what a statement makes of a row -/
def coD (r : RT) (a b : Int32) : Bool × RT := if 5 ≤ a ∨ 5 ≤ b ∨ a = b ∨ r 0 = 8 then (false, r) else (true, upd (upd (upd (upd r (6 + 2 * nD r) a) (6 + 2 * nD r + 1) b) 1 (r 1 ||| (1 <<< (r 0 &&& 31)))) 0 (r 0 + 1))
def coO (r : RT) (k p l : Int32) : Bool × RT := if l < 1 ∨ r 2 = 5 then (false, r) else (true, upd (upd (upd (upd r (22 + 3 * nS r + 0) k) (22 + 3 * nS r + 1) p) (22 + 3 * nS r + 2) l) 2 (r 2 + 1))
def heR (r : RT) (k m q : Int32) : RT := upd (upd (upd (upd (upd (upd r (37 + 6 * nH r + 0) k) (37 + 6 * nH r + 1) m) (37 + 6 * nH r + 2) q) (37 + 6 * nH r + 3) (-9)) (37 + 6 * nH r + 4) 0) (37 + 6 * nH r + 5) 0
def coH (r : RT) (k m q : Int32) : Bool × RT := if 5 ≤ m ∨ r 3 = 6 then (false, r) else (true, upd (heR r k m q) 3 (r 3 + 1))
def coG (r : RT) (a b : Int32) : Bool × RT := if isH r a = true ∧ isS r b = true then (true, geS r (ix a) b) else (false, r)
def coL (r : RT) (a : Int32) : Bool × RT := if a < 1 ∨ 20 < a then (false, r) else (true, upd r 5 a)
def coS (r : RT) (c a b d : Int32) : Bool × RT := if c = 100 then coD r a b else if c = 103 then coG r a b else if c = 104 then coH r a b d else if c = 115 then coO r a b d else coL r a
/-- all of them, one behind the other -/
def p2S (tp : RT) (n : Nat) : Nat → Nat → RT → Bool × Nat × RT
  | 0, _, r => (true, 0, r)
  | f + 1, p, r => if p < n then (if (coS r (sgS tp n p) (stP tp n p).2.2.1 (stP tp n p).2.2.2.1 (stP tp n p).2.2.2.2).1 = true then p2S tp n f (stP tp n p).2.1 (coS r (sgS tp n p) (stP tp n p).2.2.1 (stP tp n p).2.2.2.1 (stP tp n p).2.2.2.2).2 else (false, p, r)) else (true, 0, r)
def offS (B : BT) : OT := if (p1S (B 11) (ix (B 0 1)) 97 0 0).1 = true then (if (p2S (B 11) (ix (B 0 1)) 97 0 (B 2)).1 = true then (nI (p1S (B 11) (ix (B 0 1)) 97 0 0).2, up2 (upc B 2 (p2S (B 11) (ix (B 0 1)) 97 0 (B 2)).2.2) 0 1 0) else (-2000 - nI (p2S (B 11) (ix (B 0 1)) 97 0 (B 2)).2.1, up2 B 0 1 0)) else (-1000 - nI (p1S (B 11) (ix (B 0 1)) 97 0 0).2, up2 B 0 1 0)
/-- the reader's own columns alone have changed -/
def RD (B B1 : BT) : Prop := (∀ c, c ≠ 0 → c ≠ 12 → B1 c = B c) ∧ B1 0 0 = B 0 0 ∧ B1 0 1 = B 0 1 ∧ B1 0 3 = B 0 3
theorem RD.rf (B : BT) : RD B B := ⟨fun _ _ _ => rfl, rfl, rfl, rfl⟩
theorem RD.tr {A B C : BT} (h : RD A B) (g : RD B C) : RD A C := ⟨fun c h0 h1 => (g.1 c h0 h1).trans (h.1 c h0 h1), g.2.1.trans h.2.1, g.2.2.1.trans h.2.2.1, g.2.2.2.trans h.2.2.2⟩
theorem RD.told {B B1 : BT} (h : RD B B1) (k : Nat) (v : Int32) : RD B (up2 B1 12 k v) := ⟨fun c h0 h1 => (up2_ne _ _ _ h1).trans (h.1 c h0 h1), by rw [up2_ne _ _ _ (by decide)]; exact h.2.1, by rw [up2_ne _ _ _ (by decide)]; exact h.2.2.1, by rw [up2_ne _ _ _ (by decide)]; exact h.2.2.2⟩
theorem RD.place {B B1 : BT} (h : RD B B1) (v : Int32) : RD B (up2 B1 0 2 v) := ⟨fun c h0 h1 => (up2_ne _ _ _ h0).trans (h.1 c h0 h1), by rw [up2_same, upd_ne _ _ (by decide)]; exact h.2.1, by rw [up2_same, upd_ne _ _ (by decide)]; exact h.2.2.1, by rw [up2_same, upd_ne _ _ (by decide)]; exact h.2.2.2⟩
theorem up2_self (B : BT) (c k : Nat) : up2 B c k (B c k) = B := by
  funext c' k'
  unfold up2
  by_cases h : c' = c
  · subst h
    rw [if_pos rfl]
    unfold upd
    by_cases h2 : k' = k
    · subst h2; rw [if_pos rfl]
    · rw [if_neg h2]
  · rw [if_neg h]
/-- the value of digits -/
def vL (tp : RT) (n p : Nat) : Nat → Int32
  | 0 => 0
  | j + 1 => 10 * vL tp n p j + sgS tp n (p + j) - 48
def rnB (B : BT) (n p k i : Nat) : BT := up2 (up2 B 12 k (vL (B 11) n p i)) 0 2 (nI (p + i))
theorem rnB_0 {B : BT} {n p k : Nat} (hp : B 0 2 = nI p) : rnB B n p k 0 = up2 B 12 k 0 := by
  unfold rnB
  rw [show nI (p + 0) = (up2 B 12 k (vL (B 11) n p 0)) 0 2 by rw [up2_ne _ _ _ (by decide), hp]; rfl, up2_self]
  rfl
theorem rnB_step (B : BT) (n p k i : Nat) : rnB B n p k (i + 1) = up2 (up2 (rnB B n p k i) 12 k (10 * vL (B 11) n p i + sgS (B 11) n (p + i) - 48)) 0 2 (nI (p + i + 1)) := by
  funext c
  by_cases h0 : c = 0
  · subst h0
    unfold rnB
    rw [up2_same, up2_same, up2_ne _ _ _ (by decide), up2_ne _ _ _ (by decide), up2_same, up2_ne _ _ _ (by decide), upd_upd]
    rfl
  · by_cases h12 : c = 12
    · subst h12
      unfold rnB
      rw [up2_ne _ _ _ (by decide), up2_same, up2_ne _ _ _ (by decide), up2_same, up2_ne _ _ _ (by decide), up2_same, upd_upd]
      rfl
    · unfold rnB
      rw [up2_ne _ _ _ h0, up2_ne _ _ _ h12, up2_ne _ _ _ h0, up2_ne _ _ _ h12, up2_ne _ _ _ h0, up2_ne _ _ _ h12]
theorem rnB_RD {B B1 : BT} (h : RD B B1) (n p k i : Nat) : RD B (rnB B1 n p k i) := (h.told k _).place _
theorem rnB_p (B : BT) (n p k i : Nat) : rnB B n p k i 0 2 = nI (p + i) := by unfold rnB; rw [up2_same, upd_self]
theorem rnB_t (B : BT) (n p k i : Nat) : rnB B n p k i 12 k = vL (B 11) n p i := by unfold rnB; rw [up2_ne _ _ _ (by decide), up2_same, upd_self]
theorem rnB_o (B : BT) (n p k i : Nat) {j : Nat} (h : j ≠ k) : rnB B n p k i 12 j = B 12 j := by unfold rnB; rw [up2_ne _ _ _ (by decide), up2_same, upd_ne _ _ h]
/-- how a number reads: at most mo digits -/
def RN (tp : RT) (n p mo i : Nat) : Prop := i ≤ mo ∧ (∀ q, q < i → isD tp n (p + q) = true) ∧ (i = mo ∨ isD tp n (p + i) = false)
theorem RN1 {tp : RT} {n p i : Nat} (h : RN tp n p 1 i) : (i = 0 ∧ isD tp n p = false) ∨ (i = 1 ∧ isD tp n p = true) := by
  obtain ⟨h1, h2, h3⟩ := h
  have : i = 0 ∨ i = 1 := by omega
  rcases this with rfl | rfl
  · rcases h3 with h3 | h3
    · omega
    · exact Or.inl ⟨rfl, h3⟩
  · exact Or.inr ⟨rfl, h2 0 (by omega)⟩
theorem RN2 {tp : RT} {n p i : Nat} (h : RN tp n p 2 i) : (i = 0 ∧ isD tp n p = false) ∨ (i = 1 ∧ isD tp n p = true ∧ isD tp n (p + 1) = false) ∨ (i = 2 ∧ isD tp n p = true ∧ isD tp n (p + 1) = true) := by
  obtain ⟨h1, h2, h3⟩ := h
  have : i = 0 ∨ i = 1 ∨ i = 2 := by omega
  rcases this with rfl | rfl | rfl
  · rcases h3 with h3 | h3
    · omega
    · exact Or.inl ⟨rfl, h3⟩
  · rcases h3 with h3 | h3
    · omega
    · exact Or.inr (Or.inl ⟨rfl, h2 0 (by omega), h3⟩)
  · exact Or.inr (Or.inr ⟨rfl, h2 0 (by omega), h2 1 (by omega)⟩)
theorem vL1 (tp : RT) (n p : Nat) : vL tp n p 1 = dgS tp n p := by
  show 10 * 0 + sgS tp n (p + 0) - 48 = sgS tp n p - 48
  rw [Nat.add_zero]; grind
theorem vL2 (tp : RT) (n p : Nat) : vL tp n p 2 = 10 * dgS tp n p + dgS tp n (p + 1) := by
  show 10 * (10 * 0 + sgS tp n (p + 0) - 48) + sgS tp n (p + 1) - 48 = 10 * (sgS tp n p - 48) + (sgS tp n (p + 1) - 48)
  rw [Nat.add_zero]; grind
/-- a statement goes on, not far -/
def GoP (p : Nat) (s : ST) : Prop := (s.1 = true → p < s.2.1) ∧ s.2.1 ≤ p + 5
theorem noP_go {p q : Nat} (h : q ≤ p + 5) : GoP p (noP q) := ⟨(fun e => by cases e), h⟩
theorem enP_go {tp : RT} {n p q : Nat} {a b d : Int32} (h1 : p ≤ q) (h : q + 1 ≤ p + 5) : GoP p (enP tp n q a b d) := by
  unfold enP
  split
  · exact ⟨fun _ => by show p < q + 1; omega, h⟩
  · exact noP_go (by omega)
theorem stP_go (tp : RT) (n p : Nat) : GoP p (stP tp n p) := by
  unfold stP twP kdP loP
  repeat' split
  all_goals first | exact noP_go (by omega) | exact enP_go (by omega) (by omega)
theorem isD_bd {tp : RT} {n p : Nat} (h : isD tp n p = true) : 0 ≤ dgS tp n p ∧ dgS tp n p ≤ 9 := by
  have h := of_decide_eq_true h
  unfold dgS
  grind
/-- told as it must be -/
def TdOk (c a b d : Int32) : Prop := (c = 100 → 0 ≤ a ∧ a ≤ 9 ∧ 0 ≤ b ∧ b ≤ 9) ∧ (c = 115 → 0 ≤ a ∧ a ≤ 5 ∧ 0 ≤ b ∧ b ≤ 9 ∧ 0 ≤ d ∧ d ≤ 9) ∧ (c = 104 → 0 ≤ a ∧ a ≤ 5 ∧ 0 ≤ b ∧ b ≤ 9 ∧ 0 ≤ d ∧ d ≤ 9)
theorem soO_bd {c : Int32} (h : ¬ soO c < 0) : 0 ≤ soO c ∧ soO c ≤ 5 := by unfold soO at h ⊢; grind
theorem heO_bd {c : Int32} (h : ¬ heO c < 0) : 0 ≤ heO c ∧ heO c ≤ 5 := by unfold heO at h ⊢; grind
theorem enP_t {tp : RT} {n q : Nat} {a b d : Int32} (h : (enP tp n q a b d).1 = true) : (enP tp n q a b d).2.2 = (a, b, d) := by
  unfold enP at h ⊢
  split at h
  · rename_i c; rw [if_pos c]
  · cases h
theorem kdP_ok {tp : RT} {n p : Nat} {k : Int32} (hk : ¬ k < 0 → 0 ≤ k ∧ k ≤ 5) (h : (kdP tp n p k).1 = true) : (0 ≤ (kdP tp n p k).2.2.1 ∧ (kdP tp n p k).2.2.1 ≤ 5) ∧ (0 ≤ (kdP tp n p k).2.2.2.1 ∧ (kdP tp n p k).2.2.2.1 ≤ 9) ∧ (0 ≤ (kdP tp n p k).2.2.2.2 ∧ (kdP tp n p k).2.2.2.2 ≤ 9) := by
  unfold kdP at h ⊢
  by_cases c1 : k < 0
  · rw [if_pos c1] at h; cases h
  · rw [if_neg c1] at h ⊢
    by_cases c2 : isD tp n (p + 2) = true
    · rw [if_pos c2] at h ⊢
      by_cases c3 : isD tp n (p + 3) = true
      · rw [if_pos c3] at h ⊢
        rw [enP_t h]
        exact ⟨hk c1, isD_bd c2, isD_bd c3⟩
      · rw [if_neg c3] at h; cases h
    · rw [if_neg c2] at h; cases h
theorem stP_ok {tp : RT} {n p : Nat} (h : (stP tp n p).1 = true) : TdOk (sgS tp n p) (stP tp n p).2.2.1 (stP tp n p).2.2.2.1 (stP tp n p).2.2.2.2 := by
  unfold TdOk
  refine ⟨fun e => ?_, fun e => ?_, fun e => ?_⟩
  · unfold stP at h ⊢
    rw [if_pos (Or.inl e)] at h ⊢
    unfold twP at h ⊢
    by_cases c2 : isD tp n (p + 1) = true
    · rw [if_pos c2] at h ⊢
      by_cases c3 : isD tp n (p + 2) = true
      · rw [if_pos c3] at h ⊢
        rw [enP_t h]
        have a := isD_bd c2
        have b := isD_bd c3
        exact ⟨a.1, a.2, b.1, b.2⟩
      · rw [if_neg c3] at h; cases h
    · rw [if_neg c2] at h; cases h
  · unfold stP at h ⊢
    rw [if_neg (by rw [e]; decide), if_pos e] at h ⊢
    obtain ⟨a, b, c⟩ := kdP_ok soO_bd h
    exact ⟨a.1, a.2, b.1, b.2, c.1, c.2⟩
  · unfold stP at h ⊢
    rw [if_neg (by rw [e]; decide), if_neg (by rw [e]; decide), if_pos e] at h ⊢
    obtain ⟨a, b, c⟩ := kdP_ok heO_bd h
    exact ⟨a.1, a.2, b.1, b.2, c.1, c.2⟩
/-- a row with one place of the first six changed, or a door's rooms: heads and songs stay -/
theorem Ok_coD {r : RT} {N : Nat} {a b : Int32} (h : Ok r N) : Ok (coD r a b).2 N := by
  unfold coD
  split
  · exact h
  · rename_i c
    have hn8 : ¬ r 0 = 8 := fun q => c (Or.inr (Or.inr (Or.inr q)))
    have d8 := h.d8
    have hd7 : nD r < 8 := by
      rcases Nat.lt_or_ge (nD r) 8 with q | q
      · exact q
      · exact absurd (by rw [h.hr0, show nD r = 8 by omega]; rfl) hn8
    show Ok (upd (upd (upd (upd r (6 + 2 * nD r) a) (6 + 2 * nD r + 1) b) 1 (r 1 ||| (1 <<< (r 0 &&& 31)))) 0 (r 0 + 1)) N
    generalize hr' : upd (upd (upd (upd r (6 + 2 * nD r) a) (6 + 2 * nD r + 1) b) 1 (r 1 ||| (1 <<< (r 0 &&& 31)))) 0 (r 0 + 1) = r'
    have e : ∀ q, 2 ≤ q → (q < 6 ∨ 22 ≤ q) → r' q = r q := by
      intro q h1 h2
      rw [← hr', upd_ne _ _ (by omega), upd_ne _ _ (by omega), upd_ne _ _ (by omega), upd_ne _ _ (by omega)]
    have e0 : r' 0 = nI (nD r + 1) := by rw [← hr', upd_self, h.hr0]; exact nI_1 _
    have hop := h.op
    have hp2 : (2 : Nat) ^ nD r ≤ 128 := Nat.pow_le_pow_right (n := 2) (by omega) (show nD r ≤ 7 by omega)
    have e1 : r' 1 = nI (ix (r 1) ||| 2 ^ nD r) := by
      rw [← hr', upd_ne _ _ (by omega), upd_self, h.hr0, nI_pow (by omega), ← nI_orN, ← hop.1]
    have hor : ix (r 1) ||| 2 ^ nD r < 2 ^ (nD r + 1) := Nat.or_lt_two_pow (Nat.lt_of_lt_of_le hop.2 (Nat.pow_le_pow_right (by omega) (by omega))) (Nat.pow_lt_pow_right (by omega) (by omega))
    have hp3 : (2 : Nat) ^ (nD r + 1) ≤ 256 := Nat.pow_le_pow_right (n := 2) (by omega) (show nD r + 1 ≤ 8 by omega)
    have n0 : nD r' = nD r + 1 := by
      have : nD r' = ix (nI (nD r + 1)) := by show ix (r' 0) = _; rw [e0]
      rw [this, ix_nI (by omega)]
    have n2 : nS r' = nS r := nS_eq (e 2 (by omega) (by omega))
    have n3 : nH r' = nH r := nH_eq (e 3 (by omega) (by omega))
    have n4 : nT r' = nT r := by unfold nT; rw [e 4 (by omega) (by omega)]
    refine ⟨⟨by rw [n0, e0], by rw [n0]; omega⟩, ⟨by rw [n2, e 2 (by omega) (by omega)]; exact h.hr2, by rw [n2]; exact h.s5⟩, ⟨by rw [n3, e 3 (by omega) (by omega)]; exact h.hr3, by rw [n3]; exact h.h6⟩, ⟨by rw [n4, e 4 (by omega) (by omega)]; exact h.hr4, by rw [n4]; exact h.tN⟩, by rw [e 5 (by omega) (by omega)]; exact h.loud, by rw [n0, e1, ix_nI (by omega)]; exact ⟨rfl, hor⟩, ?_, ?_⟩
    · intro i hi
      rw [n2] at hi
      have hs := h.song hi
      unfold OkS so
      rw [e _ (by omega) (by omega), e _ (by omega) (by omega), e _ (by omega) (by omega)]
      exact hs
    · intro j hj
      rw [n3] at hj
      have hs := h.head hj
      unfold OkH hd
      rw [e _ (by omega) (by omega), e _ (by omega) (by omega), e _ (by omega) (by omega), e _ (by omega) (by omega), e _ (by omega) (by omega), e _ (by omega) (by omega), e _ (by omega) (by omega)]
      exact hs
theorem Ok_coG {r : RT} {N : Nat} {a b : Int32} (h : Ok r N) : Ok (coG r a b).2 N := by
  unfold coG
  split
  · rename_i c
    have hb := of_decide_eq_true c.2
    exact Ok_geS h (isH_ix h c.1).2 (Or.inr hb)
  · exact h
theorem Ok_coL {r : RT} {N : Nat} {a : Int32} (h : Ok r N) : Ok (coL r a).2 N := by
  unfold coL
  split
  · exact h
  · exact Ok_loud h (by grind) (by grind)
theorem Ok_coO {r : RT} {N : Nat} {k p l : Int32} (h : Ok r N) (hk : 0 ≤ k ∧ k ≤ 5) (hp : 0 ≤ p ∧ p ≤ 9) (hl : l ≤ 9) : Ok (coO r k p l).2 N := by
  unfold coO
  split
  · exact h
  · rename_i c
    have s5 := h.s5
    have hs : nS r < 5 := by
      rcases Nat.lt_or_ge (nS r) 5 with q | q
      · exact q
      · exact absurd (Or.inr (by rw [h.hr2, show nS r = 5 by omega]; rfl)) c
    show Ok (upd (upd (upd (upd r (22 + 3 * nS r + 0) k) (22 + 3 * nS r + 1) p) (22 + 3 * nS r + 2) l) 2 (r 2 + 1)) N
    generalize hr' : upd (upd (upd (upd r (22 + 3 * nS r + 0) k) (22 + 3 * nS r + 1) p) (22 + 3 * nS r + 2) l) 2 (r 2 + 1) = r'
    have e : ∀ q, q ≠ 2 → (q < 22 + 3 * nS r ∨ 22 + 3 * nS r + 2 < q) → r' q = r q := by
      intro q h2 hq
      rw [← hr', upd_ne _ _ h2, upd_ne _ _ (by omega), upd_ne _ _ (by omega), upd_ne _ _ (by omega)]
    have e2 : r' 2 = nI (nS r + 1) := by rw [← hr', upd_self, h.hr2]; exact nI_1 _
    have n0 : nD r' = nD r := by unfold nD; rw [e 0 (by omega) (by omega)]
    have n2 : nS r' = nS r + 1 := by
      have : nS r' = ix (nI (nS r + 1)) := by show ix (r' 2) = _; rw [e2]
      rw [this, ix_nI (by omega)]
    have n3 : nH r' = nH r := nH_eq (e 3 (by omega) (by omega))
    have n4 : nT r' = nT r := by unfold nT; rw [e 4 (by omega) (by omega)]
    refine ⟨⟨by rw [n0, e 0 (by omega) (by omega)]; exact h.hr0, by rw [n0]; exact h.d8⟩, ⟨by rw [n2, e2], by rw [n2]; omega⟩, ⟨by rw [n3, e 3 (by omega) (by omega)]; exact h.hr3, by rw [n3]; exact h.h6⟩, ⟨by rw [n4, e 4 (by omega) (by omega)]; exact h.hr4, by rw [n4]; exact h.tN⟩, by rw [e 5 (by omega) (by omega)]; exact h.loud, by rw [n0, e 1 (by omega) (by omega)]; exact h.op, ?_, ?_⟩
    · intro i hi
      rw [n2] at hi
      by_cases ci : i = nS r
      · subst ci
        have a0 : so r' (nS r) 0 = k := by
          show r' _ = _
          rw [← hr', upd_ne _ _ (by omega), upd_ne _ _ (by omega), upd_ne _ _ (by omega), upd_self]
        have a1 : so r' (nS r) 1 = p := by
          show r' _ = _
          rw [← hr', upd_ne _ _ (by omega), upd_ne _ _ (by omega), upd_self]
        have a2 : so r' (nS r) 2 = l := by
          show r' _ = _
          rw [← hr', upd_ne _ _ (by omega), upd_self]
        unfold OkS
        rw [a0, a1, a2]
        exact ⟨hk.1, hk.2, hp.1, hp.2, by grind, hl⟩
      · have hs2 := h.song (i := i) (by omega)
        unfold OkS so
        rw [e _ (by omega) (by omega), e _ (by omega) (by omega), e _ (by omega) (by omega)]
        exact hs2
    · intro j hj
      rw [n3] at hj
      have hs2 := h.head hj
      unfold OkH hd
      rw [e2, e _ (by omega) (by omega), e _ (by omega) (by omega), e _ (by omega) (by omega), e _ (by omega) (by omega), e _ (by omega) (by omega), e _ (by omega) (by omega)]
      refine ⟨hs2.1, hs2.2.1, hs2.2.2.1, hs2.2.2.2.1, hs2.2.2.2.2.1, hs2.2.2.2.2.2.1, ?_, hs2.2.2.2.2.2.2.2⟩
      rcases hs2.2.2.2.2.2.2.1 with q | q
      · exact Or.inl q
      · refine Or.inr ⟨q.1, ?_⟩
        have h3 := q.2
        rw [h.hr2] at h3
        have := nI_lt (a := nS r) (b := nS r + 1) (by omega) (by omega)
        grind
theorem Ok_coH {r : RT} {N : Nat} {k m q : Int32} (h : Ok r N) (hk : 0 ≤ k ∧ k ≤ 5) (hm : 0 ≤ m) (hq : 0 ≤ q ∧ q ≤ 9) : Ok (coH r k m q).2 N := by
  unfold coH
  split
  · exact h
  · rename_i c
    have h6 := h.h6
    have hs : nH r < 6 := by
      rcases Nat.lt_or_ge (nH r) 6 with z | z
      · exact z
      · exact absurd (Or.inr (by rw [h.hr3, show nH r = 6 by omega]; rfl)) c
    show Ok (upd (heR r k m q) 3 (r 3 + 1)) N
    generalize hr' : upd (heR r k m q) 3 (r 3 + 1) = r'
    have e : ∀ z, z ≠ 3 → (z < 37 + 6 * nH r ∨ 37 + 6 * nH r + 5 < z) → r' z = r z := by
      intro z h2 hz
      rw [← hr', upd_ne _ _ h2]
      unfold heR
      rw [upd_ne _ _ (by omega), upd_ne _ _ (by omega), upd_ne _ _ (by omega), upd_ne _ _ (by omega), upd_ne _ _ (by omega), upd_ne _ _ (by omega)]
    have e3 : r' 3 = nI (nH r + 1) := by rw [← hr', upd_self, h.hr3]; exact nI_1 _
    have n0 : nD r' = nD r := by unfold nD; rw [e 0 (by omega) (by omega)]
    have n2 : nS r' = nS r := nS_eq (e 2 (by omega) (by omega))
    have n3 : nH r' = nH r + 1 := by
      have : nH r' = ix (nI (nH r + 1)) := by show ix (r' 3) = _; rw [e3]
      rw [this, ix_nI (by omega)]
    have n4 : nT r' = nT r := by unfold nT; rw [e 4 (by omega) (by omega)]
    have s5 := h.s5
    refine ⟨⟨by rw [n0, e 0 (by omega) (by omega)]; exact h.hr0, by rw [n0]; exact h.d8⟩, ⟨by rw [n2, e 2 (by omega) (by omega)]; exact h.hr2, by rw [n2]; exact s5⟩, ⟨by rw [n3, e3], by rw [n3]; omega⟩, ⟨by rw [n4, e 4 (by omega) (by omega)]; exact h.hr4, by rw [n4]; exact h.tN⟩, by rw [e 5 (by omega) (by omega)]; exact h.loud, by rw [n0, e 1 (by omega) (by omega)]; exact h.op, ?_, ?_⟩
    · intro i hi
      rw [n2] at hi
      have hs2 := h.song hi
      unfold OkS so
      rw [e _ (by omega) (by omega), e _ (by omega) (by omega), e _ (by omega) (by omega)]
      exact hs2
    · intro j hj
      rw [n3] at hj
      by_cases cj : j = nH r
      · subst cj
        have a : ∀ i v, heR r k m q (37 + 6 * nH r + i) = v → hd r' (nH r) i = v := fun i v hz => by
          show r' _ = _
          rw [← hr', upd_ne _ _ (by omega)]; exact hz
        have b5 : hd r' (nH r) 5 = 0 := a 5 _ (upd_self _ _ _)
        have b4 : hd r' (nH r) 4 = 0 := a 4 _ (by unfold heR; rw [upd_ne _ _ (by omega), upd_self])
        have b3 : hd r' (nH r) 3 = -9 := a 3 _ (by unfold heR; rw [upd_ne _ _ (by omega), upd_ne _ _ (by omega), upd_self])
        have b2 : hd r' (nH r) 2 = q := a 2 _ (by unfold heR; rw [upd_ne _ _ (by omega), upd_ne _ _ (by omega), upd_ne _ _ (by omega), upd_self])
        have b1 : hd r' (nH r) 1 = m := a 1 _ (by unfold heR; rw [upd_ne _ _ (by omega), upd_ne _ _ (by omega), upd_ne _ _ (by omega), upd_ne _ _ (by omega), upd_self])
        have b0 : hd r' (nH r) 0 = k := a 0 _ (by unfold heR; rw [upd_ne _ _ (by omega), upd_ne _ _ (by omega), upd_ne _ _ (by omega), upd_ne _ _ (by omega), upd_ne _ _ (by omega), upd_self])
        unfold OkH
        rw [b0, b1, b2, b3, b4, b5]
        exact ⟨hk.1, hk.2, hm, by grind, hq.1, hq.2, Or.inl rfl, by decide, by decide, by decide, by decide⟩
      · have hs2 := h.head (j := j) (by omega)
        unfold OkH hd
        rw [e _ (by omega) (by omega), e _ (by omega) (by omega), e _ (by omega) (by omega), e _ (by omega) (by omega), e _ (by omega) (by omega), e _ (by omega) (by omega), e _ (by omega) (by omega)]
        exact hs2
theorem Ok_coS {r : RT} {N : Nat} {c a b d : Int32} (h : Ok r N) (ht : TdOk c a b d) : Ok (coS r c a b d).2 N := by
  unfold coS
  obtain ⟨h1, h2, h3⟩ := ht
  split
  · exact Ok_coD h
  · split
    · exact Ok_coG h
    · split
      · rename_i e
        have := h3 e
        exact Ok_coH h ⟨this.1, this.2.1⟩ this.2.2.1 ⟨this.2.2.2.2.1, this.2.2.2.2.2⟩
      · split
        · rename_i e
          have := h2 e
          exact Ok_coO h ⟨this.1, this.2.1⟩ ⟨this.2.2.1, this.2.2.2.1⟩ this.2.2.2.2.2
        · exact Ok_coL h
def rkP (tp : RT) (n p : Nat) (k : Int32) : Bool × Nat := if k < 0 then (false, p) else if isD tp n (p + 1) = true then (if isD tp n (p + 2) = true then (true, p + 3) else (false, p + 2)) else (false, p + 1)
/-- the reader's columns behind a kind and two digits -/
def RK (B B1 : BT) (n p : Nat) (k r : Int32) : Prop := RD B B1 ∧ r = bI (rkP (B 11) n p k).1 ∧ B1 0 2 = nI (rkP (B 11) n p k).2 ∧ ((rkP (B 11) n p k).1 = true → B1 12 0 = k ∧ B1 12 1 = dgS (B 11) n (p + 1) ∧ B1 12 2 = dgS (B 11) n (p + 2))
/-- .. behind a statement -/
def RS (B B1 : BT) (n p : Nat) (r : Int32) : Prop := RD B B1 ∧ r = bI (stP (B 11) n p).1 ∧ B1 0 2 = nI (stP (B 11) n p).2.1 ∧ ((stP (B 11) n p).1 = true → B1 12 0 = (stP (B 11) n p).2.2.1 ∧ (¬ sgS (B 11) n p = 111 → B1 12 1 = (stP (B 11) n p).2.2.2.1) ∧ (sgS (B 11) n p = 115 ∨ sgS (B 11) n p = 104 → B1 12 2 = (stP (B 11) n p).2.2.2.2))
theorem RS_no {B B1 : BT} {n p q : Nat} (e : stP (B 11) n p = noP q) (hR : RD B B1) (hp : B1 0 2 = nI q) : RS B B1 n p (bI false) := by
  unfold RS
  rw [e]
  exact ⟨hR, rfl, hp, fun h => by cases h⟩
theorem RS_yes {B B1 : BT} {n p q : Nat} {a b d : Int32} (e : stP (B 11) n p = (true, q, a, b, d)) (hR : RD B B1) (hp : B1 0 2 = nI q) (h0 : B1 12 0 = a) (h1 : ¬ sgS (B 11) n p = 111 → B1 12 1 = b) (h2 : sgS (B 11) n p = 115 ∨ sgS (B 11) n p = 104 → B1 12 2 = d) : RS B B1 n p (bI true) := by
  unfold RS
  rw [e]
  exact ⟨hR, rfl, hp, fun _ => ⟨h0, h1, h2⟩⟩
theorem coS_told {r : RT} {c a b d a' b' d' : Int32} (ha : a' = a) (hb : ¬ c = 111 → b' = b) (hd : c = 115 ∨ c = 104 → d' = d) (hc : c = 100 ∨ c = 103 ∨ c = 104 ∨ c = 115 ∨ c = 111) : coS r c a' b' d' = coS r c a b d := by
  subst ha
  unfold coS
  rcases hc with rfl | rfl | rfl | rfl | rfl
  · rw [hb (by decide), if_pos rfl, if_pos rfl]
  · rw [hb (by decide), if_neg (show ¬ (103 : Int32) = 100 by decide), if_pos rfl, if_neg (show ¬ (103 : Int32) = 100 by decide), if_pos rfl]
  · rw [hb (by decide), hd (by decide)]
  · rw [hb (by decide), hd (by decide)]
  · rw [if_neg (by decide), if_neg (by decide), if_neg (by decide), if_neg (by decide), if_neg (by decide), if_neg (by decide), if_neg (by decide), if_neg (by decide)]
theorem stP_c {tp : RT} {n p : Nat} (h : (stP tp n p).1 = true) : sgS tp n p = 100 ∨ sgS tp n p = 103 ∨ sgS tp n p = 104 ∨ sgS tp n p = 115 ∨ sgS tp n p = 111 := by
  unfold stP at h
  by_cases c1 : sgS tp n p = 100 ∨ sgS tp n p = 103
  · rcases c1 with c | c
    · exact Or.inl c
    · exact Or.inr (Or.inl c)
  · rw [if_neg c1] at h
    by_cases c2 : sgS tp n p = 115
    · exact Or.inr (Or.inr (Or.inr (Or.inl c2)))
    · rw [if_neg c2] at h
      by_cases c3 : sgS tp n p = 104
      · exact Or.inr (Or.inr (Or.inl c3))
      · rw [if_neg c3] at h
        by_cases c4 : sgS tp n p = 111
        · exact Or.inr (Or.inr (Or.inr (Or.inr c4)))
        · rw [if_neg c4] at h; cases h
theorem kdP_no {tp : RT} {n p : Nat} {k : Int32} (h : (rkP tp n (p + 1) k).1 = false) : kdP tp n p k = noP (rkP tp n (p + 1) k).2 := by
  unfold rkP at h ⊢
  unfold kdP
  by_cases c1 : k < 0
  · rw [if_pos c1, if_pos c1]
  · rw [if_neg c1] at h ⊢
    rw [if_neg c1]
    by_cases c2 : isD tp n (p + 1 + 1) = true
    · rw [if_pos c2] at h ⊢
      rw [if_pos c2]
      by_cases c3 : isD tp n (p + 1 + 2) = true
      · rw [if_pos c3] at h; cases h
      · have d3 : ¬ isD tp n (p + 3) = true := c3
        rw [if_neg c3, if_neg d3]
    · have d2 : ¬ isD tp n (p + 2) = true := c2
      rw [if_neg c2, if_neg d2]
theorem kdP_yes {tp : RT} {n p : Nat} {k : Int32} (h : (rkP tp n (p + 1) k).1 = true) : (rkP tp n (p + 1) k).2 = p + 4 ∧ kdP tp n p k = enP tp n (p + 4) k (dgS tp n (p + 2)) (dgS tp n (p + 3)) := by
  unfold rkP at h ⊢
  unfold kdP
  by_cases c1 : k < 0
  · rw [if_pos c1] at h; cases h
  · rw [if_neg c1] at h ⊢
    rw [if_neg c1]
    by_cases c2 : isD tp n (p + 1 + 1) = true
    · rw [if_pos c2] at h ⊢
      by_cases c3 : isD tp n (p + 1 + 2) = true
      · rw [if_pos c3]
        exact ⟨rfl, by rw [if_pos (show isD tp n (p + 2) = true from c2), if_pos (show isD tp n (p + 3) = true from c3)]⟩
      · rw [if_neg c3] at h; cases h
    · rw [if_neg c2] at h; cases h
theorem enP_yes {tp : RT} {n p : Nat} {a b d : Int32} (h : sgS tp n p = 59) : enP tp n p a b d = (true, p + 1, a, b, d) := if_pos h
theorem enP_no {tp : RT} {n p : Nat} {a b d : Int32} (h : ¬ sgS tp n p = 59) : enP tp n p a b d = noP p := if_neg h
theorem stP_d {tp : RT} {n p : Nat} (h : sgS tp n p = 100 ∨ sgS tp n p = 103) : stP tp n p = twP tp n p := if_pos h
theorem stP_s {tp : RT} {n p : Nat} (h : sgS tp n p = 115) : stP tp n p = kdP tp n p (soO (sgS tp n (p + 1))) := by
  unfold stP
  rw [if_neg (by rw [h]; decide), if_pos h]
theorem stP_h {tp : RT} {n p : Nat} (h : sgS tp n p = 104) : stP tp n p = kdP tp n p (heO (sgS tp n (p + 1))) := by
  unfold stP
  rw [if_neg (by rw [h]; decide), if_neg (by rw [h]; decide), if_pos h]
theorem stP_o {tp : RT} {n p : Nat} (h : sgS tp n p = 111) : stP tp n p = loP tp n p := by
  unfold stP
  rw [if_neg (by rw [h]; decide), if_neg (by rw [h]; decide), if_neg (by rw [h]; decide), if_pos h]
theorem stP_x {tp : RT} {n p : Nat} (h1 : ¬ sgS tp n p = 100) (h2 : ¬ sgS tp n p = 103) (h3 : ¬ sgS tp n p = 104) (h4 : ¬ sgS tp n p = 111) (h5 : ¬ sgS tp n p = 115) : stP tp n p = noP p := by
  unfold stP
  rw [if_neg (by simp [h1, h2]), if_neg h5, if_neg h3, if_neg h4]
/-- a few places in a row taken from another row -/
def tlL (o : Nat) (r t : RT) : Nat → RT
  | 0 => r
  | k + 1 => upd (tlL o r t k) (o + k) (t k)
theorem tlB_step (B : BT) (o : Nat) (r t : RT) (k : Nat) : upc B 2 (tlL o r t (k + 1)) = up2 (upc B 2 (tlL o r t k)) 2 (o + k) (t k) := by
  rw [up2_upc, upc_upc, upc_same]
  rfl
theorem tlL_lo (o : Nat) (r t : RT) (k : Nat) {q : Nat} (h : q < o) : tlL o r t k q = r q := by
  induction k with
  | zero => rfl
  | succ k ih => show upd _ _ _ q = _; rw [upd_ne _ _ (by omega)]; exact ih
theorem co_close {o : Bool × RT} {B B' : BT} {b : Bool} {r' : RT} (e : o = (b, r')) (h : B' = upc B 2 r') : bI b = bI o.1 ∧ B' = upc B 2 o.2 := by
  rw [e]; exact ⟨rfl, h⟩
theorem up2_2 (B : BT) (r : RT) (k : Nat) (v : Int32) : up2 (upc B 2 r) 2 k v = upc B 2 (upd r k v) := by
  rw [up2_upc, upc_upc, upc_same]
/-- behind the first turn: the row kept, a new row -/
def RX (B B1 : BT) (r : RT) : Prop := (∀ c, c ≠ 0 → c ≠ 12 → c ≠ 2 → c ≠ 4 → B1 c = B c) ∧ B1 2 = r ∧ B1 4 = B 2 ∧ B1 0 0 = B 0 0 ∧ B1 0 1 = B 0 1 ∧ B1 0 3 = B 0 3
theorem RX.rd {B B1 B2 : BT} {r : RT} (h : RX B B1 r) (g : RD B1 B2) : RX B B2 r := ⟨fun c a b d e => (g.1 c a b).trans (h.1 c a b d e), (g.1 2 (by decide) (by decide)).trans h.2.1, (g.1 4 (by decide) (by decide)).trans h.2.2.1, g.2.1.trans h.2.2.2.1, g.2.2.1.trans h.2.2.2.2.1, g.2.2.2.trans h.2.2.2.2.2⟩
theorem RX.co {B B1 : BT} {r : RT} (h : RX B B1 r) (r' : RT) : RX B (upc B1 2 r') r' := ⟨fun c a b d e => (upc_ne _ _ d).trans (h.1 c a b d e), upc_same _ _ _, (upc_ne _ _ (by decide)).trans h.2.2.1, by rw [upc_ne _ _ (by decide)]; exact h.2.2.2.1, by rw [upc_ne _ _ (by decide)]; exact h.2.2.2.2.1, by rw [upc_ne _ _ (by decide)]; exact h.2.2.2.2.2⟩
theorem RX.of {B B1 : BT} (h : RD B B1) (v : Int32) : RX B (up2 (upc B1 4 (B1 2)) 0 2 v) (B 2) := by
  have e : ∀ c, c ≠ 0 → up2 (upc B1 4 (B1 2)) 0 2 v c = upc B1 4 (B1 2) c := fun c hc => up2_ne _ _ _ hc
  have e0 : ∀ k, k ≠ 2 → up2 (upc B1 4 (B1 2)) 0 2 v 0 k = B1 0 k := fun k hk => by rw [up2_same, upd_ne _ _ hk, upc_ne _ _ (by decide)]
  refine ⟨fun c a b d f => ?_, ?_, ?_, ?_, ?_, ?_⟩
  · rw [e c a, upc_ne _ _ f]; exact h.1 c a b
  · rw [e 2 (by decide), upc_ne _ _ (by decide)]; exact h.1 2 (by decide) (by decide)
  · rw [e 4 (by decide), upc_same]; exact h.1 2 (by decide) (by decide)
  · rw [e0 0 (by decide)]; exact h.2.1
  · rw [e0 1 (by decide)]; exact h.2.2.1
  · rw [e0 3 (by decide)]; exact h.2.2.2
theorem up0_k (B : BT) (v : Int32) {k : Nat} (h : k ≠ 1) : up2 B 0 1 v 0 k = B 0 k := by rw [up2_same, upd_ne _ _ h]
theorem up0_1 (B : BT) (v : Int32) : up2 B 0 1 v 0 1 = v := by rw [up2_same, upd_self]
theorem PE_up {B B1 : BT} (h1 : B1 1 = B 1) (h2 : B1 2 = B 2) (h3 : B1 3 = B 3) (h4 : B1 11 = B 11) (h5 : B1 13 = B 13) (h6 : B1 0 0 = B 0 0) (h7 : B1 0 3 = B 0 3) (v : Int32) : PE (up2 B 0 1 v) (up2 B1 0 1 v) := by
  refine ⟨?_, ?_, ?_, ?_, ?_, ?_, ?_, ?_⟩
  · rw [up2_ne _ _ _ (by decide), up2_ne _ _ _ (by decide)]; exact h1
  · rw [up2_ne _ _ _ (by decide), up2_ne _ _ _ (by decide)]; exact h2
  · rw [up2_ne _ _ _ (by decide), up2_ne _ _ _ (by decide)]; exact h3
  · rw [up2_ne _ _ _ (by decide), up2_ne _ _ _ (by decide)]; exact h4
  · rw [up2_ne _ _ _ (by decide), up2_ne _ _ _ (by decide)]; exact h5
  · rw [up0_k _ _ (by decide), up0_k _ _ (by decide)]; exact h6
  · rw [up0_1, up0_1]
  · rw [up0_k _ _ (by decide), up0_k _ _ (by decide)]; exact h7
theorem RD.pe {B B1 : BT} (h : RD B B1) : PE (up2 B 0 1 0) (up2 B1 0 1 0) := PE_up (h.1 1 (by decide) (by decide)) (h.1 2 (by decide) (by decide)) (h.1 3 (by decide) (by decide)) (h.1 11 (by decide) (by decide)) (h.1 13 (by decide) (by decide)) h.2.1 h.2.2.2 0
theorem RX.pe {B B1 : BT} {r : RT} (h : RX B B1 r) : PE (up2 (upc B 2 r) 0 1 0) (up2 B1 0 1 0) :=
  PE_up (by rw [upc_ne _ _ (by decide)]; exact h.1 1 (by decide) (by decide) (by decide) (by decide)) (by rw [upc_same]; exact h.2.1) (by rw [upc_ne _ _ (by decide)]; exact h.1 3 (by decide) (by decide) (by decide) (by decide)) (by rw [upc_ne _ _ (by decide)]; exact h.1 11 (by decide) (by decide) (by decide) (by decide)) (by rw [upc_ne _ _ (by decide)]; exact h.1 13 (by decide) (by decide) (by decide) (by decide)) (by rw [upc_ne _ _ (by decide)]; exact h.2.2.2.1) (by rw [upc_ne _ _ (by decide)]; exact h.2.2.2.2.2) 0
theorem RX.back {B B1 : BT} {r : RT} (h : RX B B1 r) : PE (up2 B 0 1 0) (up2 (upc B1 2 (B1 4)) 0 1 0) :=
  PE_up (by rw [upc_ne _ _ (by decide)]; exact h.1 1 (by decide) (by decide) (by decide) (by decide)) (by rw [upc_same]; exact h.2.2.1) (by rw [upc_ne _ _ (by decide)]; exact h.1 3 (by decide) (by decide) (by decide) (by decide)) (by rw [upc_ne _ _ (by decide)]; exact h.1 11 (by decide) (by decide) (by decide) (by decide)) (by rw [upc_ne _ _ (by decide)]; exact h.1 13 (by decide) (by decide) (by decide) (by decide)) (by rw [upc_ne _ _ (by decide)]; exact h.2.2.2.1) (by rw [upc_ne _ _ (by decide)]; exact h.2.2.2.2.2) 0
theorem off_1 {B B1 : BT} {n q : Nat} (hn : n = ix (B 0 1)) (h : p1S (B 11) n 97 0 0 = (false, q)) (hR : RD B B1) : -1000 - nI q = (offS B).1 ∧ PE (offS B).2 (up2 B1 0 1 0) := by
  have e : offS B = (-1000 - nI q, up2 B 0 1 0) := by unfold offS; rw [← hn, h]; rfl
  rw [e]; exact ⟨rfl, hR.pe⟩
theorem off_2 {B B1 : BT} {n k q : Nat} {r r' : RT} (hn : n = ix (B 0 1)) (h : p1S (B 11) n 97 0 0 = (true, k)) (h2 : p2S (B 11) n 97 0 (B 2) = (false, q, r')) (hR : RX B B1 r) : -2000 - nI q = (offS B).1 ∧ PE (offS B).2 (up2 (upc B1 2 (B1 4)) 0 1 0) := by
  have e : offS B = (-2000 - nI q, up2 B 0 1 0) := by unfold offS; rw [← hn, h, h2]; rfl
  rw [e]; exact ⟨rfl, hR.back⟩
theorem off_3 {B B1 : BT} {n k q : Nat} {r : RT} (hn : n = ix (B 0 1)) (h : p1S (B 11) n 97 0 0 = (true, k)) (h2 : p2S (B 11) n 97 0 (B 2) = (true, q, r)) (hR : RX B B1 r) : nI k = (offS B).1 ∧ PE (offS B).2 (up2 B1 0 1 0) := by
  have e : offS B = (nI k, up2 (upc B 2 r) 0 1 0) := by unfold offS; rw [← hn, h, h2]; rfl
  rw [e]; exact ⟨rfl, hR.pe⟩
def RI1 (B : BT) (n f p k : Nat) (B1 : BT) : Prop := p1S (B 11) n 97 0 0 = p1S (B 11) n f p k ∧ 97 ≤ f + p ∧ p ≤ 96 ∧ RD B B1 ∧ B1 0 2 = nI p
def RI2 (B : BT) (n f p : Nat) (r : RT) (B1 : BT) : Prop := p2S (B 11) n 97 0 (B 2) = p2S (B 11) n f p r ∧ 97 ≤ f + p ∧ p ≤ 101 ∧ (p < n → ∃ k, (p1S (B 11) n f p k).1 = true) ∧ RX B B1 r ∧ Ok r 999 ∧ B1 0 2 = nI p
theorem p1_no {tp : RT} {n f p k : Nat} (h : (stP tp n p).1 = false) : p1S tp n (f + 1) p k = (false, (stP tp n p).2.1) := by
  show (if _ then _ else _) = _
  rw [if_neg (by rw [h]; decide)]
theorem p1_go {tp : RT} {n f p k : Nat} (h : (stP tp n p).1 = true) (h2 : (stP tp n p).2.1 < n) : p1S tp n (f + 1) p k = p1S tp n f (stP tp n p).2.1 (k + 1) := by
  show (if _ then _ else _) = _
  rw [if_pos h, if_pos h2]
theorem p1_end {tp : RT} {n f p k : Nat} (h : (stP tp n p).1 = true) (h2 : ¬ (stP tp n p).2.1 < n) : p1S tp n (f + 1) p k = (true, k + 1) := by
  show (if _ then _ else _) = _
  rw [if_pos h, if_neg h2]
theorem p1_yes {tp : RT} {n f p k : Nat} (h : (p1S tp n (f + 1) p k).1 = true) : (stP tp n p).1 = true := by
  cases hs : (stP tp n p).1 with
  | true => rfl
  | false => rw [p1_no hs] at h; cases h
theorem p2_no {tp : RT} {n f p : Nat} {r : RT} (hp : p < n) (h : (coS r (sgS tp n p) (stP tp n p).2.2.1 (stP tp n p).2.2.2.1 (stP tp n p).2.2.2.2).1 = false) : p2S tp n (f + 1) p r = (false, p, r) := by
  show (if _ then _ else _) = _
  rw [if_pos hp, if_neg (by rw [h]; decide)]
theorem p2_go {tp : RT} {n f p : Nat} {r : RT} (hp : p < n) (h : (coS r (sgS tp n p) (stP tp n p).2.2.1 (stP tp n p).2.2.2.1 (stP tp n p).2.2.2.2).1 = true) : p2S tp n (f + 1) p r = p2S tp n f (stP tp n p).2.1 (coS r (sgS tp n p) (stP tp n p).2.2.1 (stP tp n p).2.2.2.1 (stP tp n p).2.2.2.2).2 := by
  show (if _ then _ else _) = _
  rw [if_pos hp, if_pos h]
theorem p2_end {tp : RT} {n f p : Nat} {r : RT} (hp : ¬ p < n) : p2S tp n f p r = (true, 0, r) := by
  cases f with
  | zero => rfl
  | succ f =>
    show (if _ then _ else _) = _
    rw [if_neg hp]
theorem nI_ltB {a b : Nat} (ha : a < 2 ^ 31) (hb : b < 2 ^ 31) (h : nI a < nI b) : a < b :=
  Nat.lt_of_not_le fun q => by
    have := (nI_leI hb ha).mpr q
    grind
