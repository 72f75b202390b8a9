/-! THE LAW's PLAIN WORDS: what both sides compute, over one row r of 73 ints (the model's s: 0 doors, 1 open (bits), 2 songs, 3 heads, 4 hour, 5 loud; 6 + 2 d: a door's rooms; 22 + 3 i: a song's kind, pull, length; 37 + 6 j: a head's kind, room, resist, song, strength, gum) -/
set_option maxRecDepth 100000
abbrev RT : Type := Nat → Int32
abbrev hd (r : RT) (j k : Nat) : Int32 := r (37 + 6 * j + k)
abbrev so (r : RT) (i k : Nat) : Int32 := r (22 + 3 * i + k)
/-- a place as a number -/
def ix (x : Int32) : Nat := x.toNatClampNeg
theorem ix_nI {n : Nat} (h : n < 2 ^ 31) : ix (nI n) = n := nI_clamp h
theorem ix_of {x : Int32} {n : Nat} (h0 : 0 ≤ x) (h : x < nI n) (hn : n < 2 ^ 31) : x = nI (ix x) ∧ ix x < n := by
  obtain ⟨j, hj, rfl⟩ := nI_of (x := x) (by rw [Int32.le_iff_toInt_le] at h0; rw [Int32.lt_iff_toInt_lt]; omega)
  rw [ix_nI hj]
  exact ⟨rfl, (nI_ltI hj hn).mp h⟩
def nD (r : RT) : Nat := ix (r 0)
def nS (r : RT) : Nat := ix (r 2)
def nH (r : RT) : Nat := ix (r 3)
def nT (r : RT) : Nat := ix (r 4)
/-- in the bounds, else how it is refused -/
def wiS (x a b : Int32) : Int32 := if x < a then -4 else if b < x then -6 else 0
/-- a song is told as it must be -/
def OkS (r : RT) (i : Nat) : Prop := 0 ≤ so r i 0 ∧ so r i 0 ≤ 5 ∧ 0 ≤ so r i 1 ∧ so r i 1 ≤ 9 ∧ 1 ≤ so r i 2 ∧ so r i 2 ≤ 9
def OkH (r : RT) (j : Nat) : Prop := 0 ≤ hd r j 0 ∧ hd r j 0 ≤ 5 ∧ 0 ≤ hd r j 1 ∧ hd r j 1 ≤ 4 ∧ 0 ≤ hd r j 2 ∧ hd r j 2 ≤ 9 ∧ (hd r j 3 = -9 ∨ (0 ≤ hd r j 3 ∧ hd r j 3 < r 2)) ∧ 0 ≤ hd r j 4 ∧ hd r j 4 ≤ 60 ∧ 0 ≤ hd r j 5 ∧ hd r j 5 ≤ 3
/-- a row as it must be; its hour is at most N -/
def Ok (r : RT) (N : Nat) : Prop := (r 0 = nI (nD r) ∧ nD r ≤ 8) ∧ (r 2 = nI (nS r) ∧ nS r ≤ 5) ∧ (r 3 = nI (nH r) ∧ nH r ≤ 6) ∧ (r 4 = nI (nT r) ∧ nT r ≤ N) ∧ (1 ≤ r 5 ∧ r 5 ≤ 20) ∧ (r 1 = nI (ix (r 1)) ∧ ix (r 1) < 2 ^ nD r) ∧ (∀ i, i < nS r → OkS r i) ∧ (∀ j, j < nH r → OkH r j)
/-- how strong a song is when it is fresh -/
def frS (r : RT) (i : Nat) : Int32 := if so r i 0 = 2 then 2 * so r i 1 + so r i 2 + 3 else if so r i 0 = 4 then 2 * (2 * so r i 1 + so r i 2 + 3) else 2 * so r i 1 + so r i 2
/-- by how much it fades -/
def faS (r : RT) (i : Nat) : Int32 := if so r i 0 = 1 then 1 else if so r i 0 = 2 then 3 else if so r i 0 = 3 then (if r 4 - r 4 / 6 * 6 = 0 then -4 else 1) else if so r i 0 = 4 then 6 else if so r i 0 = 5 then (if r 4 - r 4 / 2 * 2 = 1 then 0 else 1) else 2
/-- whether a head hums -/
def huS (r : RT) (j : Nat) : Bool := if hd r j 3 < 0 then false else if hd r j 0 = 1 then true else if hd r j 0 = 4 then false else if hd r j 0 = 5 then decide (r 4 - r 4 / 2 * 2 = 0) else decide (r 5 ≤ hd r j 4)
/-- the bar of a head -/
def baS (r : RT) (j : Nat) : Int32 := if hd r j 0 = 2 then 99 else if hd r j 0 = 3 then hd r j 2 / 2 else if hd r j 0 = 4 then hd r j 2 + 3 else if hd r j 0 = 5 then 0 else hd r j 2
/-- whether f is true somewhere below n -/
def anS (f : Nat → Bool) : Nat → Bool
  | 0 => false
  | n + 1 => anS f n || f n
/-- an open door between two rooms -/
def doS (r : RT) (x y : Int32) (d : Nat) : Bool := decide ((r 1 >>> (nI d &&& 31)) &&& 1 = 1 ∧ ((r (6 + 2 * d) = x ∧ r (6 + 2 * d + 1) = y) ∨ (r (6 + 2 * d) = y ∧ r (6 + 2 * d + 1) = x)))
def neS (r : RT) (a b : Nat) : Bool := decide (¬ a = b) && (decide (hd r a 1 = hd r b 1) || anS (doS r (hd r a 1) (hd r b 1)) (nD r))
/-- a head gets a song (none, below 0) -/
def geS (r : RT) (j : Nat) (v : Int32) : RT := upd (upd r (37 + 6 * j + 3) (if v < 0 then -9 else v)) (37 + 6 * j + 4) (if v < 0 then 0 else frS r (ix v))
/-- what a head hears of the first heads: the song, from whom -/
def heL (r : RT) (j : Nat) : Nat → Int32 × Int32
  | 0 => (-9, -9)
  | o + 1 => if huS r o = true ∧ neS r j o = true ∧ ¬ hd r o 3 = hd r j 3 ∧ ((heL r j o).1 < 0 ∨ so r (ix (heL r j o).1) 1 < so r (ix (hd r o 3)) 1 ∨ (so r (ix (hd r o 3)) 1 = so r (ix (heL r j o).1) 1 ∧ hd r o 3 < (heL r j o).1)) then (hd r o 3, nI o) else heL r j o
def byS (r : RT) (j : Nat) : Int32 := (heL r j (nH r)).2
/-- the song that a head gets in an hour, or none -/
def heS (r : RT) (j : Nat) : Int32 := if 0 ≤ (heL r j (nH r)).1 ∧ (so r (ix (heL r j (nH r)).1) 1 ≤ baS r j ∨ frS r (ix (heL r j (nH r)).1) ≤ hd r j 4) then -9 else (heL r j (nH r)).1
/-- what is left of a head's song behind an hour -/
def wvS (r : RT) (j : Nat) : Int32 := hd r j 4 - faS r (ix (hd r j 3)) - (if 0 < hd r j 5 then 1 else 0)
def waS (r : RT) (j : Nat) : RT := if hd r j 3 < 0 then r else if (if 60 < wvS r j then 60 else wvS r j) ≤ 0 then geS r j (-9) else upd r (37 + 6 * j + 4) (if 60 < wvS r j then 60 else wvS r j)
def guS (r : RT) (j : Nat) : RT := if 0 < hd r j 5 then upd r (37 + 6 * j + 5) (hd r j 5 - 1) else r
/-- one head's hour; r0: the row at the hour's begin -/
def stS (r0 r : RT) (j : Nat) : RT := guS (if 0 ≤ heS r0 j then geS r j (heS r0 j) else waS r j) j
def hoL (r0 : RT) : Nat → RT
  | 0 => r0
  | j + 1 => stS r0 (hoL r0 j) j
/-- the row behind an hour -/
def hoS (r : RT) : RT := upd (hoL r (nH r)) 4 (hoL r (nH r) 4 + 1)
/-- how many got a song -/
def gnL (r : RT) : Nat → Nat
  | 0 => 0
  | j + 1 => if 0 ≤ heS r j then gnL r j + 1 else gnL r j
def gnS (r : RT) : Int32 := nI (gnL r (nH r))
/-- from whom each has what he has, who had it first, behind an hour -/
def fmS (r : RT) (g : RT) : RT := fun j => if j < nH r ∧ 0 ≤ heS r j then byS r j else g j
def orS (r : RT) (g : RT) : RT := fun j => if j < nH r ∧ 0 ≤ heS r j then g (ix (byS r j)) else g j
/-- how many have a song (one, or any) among the first n -/
def haL (r : RT) (v : Int32) : Nat → Nat
  | 0 => 0
  | j + 1 => if (if v < 0 then 0 ≤ hd r j 3 else hd r j 3 = v) then haL r v j + 1 else haL r v j
def haS (r : RT) (v : Int32) : Int32 := nI (haL r v (nH r))
/-- n hours -/
def hrS (r : RT) : Nat → RT
  | 0 => r
  | n + 1 => hoS (hrS r n)
theorem anS_of {f : Nat → Bool} {d n : Nat} (h : d < n) (hf : f d = true) : anS f n = true := by
  induction n with
  | zero => omega
  | succ n ih =>
    simp only [anS, Bool.or_eq_true]
    by_cases e : d = n
    · subst e; exact Or.inr hf
    · exact Or.inl (ih (by omega))
/-- a counted loop's end, and its going on -/
theorem lp_end {x : Int32} {n k : Nat} (e : x = nI n) (hn : n < 2 ^ 31) (hk : k < 2 ^ 31) (c : x ≤ nI k) : n ≤ k := by subst e; exact (nI_leI hn hk).mp c
theorem lp_go {x : Int32} {n k : Nat} (e : x = nI n) (hn : n < 2 ^ 31) (hk : k < 2 ^ 31) (c : ¬ x ≤ nI k) : k < n := by
  subst e
  exact Nat.lt_of_not_le fun q => c ((nI_leI hn hk).mpr q)
theorem nI_inc {n : Nat} {C : Prop} [Decidable C] : nI n + (if C then 1 else 0) = nI (if C then n + 1 else n) := by
  by_cases h : C
  · rw [if_pos h, if_pos h]; exact nI_1 n
  · rw [if_neg h, if_neg h]; exact Int32.add_zero _
/-- a head's places are none of the songs' -/
theorem upd_lo {r : RT} {j k q : Nat} {v : Int32} (h : q < 37) : upd r (37 + 6 * j + k) v q = r q := by
  unfold upd; rw [if_neg (by omega)]
theorem frS_hd {r : RT} {j k i : Nat} {v : Int32} (h : i < 5) : frS (upd r (37 + 6 * j + k) v) i = frS r i := by
  unfold frS so
  rw [upd_lo (by omega), upd_lo (by omega), upd_lo (by omega)]
