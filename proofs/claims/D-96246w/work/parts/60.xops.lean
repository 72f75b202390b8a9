/-! WHAT EACH CALL ANSWERS, as a number of refusal and an answer -/
set_option maxRecDepth 100000
theorem if0 {b : Bool} {n : Int32} (hn : ¬ n = 0) (h : (if b = true then 0 else n) = 0) : b = true := by
  cases b with
  | true => rfl
  | false => exact absurd h hn
theorem wi_ok {x a b : Int32} (h : wiS x a b = 0) : a ≤ x ∧ x ≤ b := by
  unfold wiS at h
  by_cases h1 : x < a
  · rw [if_pos h1] at h; exact absurd h (by decide)
  · rw [if_neg h1] at h
    by_cases h2 : b < x
    · rw [if_pos h2] at h; exact absurd h (by decide)
    · exact ⟨Int32.not_lt.mp h1, Int32.not_lt.mp h2⟩
theorem le_ixN {x : Int32} {n : Nat} (hn : n < 2 ^ 30) (h0 : 0 ≤ x) (h : x ≤ nI n) : x = nI (ix x) ∧ ix x ≤ n := by
  obtain ⟨j, hj, rfl⟩ := nI_of (x := x) (Int32.not_lt.mpr h0)
  rw [ix_nI hj]
  exact ⟨rfl, (nI_leI hj (by omega)).mp h⟩
theorem wi_60 {x : Int32} (h : wiS x 0 60 = 0) : x = nI (ix x) ∧ ix x ≤ 60 := le_ixN (n := 60) (by decide) (wi_ok h).1 (wi_ok h).2
def songV (r : RT) (x w : Int32) : Int32 := if isI w 3 = true then so r (ix x) (ix w) else if w = 3 then frS r (ix x) else haS r x
def headV (r : RT) (x w : Int32) : Int32 := if isI w 6 = true then hd r (ix x) (ix w) else if w = 6 then baS r (ix x) else bI (huS r (ix x))
theorem songV_0 {r : RT} {x : Int32} : so r (ix x) 0 = songV r x 0 := by unfold songV; rw [if_pos (by decide), show ix (0 : Int32) = 0 by decide]
theorem songV_1 {r : RT} {x : Int32} : so r (ix x) 1 = songV r x 1 := by unfold songV; rw [if_pos (by decide), show ix (1 : Int32) = 1 by decide]
theorem songV_2 {r : RT} {x : Int32} : so r (ix x) 2 = songV r x 2 := by unfold songV; rw [if_pos (by decide), show ix (2 : Int32) = 2 by decide]
theorem songV_3 {r : RT} {x : Int32} : frS r (ix x) = songV r x 3 := by unfold songV; rw [if_neg (by decide), if_pos rfl]
theorem songV_4 {r : RT} {x w : Int32} (h : isI w 5 = true) (h0 : ¬ w = 0) (h1 : ¬ w = 1) (h2 : ¬ w = 2) (h3 : ¬ w = 3) : haS r x = songV r x w := by
  have h4 : w = 4 := by
    obtain ⟨e, hl⟩ := isI_ix (x := w) (n := 5) (by decide) h
    have : ix w = 0 ∨ ix w = 1 ∨ ix w = 2 ∨ ix w = 3 ∨ ix w = 4 := by omega
    rcases this with g | g | g | g | g <;> rw [g] at e
    · exact absurd e h0
    · exact absurd e h1
    · exact absurd e h2
    · exact absurd e h3
    · exact e
  subst h4
  unfold songV; rw [if_neg (by decide), if_neg (by decide)]
theorem headV_0 {r : RT} {x : Int32} : hd r (ix x) 0 = headV r x 0 := by unfold headV; rw [if_pos (by decide), show ix (0 : Int32) = 0 by decide]
theorem headV_1 {r : RT} {x : Int32} : hd r (ix x) 1 = headV r x 1 := by unfold headV; rw [if_pos (by decide), show ix (1 : Int32) = 1 by decide]
theorem headV_2 {r : RT} {x : Int32} : hd r (ix x) 2 = headV r x 2 := by unfold headV; rw [if_pos (by decide), show ix (2 : Int32) = 2 by decide]
theorem headV_3 {r : RT} {x : Int32} : hd r (ix x) 3 = headV r x 3 := by unfold headV; rw [if_pos (by decide), show ix (3 : Int32) = 3 by decide]
theorem headV_4 {r : RT} {x : Int32} : hd r (ix x) 4 = headV r x 4 := by unfold headV; rw [if_pos (by decide), show ix (4 : Int32) = 4 by decide]
theorem headV_5 {r : RT} {x : Int32} : hd r (ix x) 5 = headV r x 5 := by unfold headV; rw [if_pos (by decide), show ix (5 : Int32) = 5 by decide]
theorem headV_6 {r : RT} {x : Int32} : baS r (ix x) = headV r x 6 := by unfold headV; rw [if_neg (by decide), if_pos rfl]
theorem headV_7 {r : RT} {x w : Int32} (h : isI w 8 = true) (h0 : ¬ w = 0) (h1 : ¬ w = 1) (h2 : ¬ w = 2) (h3 : ¬ w = 3) (h4 : ¬ w = 4) (h5 : ¬ w = 5) (h6 : ¬ w = 6) : bI (huS r (ix x)) = headV r x w := by
  have h7 : w = 7 := by
    obtain ⟨e, hl⟩ := isI_ix (x := w) (n := 8) (by decide) h
    have : ix w = 0 ∨ ix w = 1 ∨ ix w = 2 ∨ ix w = 3 ∨ ix w = 4 ∨ ix w = 5 ∨ ix w = 6 ∨ ix w = 7 := by omega
    rcases this with g | g | g | g | g | g | g | g <;> rw [g] at e
    · exact absurd e h0
    · exact absurd e h1
    · exact absurd e h2
    · exact absurd e h3
    · exact absurd e h4
    · exact absurd e h5
    · exact absurd e h6
    · exact e
  subst h7
  unfold headV; rw [if_neg (by decide), if_neg (by decide)]
def nSong (r : RT) (i w : Int32) : Int32 := if isS r i = true then (if isI w 5 = true then 0 else -2) else -1
def nHead (r : RT) (h w : Int32) : Int32 := if isH r h = true then (if isI w 8 = true then 0 else -2) else -1
def nNear (r : RT) (h : Int32) : Int32 := if isH r h = true then 0 else -1
def nDoor (r : RT) (d : Int32) : Int32 := if isI d (r 0) = true then 0 else -1
def nGo (r : RT) (h m : Int32) : Int32 := if isH r h = true ∧ isI m 5 = true then 0 else -1
def nGet (r : RT) (h v : Int32) : Int32 := if isH r h = true ∧ isN r v = true then 0 else -1
def nHour (r : RT) : Int32 := if r 4 = 999 then -6 else 0
def nTake (r : RT) (h v : Int32) : Int32 := if isH r h = true ∧ isS r v = true then 0 else -1
def nOn (B : BT) : Int32 := if B 0 0 = 0 then -3 else 0
def uLet (B : BT) (c : Int32) : OT := (B 0 1 + 1, up2 (up2 B 11 (ix (B 0 1)) c) 0 1 (B 0 1 + 1))
def uDoor (B : BT) (d : Int32) : OT := ((doorX (B 2) d >>> (d &&& 31)) &&& 1, up2 B 2 1 (doorX (B 2) d))
def uGo (B : BT) (h m : Int32) : OT := (hd (B 2) (ix h) 1, up2 B 2 (37 + 6 * ix h + 1) m)
def uGet (B : BT) (h v : Int32) : OT := (hd (B 2) (ix h) 3, upc B 2 (geS (B 2) (ix h) v))
def uRem (B : BT) (h w : Int32) : OT := (hd (meS (B 2) (ix h) w) (ix h) 4, upc B 2 (meS (B 2) (ix h) w))
def uLoud (B : BT) (v : Int32) : OT := (B 2 5, up2 B 2 5 v)
def uHour (B : BT) : OT := (gnS (B 2), upc B 2 (hoS (B 2)))
def uRow (B : BT) (v : Int32) : OT := (B 0 3 + 1, up2 (up2 B 13 (ix (B 0 3)) v) 0 3 (B 0 3 + 1))
/-- a call's answer: refused, or not -/
def opX (N : Int32) (u : OT) (B : BT) : OT := if N = 0 then u else refS B N
theorem letS_eq (B : BT) (c : Int32) : letS B c = opX (leN B c) (uLet B c) B := rfl
theorem nearS_eq (B : BT) (h : Int32) : nearS B h = opX (nNear (B 2) h) (neB (B 2) (ix h) (nH (B 2)), B) B := by
  unfold nearS opX nNear; cases isH (B 2) h <;> rfl
theorem doorS_eq (B : BT) (d : Int32) : doorS B d = opX (nDoor (B 2) d) (uDoor B d) B := by
  unfold doorS opX nDoor; cases isI d (B 2 0) <;> rfl
theorem goS_eq (B : BT) (h m : Int32) : goS B h m = opX (nGo (B 2) h m) (uGo B h m) B := by
  unfold goS opX nGo; cases isH (B 2) h <;> cases isI m 5 <;> rfl
theorem getS_eq (B : BT) (h v : Int32) : getS B h v = opX (nGet (B 2) h v) (uGet B h v) B := by
  unfold getS opX nGet isN
  by_cases e : v = -1
  · subst e; cases isH (B 2) h <;> simp [uGet]
  · cases isH (B 2) h <;> cases isS (B 2) v <;> simp [e, uGet]
theorem hourS_eq (B : BT) : hourS B = opX (nHour (B 2)) (uHour B) B := by
  unfold hourS opX nHour
  by_cases e : B 2 4 = 999
  · rw [if_pos e, if_pos e, if_neg (by decide)]
  · rw [if_neg e, if_neg e, if_pos rfl]; rfl
theorem takeS_eq (B : BT) (h v : Int32) : takeS B h v = opX (nTake (B 2) h v) (fdS (fun n => decide (hd (hrS (B 2) n) (ix h) 3 = v)) 61, B) B := by
  unfold takeS opX nTake
  by_cases e : isH (B 2) h = true ∧ isS (B 2) v = true
  · rw [if_pos e, if_pos e, if_pos rfl]
  · rw [if_neg e, if_neg e, if_neg (by decide)]
theorem onS_eq (B : BT) : onS B = opX (nOn B) (B 3 4, upc B 2 (B 3)) B := by
  unfold onS opX nOn
  by_cases e : B 0 0 = 0
  · rw [if_pos e, if_pos e, if_neg (by decide)]
  · rw [if_neg e, if_neg e, if_pos rfl]
theorem isI_35 {w : Int32} (h : isI w 3 = true) : isI w 5 = true := by
  have := of_decide_eq_true h
  exact decide_eq_true ⟨this.1, Int32.lt_of_lt_of_le this.2 (by decide)⟩
theorem isI_68 {w : Int32} (h : isI w 6 = true) : isI w 8 = true := by
  have := of_decide_eq_true h
  exact decide_eq_true ⟨this.1, Int32.lt_of_lt_of_le this.2 (by decide)⟩
theorem songS_eq (B : BT) (i w : Int32) : songS B i w = opX (nSong (B 2) i w) (songV (B 2) i w, B) B := by
  unfold songS opX nSong
  by_cases h : isS (B 2) i = true
  · rw [if_pos h, if_pos h]
    by_cases h3 : isI w 3 = true
    · rw [if_pos h3, if_pos (isI_35 h3), if_pos rfl]; unfold songV; rw [if_pos h3]
    · rw [if_neg h3]
      by_cases e3 : w = 3
      · rw [if_pos e3, if_pos (show isI w 5 = true by rw [e3]; decide), if_pos rfl]; unfold songV; rw [if_neg h3, if_pos e3]
      · rw [if_neg e3]
        by_cases e4 : w = 4
        · rw [if_pos e4, if_pos (show isI w 5 = true by rw [e4]; decide), if_pos rfl]; unfold songV; rw [if_neg h3, if_neg e3]
        · rw [if_neg e4]
          have h5 : ¬ isI w 5 = true := fun h5 => by
            obtain ⟨e, hl⟩ := isI_ix (x := w) (n := 5) (by decide) h5
            have : ix w = 0 ∨ ix w = 1 ∨ ix w = 2 ∨ ix w = 3 ∨ ix w = 4 := by omega
            rcases this with g | g | g | g | g <;> rw [g] at e
            · exact h3 (by rw [e]; decide)
            · exact h3 (by rw [e]; decide)
            · exact h3 (by rw [e]; decide)
            · exact e3 e
            · exact e4 e
          rw [if_neg h5, if_neg (by decide)]
  · rw [if_neg h, if_neg h, if_neg (by decide)]
theorem headS_eq (B : BT) (i w : Int32) : headS B i w = opX (nHead (B 2) i w) (headV (B 2) i w, B) B := by
  unfold headS opX nHead
  by_cases h : isH (B 2) i = true
  · rw [if_pos h, if_pos h]
    by_cases h3 : isI w 6 = true
    · rw [if_pos h3, if_pos (isI_68 h3), if_pos rfl]; unfold headV; rw [if_pos h3]
    · rw [if_neg h3]
      by_cases e3 : w = 6
      · rw [if_pos e3, if_pos (show isI w 8 = true by rw [e3]; decide), if_pos rfl]; unfold headV; rw [if_neg h3, if_pos e3]
      · rw [if_neg e3]
        by_cases e4 : w = 7
        · rw [if_pos e4, if_pos (show isI w 8 = true by rw [e4]; decide), if_pos rfl]; unfold headV; rw [if_neg h3, if_neg e3]
        · rw [if_neg e4]
          have h5 : ¬ isI w 8 = true := fun h5 => by
            obtain ⟨e, hl⟩ := isI_ix (x := w) (n := 8) (by decide) h5
            have : ix w = 0 ∨ ix w = 1 ∨ ix w = 2 ∨ ix w = 3 ∨ ix w = 4 ∨ ix w = 5 ∨ ix w = 6 ∨ ix w = 7 := by omega
            rcases this with g | g | g | g | g | g | g | g <;> rw [g] at e
            · exact h3 (by rw [e]; decide)
            · exact h3 (by rw [e]; decide)
            · exact h3 (by rw [e]; decide)
            · exact h3 (by rw [e]; decide)
            · exact h3 (by rw [e]; decide)
            · exact h3 (by rw [e]; decide)
            · exact e3 e
            · exact e4 e
          rw [if_neg h5, if_neg (by decide)]
  · rw [if_neg h, if_neg h, if_neg (by decide)]
theorem ge_neg {r : RT} {j : Nat} {v : Int32} (h : v < 0) : geS r j v = geS r j (-9) := by
  unfold geS; rw [if_pos h, if_pos h]; rfl
theorem door_v {r : RT} {d : Nat} (h8 : nD r ≤ 8) (hd : d < nD r) : (if decide ((shS (upd r 1 (doorX r (nI d))) >>> (nI d &&& 31)) &&& 1 = 1) = true then (0 : Int32) else 1) = (doorX r (nI d) >>> (nI d &&& 31)) &&& 1 := by
  have hs := shS_has (r := upd r 1 (doorX r (nI d))) (k := d) (by rw [nD_1]; exact h8) (by rw [nD_1]; exact hd)
  rw [upd_self] at hs
  rw [b_bit (doorX r (nI d)) (o := d) (by omega)]
  cases hb : bt (doorX r (nI d)) d with
  | true =>
    rw [hb] at hs
    rw [if_neg (fun q => by rw [q] at hs; exact absurd hs (by decide)), if_pos rfl]
  | false =>
    rw [hb] at hs
    have : decide ((shS (upd r 1 (doorX r (nI d))) >>> (nI d &&& 31)) &&& 1 = 1) = true := by
      cases hx : decide ((shS (upd r 1 (doorX r (nI d))) >>> (nI d &&& 31)) &&& 1 = 1) with
      | true => rfl
      | false => rw [hx] at hs; exact absurd hs (by decide)
    rw [if_pos this, if_neg (by decide)]
theorem nb_byte {x : Int32} (h0 : 0 ≤ x) (h : x ≤ 9) : x.toInt8.toInt32 = x ∧ vp_nar .byte x = x := by
  have : ∀ k : Nat, k ≤ 9 → (nI k).toInt8.toInt32 = nI k ∧ vp_nar .byte (nI k) = nI k := by decide +kernel
  obtain ⟨e, hl⟩ := le_ixN (n := 9) (by decide) h0 h
  rw [e]; exact this _ hl
theorem nb_char {x : Int32} (h0 : 0 ≤ x) (h : x ≤ 255) : (x.toUInt32 % 65536).toInt32 = x ∧ vp_nar .char x = x := by
  have : ∀ k : Nat, k ≤ 255 → ((nI k).toUInt32 % 65536).toInt32 = nI k ∧ vp_nar .char (nI k) = nI k := by decide +kernel
  obtain ⟨e, hl⟩ := le_ixN (n := 255) (by decide) h0 h
  rw [e]; exact this _ hl
