/-! THE CALLS' PLAIN WORDS: what each call answers, and the columns behind it (of the columns only 1 refusals, 2 the row, 3 the image, 11 the tape, 13 the told row, and 0: isImage, taped, rowed, last from call to call) -/
set_option maxRecDepth 100000
def isH (r : RT) (x : Int32) : Bool := decide (0 ≤ x ∧ x < r 3)
def isS (r : RT) (x : Int32) : Bool := decide (0 ≤ x ∧ x < r 2)
def isI (x n : Int32) : Bool := decide (0 ≤ x ∧ x < n)
abbrev OT : Type := Int32 × BT
def refS (B : BT) (x : Int32) : OT := (x, up2 B 1 (ix (-x)) (B 1 (ix (-x)) + 1))
def wrS (b : Bool) (n : Int32) : Int32 := if b = true then wiS n 0 60 else -1
/-- letter -/
def leN (B : BT) (c : Int32) : Int32 := if wiS c 0 255 = 0 ∧ B 0 1 = 96 then -6 else wiS c 0 255
def letS (B : BT) (c : Int32) : OT := if leN B c = 0 then (B 0 1 + 1, up2 (up2 B 11 (ix (B 0 1)) c) 0 1 (B 0 1 + 1)) else refS B (leN B c)
/-- song, head, near, door -/
def songS (B : BT) (i w : Int32) : OT := if isS (B 2) i = true then (if isI w 3 = true then (so (B 2) (ix i) (ix w), B) else if w = 3 then (frS (B 2) (ix i), B) else if w = 4 then (haS (B 2) i, B) else refS B (-2)) else refS B (-1)
def headS (B : BT) (h w : Int32) : OT := if isH (B 2) h = true then (if isI w 6 = true then (hd (B 2) (ix h) (ix w), B) else if w = 6 then (baS (B 2) (ix h), B) else if w = 7 then (bI (huS (B 2) (ix h)), B) else refS B (-2)) else refS B (-1)
def neB (r : RT) (j : Nat) : Nat → Int32
  | 0 => 0
  | k + 1 => neB r j k ||| (if neS r j k = true then 1 <<< (nI k &&& 31) else 0)
def nearS (B : BT) (h : Int32) : OT := if isH (B 2) h = true then (neB (B 2) (ix h) (nH (B 2)), B) else refS B (-1)
def doorX (r : RT) (d : Int32) : Int32 := r 1 ^^^ (1 <<< (d &&& 31))
def doorS (B : BT) (d : Int32) : OT := if isI d (B 2 0) = true then ((doorX (B 2) d >>> (d &&& 31)) &&& 1, up2 B 2 1 (doorX (B 2) d)) else refS B (-1)
/-- go, get, remedy, loud, hour -/
def goS (B : BT) (h m : Int32) : OT := if isH (B 2) h = true ∧ isI m 5 = true then (hd (B 2) (ix h) 1, up2 B 2 (37 + 6 * ix h + 1) m) else refS B (-1)
def getS (B : BT) (h v : Int32) : OT := if isH (B 2) h = true ∧ (v = -1 ∨ isS (B 2) v = true) then (hd (B 2) (ix h) 3, upc B 2 (geS (B 2) (ix h) v)) else refS B (-1)
def meV (r : RT) (j : Nat) (w : Int32) : Int32 := if w = 0 then hd r j 4 / 2 else hd r j 4 - 4
def meS (r : RT) (j : Nat) (w : Int32) : RT := if w = 3 then r else if w = 2 then upd r (37 + 6 * j + 5) 3 else if meV r j w ≤ 0 then geS r j (-9) else upd r (37 + 6 * j + 4) (meV r j w)
def reN (r : RT) (h w : Int32) : Int32 := if isH r h = true then (if isI w 3 = true then (if w < 2 ∧ hd r (ix h) 3 < 0 then -3 else 0) else -2) else -1
def remS (B : BT) (h w : Int32) : OT := if reN (B 2) h w = 0 then (hd (meS (B 2) (ix h) w) (ix h) 4, upc B 2 (meS (B 2) (ix h) w)) else refS B (reN (B 2) h w)
def loudS (B : BT) (v : Int32) : OT := if wiS v 1 20 = 0 then (B 2 5, up2 B 2 5 v) else refS B (wiS v 1 20)
def hourS (B : BT) : OT := if B 2 4 = 999 then refS B (-6) else (gnS (B 2), upc B 2 (hoS (B 2)))
/-- hours in mind -/
def hoN (b : Bool) (n w : Int32) : Int32 := if wrS b n = 0 ∧ ¬ isI w 2 = true then -2 else wrS b n
def holdS (B : BT) (h n w : Int32) : OT := if hoN (isH (B 2) h) n w = 0 then (hd (hrS (B 2) (ix n)) (ix h) (3 + ix w), B) else refS B (hoN (isH (B 2) h) n w)
def isN (r : RT) (v : Int32) : Bool := decide (v = -1) || isS r v
def haveS (B : BT) (v n : Int32) : OT := if wrS (isN (B 2) v) n = 0 then (haS (hrS (B 2) (ix n)) v, B) else refS B (wrS (isN (B 2) v) n)
/-- the first number below n of which f is true; none -/
def fdS (f : Nat → Bool) : Nat → Int32
  | 0 => -9
  | n + 1 => if 0 ≤ fdS f n then fdS f n else if f n = true then nI n else -9
def takeS (B : BT) (h v : Int32) : OT := if isH (B 2) h = true ∧ isS (B 2) v = true then (fdS (fun n => decide (hd (hrS (B 2) n) (ix h) 3 = v)) 61, B) else refS B (-1)
def stilS (B : BT) : OT := (fdS (fun n => decide (haS (hrS (B 2) n) (-1) = 0)) 61, B)
/-- the first greatest, and how great -/
def mxL (f : Nat → Int32) (i : Int32 × Int32) : Nat → Int32 × Int32
  | 0 => i
  | k + 1 => if (mxL f i k).2 < f k then (nI k, f k) else mxL f i k
def mostS (B : BT) (v n w : Int32) : OT := if hoN (isN (B 2) v) n w = 0 then ((if w = 0 then (mxL (fun k => haS (hrS (B 2) k) v) (-9, -9) (ix n + 1)).1 else (mxL (fun k => haS (hrS (B 2) k) v) (-9, -9) (ix n + 1)).2), B) else refS B (hoN (isN (B 2) v) n w)
def lastS (B : BT) (n : Int32) : OT := if wiS n 0 60 = 0 then ((mxL (fun i => haS (hrS (B 2) (ix n)) (nI i)) (-9, 0) (nS (B 2))).1, B) else refS B (wiS n 0 60)
def fromV (r : RT) (h n : Int32) (b : Bool) : Int32 := if hd (hrS r (ix n)) (ix h) 3 < 0 then -9 else if b = true then (fgS r nI nI (ix n)).2 (ix h) else (fgS r nI nI (ix n)).1 (ix h)
def fromS (B : BT) (h n : Int32) (b : Bool) : OT := if wrS (isH (B 2) h) n = 0 then (fromV (B 2) h n b, B) else refS B (wrS (isH (B 2) h) n)
/-- remedies -/
def rdS (r : RT) (j : Nat) : Int32 := fdS (fun n => decide (hd (hrS r n) j 3 < 0)) 61
/-- the first least that isn't below 0, and how great -/
def mnL (f : Nat → Int32) (i : Int32 × Int32) : Nat → Int32 × Int32
  | 0 => i
  | k + 1 => if f k < 0 ∨ (0 ≤ (mnL f i k).2 ∧ (mnL f i k).2 ≤ f k) then mnL f i k else (nI k, f k)
def riN (r : RT) (h w : Int32) : Int32 := if isH r h = true then (if isI w 2 = true then (if hd r (ix h) 3 < 0 then -3 else 0) else -2) else -1
def riP (r : RT) (j : Nat) : Int32 × Int32 := mnL (fun k => rdS (meS r j (nI k)) j) (-9, -9) 4
def ridS (B : BT) (h w : Int32) : OT := if riN (B 2) h w = 0 then ((if w = 0 then (riP (B 2) (ix h)).1 else (riP (B 2) (ix h)).2), B) else refS B (riN (B 2) h w)
def inN (r : RT) (h : Int32) : Int32 := if isH r h = true then (if hd r (ix h) 3 < 0 then -3 else 0) else -1
def inP (r : RT) (j : Nat) : Int32 × Int32 := mnL (fun i => if nI i = hd r j 3 then -9 else rdS (geS r j (nI i)) j) (-9, rdS r j) (nS r)
def instS (B : BT) (h : Int32) : OT := if inN (B 2) h = 0 then ((inP (B 2) (ix h)).1, B) else refS B (inN (B 2) h)
/-- doors, seats, songs that are written: the first least -/
def lsL (g : Nat → Bool) (f : Nat → Int32) (i : Int32 × Int32) : Nat → Int32 × Int32
  | 0 => i
  | k + 1 => if g k = true ∧ f k < (lsL g f i k).2 then (nI k, f k) else lsL g f i k
def shR (r : RT) (d : Nat) : RT := upd r 1 (r 1 &&& ((1 <<< (nI d &&& 31)) ^^^ (-1)))
def shP (r : RT) (n : Nat) : Int32 × Int32 := lsL (fun d => bt (r 1) d) (fun d => haS (hrS (shR r d) n) (-1)) (-9, haS (hrS r n) (-1)) (nD r)
def shutS (B : BT) (n : Int32) : OT := if wiS n 0 60 = 0 then ((shP (B 2) (ix n)).1, B) else refS B (wiS n 0 60)
def swR (r : RT) (a b : Nat) : RT := upd (upd r (37 + 6 * a + 1) (hd r b 1)) (37 + 6 * b + 1) (hd r a 1)
def seI (f : Nat → Nat → Int32) (a : Nat) (i : Int32 × Int32) : Nat → Int32 × Int32
  | 0 => i
  | m + 1 => if f a (a + 1 + m) < (seI f a i m).2 then (10 * nI a + nI (a + 1 + m), f a (a + 1 + m)) else seI f a i m
def seJ (f : Nat → Nat → Int32) (N : Nat) (i : Int32 × Int32) : Nat → Int32 × Int32
  | 0 => i
  | a + 1 => seI f a (seJ f N i a) (N - (a + 1))
def seP (r : RT) (n : Nat) : Int32 × Int32 := seJ (fun a b => haS (hrS (swR r a b) n) (-1)) (nH r) (-9, haS (hrS r n) (-1)) (nH r)
def seatS (B : BT) (n : Int32) : OT := if wiS n 0 60 = 0 then ((seP (B 2) (ix n)).1, B) else refS B (wiS n 0 60)
def wsR (r : RT) (len : Int32) (k : Nat) : RT := upd (upd (upd (upd r (22 + 3 * nS r) (nI (k / 10))) (22 + 3 * nS r + 1) (nI (k % 10))) (22 + 3 * nS r + 2) len) 2 (nI (nS r + 1))
def wgR (r : RT) (len : Int32) (k : Nat) : RT := geS (wsR r len k) 0 (nI (nS r))
def wtN (r : RT) (len n w : Int32) : Int32 := if len < 1 ∨ n < 0 then -4 else if 9 < len ∨ 60 < n ∨ r 2 = 5 then -6 else if ¬ isI w 2 = true then -2 else if r 3 = 0 then -3 else 0
def wtP (r : RT) (len : Int32) (n : Nat) : Int32 × Int32 := mxL (fun k => haS (hrS (wgR r len k) n) (nI (nS r))) (-9, -9) 60
def writeS (B : BT) (len n w : Int32) : OT := if wtN (B 2) len n w = 0 then ((if w = 0 then (wtP (B 2) len (ix n)).1 else (wtP (B 2) len (ix n)).2), B) else refS B (wtN (B 2) len n w)
/-- told rows -/
def rwN (B : BT) (v : Int32) : Int32 := if wiS v 0 9 = 0 ∧ B 0 3 = 6 then -6 else wiS v 0 9
def rowS (B : BT) (v : Int32) : OT := if rwN B v = 0 then (B 0 3 + 1, up2 (up2 B 13 (ix (B 0 3)) v) 0 3 (B 0 3 + 1)) else refS B (rwN B v)
def toB (rw r : RT) (j : Nat) : Bool := decide (rw j = if hd r j 3 < 0 then 9 else hd r j 3)
def atB (rw r : RT) : Nat → Bool
  | 0 => true
  | n + 1 => atB rw r n && toB rw r n
def otV (k : Nat) : Int32 := if k % 10 = 9 then -9 else nI (k % 10)
def otF (rw r : RT) (n k : Nat) : Bool := decide (otV k < r 2 ∧ ¬ otV k = hd r (k / 10) 3) && atB rw (hrS (geS r (k / 10) (otV k)) n) (nH r)
def otL (f : Nat → Bool) : Nat → Nat × Int32
  | 0 => (0, -9)
  | k + 1 => if f k = true then ((otL f k).1 + 1, if (otL f k).1 = 0 then nI k else (otL f k).2) else otL f k
def otN (B : BT) (n w : Int32) : Int32 := if wiS n 0 60 = 0 then (if isI w 2 = true then (if B 0 3 = B 2 3 then 0 else -3) else -2) else wiS n 0 60
def otherS (B : BT) (n w : Int32) : OT := if otN B n w = 0 then ((if w = 0 then nI (otL (otF (B 13) (B 2) (ix n)) (10 * nH (B 2))).1 else (otL (otF (B 13) (B 2) (ix n)) (10 * nH (B 2))).2), B) else refS B (otN B n w)
def judV (B : BT) : Int32 := if 0 ≤ fdS (fun h => decide (h = nH (B 2)) || !toB (B 13) (B 2) h) (ix (B 0 3)) then fdS (fun h => decide (h = nH (B 2)) || !toB (B 13) (B 2) h) (ix (B 0 3)) else if B 0 3 < B 2 3 then B 0 3 else -9
def judS (B : BT) : OT := (judV B, up2 B 0 3 0)
/-- seeds -/
def sdZ (z : Int32) : Int32 := z * 1664525 + 1013904223
def sdR (z : Int32) : Int32 := (sdZ z &&& 2147483647) / 256 - (sdZ z &&& 2147483647) / 256 / 5 * 5
def sdI (p : RT × Int32) : Nat → RT × Int32
  | 0 => p
  | h + 1 => (upd (sdI p h).1 (37 + 6 * h + 1) (sdR (sdI p h).2), sdZ (sdI p h).2)
def sdL (r : RT) (z : Int32) : Nat → RT × Int32
  | 0 => (r, z)
  | k + 1 => (hoS (sdI (sdL r z k) (nH r)).1, (sdI (sdL r z k) (nH r)).2)
def seedS (B : BT) (n z : Int32) : OT := if wiS n 1 40 = 0 then (haS (sdL (B 2) z (ix n)).1 (-1), B) else refS B (wiS n 1 40)
/-- the image -/
def imS (B : BT) : OT := (B 2 4, up2 (upc B 3 (B 2)) 0 0 1)
def onS (B : BT) : OT := if B 0 0 = 0 then refS B (-3) else (B 3 4, upc B 2 (B 3))
/-- counts -/
def poS : Nat → Nat → Nat
  | 0, _ => 0
  | k + 1, b => b % 2 + poS k (b / 2)
def stL (r : RT) : Nat → Int32
  | 0 => 0
  | j + 1 => stL r j + hd r j 4
def countV (B : BT) (w : Int32) : Int32 := if 10 < w ∧ w < 17 then B 1 (ix (w - 10)) else if w = 0 then B 2 3 else if w = 1 then B 2 2 else if w = 2 then B 2 0 else if w = 3 then nI (poS 8 (ix (B 2 1))) else if w = 4 then B 2 4 else if w = 5 then B 2 5 else if w = 6 then haS (B 2) (-1) else if w = 7 then stL (B 2) (nH (B 2)) else if w = 8 then B 0 3 else if w = 9 then B 0 1 else -9
/-- what lasts from call to call is as it must be -/
def OkB (B : BT) : Prop := Ok (B 2) 999 ∧ ((B 0 0 = 0 ∨ B 0 0 = 1) ∧ (¬ B 0 0 = 0 → Ok (B 3) 999)) ∧ (B 0 1 = nI (ix (B 0 1)) ∧ ix (B 0 1) ≤ 96) ∧ (B 0 3 = nI (ix (B 0 3)) ∧ ix (B 0 3) ≤ 6) ∧ (∀ k, k < 96 → 0 ≤ B 11 k ∧ B 11 k ≤ 255) ∧ (∀ k, k < 6 → 0 ≤ B 13 k ∧ B 13 k ≤ 9)
/-- alike in what lasts -/
def PE (B B' : BT) : Prop := B' 1 = B 1 ∧ B' 2 = B 2 ∧ B' 3 = B 3 ∧ B' 11 = B 11 ∧ B' 13 = B 13 ∧ B' 0 0 = B 0 0 ∧ B' 0 1 = B 0 1 ∧ B' 0 3 = B 0 3
theorem PE.rf (B : BT) : PE B B := ⟨rfl, rfl, rfl, rfl, rfl, rfl, rfl, rfl⟩
