/-! LAWS FOR AN OFFICE's HOUR -/
set_option maxRecDepth 100000
/-- what each hums, as an office keeps it -/
def HU (r : RT) (A : BT) : Prop := ∀ o, o < nH r → A 10 o = if huS r o = true then hd r o 3 else -9
def hrd (r : RT) (j o : Nat) : Prop := huS r o = true ∧ neS r j o = true ∧ ¬ hd r o 3 = hd r j 3
def bet2 (r : RT) (s b : Int32) : Prop := so r (ix b) 1 < so r (ix s) 1 ∨ (so r (ix s) 1 = so r (ix b) 1 ∧ s < b)
theorem bet2_tr {r : RT} {a b d : Int32} (h1 : bet2 r a b) (h2 : bet2 r b d) : bet2 r a d := by
  unfold bet2 at *
  grind
/-- of those that are heard the first best is taken, from the first who hums it -/
theorem heL_best {r : RT} {N j : Nat} (h : Ok r N) : ∀ {n : Nat}, n ≤ nH r → (∀ o, o < n → hrd r j o → 0 ≤ (heL r j n).1 ∧ ¬ bet2 r (hd r o 3) (heL r j n).1) ∧ (0 ≤ (heL r j n).1 → ∃ q, q < n ∧ (heL r j n).2 = nI q ∧ hrd r j q ∧ hd r q 3 = (heL r j n).1 ∧ ∀ o, o < q → ¬ (hrd r j o ∧ hd r o 3 = (heL r j n).1))
  | 0, _ => ⟨fun o h0 => by omega, fun h0 => absurd (show (0 : Int32) ≤ -9 from h0) (by decide)⟩
  | n + 1, hn => by
    obtain ⟨h1, h2⟩ := heL_best h (j := j) (n := n) (by omega)
    by_cases c : huS r n = true ∧ neS r j n = true ∧ ¬ hd r n 3 = hd r j 3 ∧ betS r j n
    · rw [heL_take c.1 c.2.1 c.2.2.1 c.2.2.2]
      have hp := h.has (j := n) (by omega) (huS_has c.1)
      have hb := c.2.2.2
      have hx : ∀ o, o < n → hrd r j o → bet2 r (hd r n 3) (heL r j n).1 := by
        intro o ho hr
        have := (h1 o ho hr).1
        unfold betS at hb
        rcases hb with q | q | q
        · grind
        · exact Or.inl q
        · exact Or.inr q
      refine ⟨fun o ho hr => ⟨hp.1, fun q => ?_⟩, fun _ => ⟨n, by omega, rfl, ⟨c.1, c.2.1, c.2.2.1⟩, rfl, fun o ho hr => ?_⟩⟩
      · by_cases e : o = n
        · subst e; unfold bet2 at q; grind
        · exact (h1 o (by omega) hr).2 (bet2_tr q (hx o (by omega) hr))
      · have := hx o ho hr.1
        have hr2 : hd r o 3 = hd r n 3 := hr.2
        rw [← hr2] at this
        exact (h1 o ho hr.1).2 this
    · rw [heL_skip c]
      refine ⟨fun o ho hr => ?_, fun h0 => ?_⟩
      · by_cases e : o = n
        · subst e
          have hnb : ¬ betS r j o := fun q => c ⟨hr.1, hr.2.1, hr.2.2, q⟩
          unfold betS at hnb
          refine ⟨?_, fun q => ?_⟩
          · rcases heL_ok h (j := j) (o := o) (by omega) with q | ⟨q, -⟩
            · exact absurd (Or.inl (by rw [q]; decide)) hnb
            · exact q
          · unfold bet2 at q
            exact hnb (Or.inr q)
        · exact h1 o (by omega) hr
      · obtain ⟨q, h3, h4⟩ := h2 h0
        exact ⟨q, by omega, h4⟩
/-- the first who hums what is got, near by -/
theorem by_first {r : RT} {N j k : Nat} (h : Ok r N) (h0 : 0 ≤ heS r j) (hk : k < nH r) (hn : neS r j k = true) (hu : huS r k = true) (he : hd r k 3 = heS r j) (hf : ∀ o, o < k → ¬ (neS r j o = true ∧ huS r o = true ∧ hd r o 3 = heS r j)) : nI k = byS r j := by
  obtain ⟨e, -⟩ := heS_ok h h0
  obtain ⟨-, h2⟩ := heL_best h (j := j) (n := nH r) (Nat.le_refl _)
  rw [e] at h0 he hf
  obtain ⟨q, h3, h4, h5, h6, h7⟩ := h2 h0
  have hkq : k = q := by
    rcases Nat.lt_trichotomy k q with z | z | z
    · exact absurd ⟨⟨hu, hn, fun w => h5.2.2 (by rw [h6, ← he]; exact w)⟩, he⟩ (h7 k z)
    · exact z
    · exact absurd ⟨h5.2.1, h5.1, h6⟩ (hf q z)
  subst hkq
  exact h4.symm
theorem by_some {r : RT} {N j : Nat} (h : Ok r N) (h0 : 0 ≤ heS r j) : ∃ q, q < nH r ∧ neS r j q = true ∧ huS r q = true ∧ hd r q 3 = heS r j := by
  obtain ⟨-, -, q, h3, -, h5, h6, h7⟩ := heS_ok h h0
  exact ⟨q, h3, h7, h6, h5.symm⟩
theorem nS_hd {r : RT} {j k : Nat} {v : Int32} : nS (upd r (37 + 6 * j + k) v) = nS r := nS_eq (upd_ne _ _ (by omega))
theorem nH_hd {r : RT} {j k : Nat} {v : Int32} : nH (upd r (37 + 6 * j + k) v) = nH r := nH_eq (upd_ne _ _ (by omega))
theorem OkS_hd {r : RT} {j k i : Nat} {v : Int32} (hi : i < 5) (h : OkS r i) : OkS (upd r (37 + 6 * j + k) v) i := by
  unfold OkS so at *
  rw [upd_ne _ _ (by omega), upd_ne _ _ (by omega), upd_ne _ _ (by omega)]
  exact h
/-- a head gets a song, or none -/
theorem ge_close {r : RT} {j : Nat} {v x : Int32} (h : (v = -9 ∧ x = 0) ∨ (0 ≤ v ∧ x = frS r (ix v))) : upd (upd r (37 + 6 * j + 3) v) (37 + 6 * j + 4) x = geS r j v := by
  unfold geS
  rcases h with ⟨rfl, rfl⟩ | ⟨h0, rfl⟩
  · rw [if_pos (by decide), if_pos (by decide)]
  · rw [if_neg (by grind), if_neg (by grind)]
def wkV (x by_ : Int32) : Int32 := if 0 < (if x - by_ < 60 then x - by_ else 60) then (if x - by_ < 60 then x - by_ else 60) else 0
/-- weaker by so much -/
def wkS (r : RT) (j : Nat) (x : Int32) : RT := upd (upd r (37 + 6 * j + 4) (wkV (hd r j 4) x)) (37 + 6 * j + 3) (if wkV (hd r j 4) x = 0 then -9 else hd r j 3)
theorem upd_comm (f : RT) {a b : Nat} (x y : Int32) (h : a ≠ b) : upd (upd f a x) b y = upd (upd f b y) a x := by
  funext q
  unfold upd
  by_cases h1 : q = a <;> by_cases h2 : q = b <;> simp_all
theorem upd_same (f : RT) (k : Nat) : upd f k (f k) = f := by
  funext q
  unfold upd
  split
  · rename_i h; rw [h]
  · rfl
theorem min60 (y : Int32) : (if 60 < y then 60 else y) = if y < 60 then y else 60 := by grind
theorem wkS_eq {r : RT} {j : Nat} {x y : Int32} (hx : y = hd r j 4 - x) : wkS r j x = if (if 60 < y then 60 else y) ≤ 0 then geS r j (-9) else upd r (37 + 6 * j + 4) (if 60 < y then 60 else y) := by
  unfold wkS wkV
  rw [← hx, ← min60]
  clear hx
  generalize (if 60 < y then 60 else y) = z
  by_cases c : z ≤ 0
  · rw [if_pos c, if_neg (show ¬ 0 < z by grind), if_pos rfl, upd_comm _ _ _ (by omega)]
    rfl
  · rw [if_neg c, if_pos (show 0 < z by grind), if_neg (show ¬ z = 0 by grind), upd_comm _ _ _ (by omega), show upd r (37 + 6 * j + 3) (hd r j 3) = r from upd_same _ _]
theorem wa_wk {r : RT} {j : Nat} (h3 : ¬ hd r j 3 < 0) : wkS r j (faS r (ix (hd r j 3)) + (if 0 < hd r j 5 then 1 else 0)) = waS r j := by
  rw [wkS_eq (y := wvS r j) (by unfold wvS; generalize faS r _ = a; generalize (if 0 < hd r j 5 then (1 : Int32) else 0) = b; grind)]
  unfold waS
  rw [if_neg h3]
theorem le60 {z : Int32} (h : z ≤ 60) : (if 60 < z then 60 else z) = z := by grind
theorem me_wk {r : RT} {N j : Nat} {w : Int32} (h : Ok r N) (hj : j < nH r) (hw : w = 0 ∨ w = 1) : wkS r j (if w = 0 then hd r j 4 - hd r j 4 / 2 else 4) = meS r j w := by
  have hb := (h.head hj).2.2.2.2.2.2.2
  have hh := half_bd hb.1 hb.2.1
  have h4 : hd r j 4 - 4 ≤ 60 := by
    obtain ⟨e, h6⟩ := le_ix (x := hd r j 4) (n := 60) (by omega) hb.1 hb.2.1
    generalize hd r j 4 = z at *
    grind
  have hs : (if 60 < meV r j w then 60 else meV r j w) = meV r j w := by
    unfold meV
    rcases hw with rfl | rfl
    · rw [if_pos rfl]; exact le60 hh.2
    · rw [if_neg (show ¬ (1 : Int32) = 0 by decide)]; exact le60 h4
  have hy : meV r j w = hd r j 4 - (if w = 0 then hd r j 4 - hd r j 4 / 2 else 4) := by
    unfold meV
    rcases hw with rfl | rfl
    · rw [if_pos rfl, if_pos rfl]; generalize hd r j 4 / 2 = a; generalize hd r j 4 = b; grind
    · rw [if_neg (show ¬ (1 : Int32) = 0 by decide), if_neg (show ¬ (1 : Int32) = 0 by decide)]
  rw [wkS_eq hy, hs]
  unfold meS
  rw [if_neg (show ¬ w = 3 by rcases hw with rfl | rfl <;> decide), if_neg (show ¬ w = 2 by rcases hw with rfl | rfl <;> decide)]
