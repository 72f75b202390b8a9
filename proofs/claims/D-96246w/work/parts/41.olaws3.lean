/-! LAWS FOR AN OFFICE's HOUR (2): its columns, step by step -/
set_option maxRecDepth 100000
def hmV (r : RT) (o : Nat) : Int32 := if huS r o = true then hd r o 3 else -9
def huA (r : RT) (A : BT) (k : Nat) : BT := upc A 10 (tk k (hmV r) (A 10))
theorem huA_0 (r : RT) (A : BT) : huA r A 0 = A := by unfold huA; rw [tk_0, upc_self]
theorem huA_s (r : RT) (A : BT) (k : Nat) : huA r A (k + 1) = up2 (huA r A k) 10 k (hmV r k) := by
  unfold huA
  rw [up2_upc, upc_upc, upc_same, tk_succ]
theorem huA_U (r : RT) (A : BT) : HU r (huA r A (nH r)) := fun o ho => by
  show tk (nH r) (hmV r) (A 10) o = _
  rw [tk_lt ho]; rfl
def gtA (r : RT) (A : BT) (k : Nat) : BT := upc (upc A 11 (tk k (heS r) (A 11))) 14 (tk k (A 13) (A 14))
theorem gtA_0 (r : RT) (A : BT) : gtA r A 0 = A := by
  unfold gtA
  rw [tk_0, tk_0, upc_self]
  exact upc_self A 14
theorem gtA_s (r : RT) (A : BT) (k : Nat) : gtA r A (k + 1) = up2 (up2 (gtA r A k) 11 k (heS r k)) 14 k (A 13 k) := by
  funext c
  unfold gtA
  by_cases h : c = 14
  · subst h; rw [upc_same, up2_same, up2_ne _ _ _ (by decide), upc_same, tk_succ]
  · by_cases h2 : c = 11
    · subst h2; rw [upc_ne _ _ (by decide), upc_same, up2_ne _ _ _ (by decide), up2_same, upc_ne _ _ (by decide), upc_same, tk_succ]
    · rw [upc_ne _ _ h, upc_ne _ _ h2, up2_ne _ _ _ h, up2_ne _ _ _ h2, upc_ne _ _ h, upc_ne _ _ h2]
theorem HU.eq {r : RT} {A A' : BT} (h : HU r A) (e : A' 10 = A 10) : HU r A' := fun o ho => by rw [e]; exact h o ho
def gvA (r : RT) (A : BT) (k : Nat) : BT := upc (upc A 12 (fun j => if j < k ∧ 0 ≤ heS r j then byS r j else A 12 j)) 13 (fun j => if j < k ∧ 0 ≤ heS r j then A 14 (ix (byS r j)) else A 13 j)
theorem gvA_0 (r : RT) (A : BT) : gvA r A 0 = A := by
  unfold gvA
  have h1 : (fun j => if j < 0 ∧ 0 ≤ heS r j then byS r j else A 12 j) = A 12 := by funext j; rw [if_neg (by omega)]
  have h2 : (fun j => if j < 0 ∧ 0 ≤ heS r j then A 14 (ix (byS r j)) else A 13 j) = A 13 := by funext j; rw [if_neg (by omega)]
  rw [h1, h2, upc_self]
  exact upc_self A 13
theorem gvA_got {r : RT} {A : BT} {k : Nat} (h : 0 ≤ heS r k) : gvA r A (k + 1) = up2 (up2 (gvA r A k) 12 k (byS r k)) 13 k (A 14 (ix (byS r k))) := by
  funext c
  unfold gvA
  by_cases h1 : c = 13
  · subst h1
    rw [upc_same, up2_same, up2_ne _ _ _ (by decide), upc_same]
    exact fn_step (C := fun j => 0 ≤ heS r j) (f := fun j => A 14 (ix (byS r j))) h
  · by_cases h2 : c = 12
    · subst h2
      rw [upc_ne _ _ (by decide), upc_same, up2_ne _ _ _ (by decide), up2_same, upc_ne _ _ (by decide), upc_same]
      exact fn_step (C := fun j => 0 ≤ heS r j) (f := byS r) h
    · rw [upc_ne _ _ h1, upc_ne _ _ h2, up2_ne _ _ _ h1, up2_ne _ _ _ h2, upc_ne _ _ h1, upc_ne _ _ h2]
theorem gvA_not {r : RT} {A : BT} {k : Nat} (h : ¬ 0 ≤ heS r k) : gvA r A (k + 1) = gvA r A k := by
  unfold gvA
  rw [fn_skip (C := fun j => 0 ≤ heS r j) (f := byS r) h, fn_skip (C := fun j => 0 ≤ heS r j) (f := fun j => A 14 (ix (byS r j))) h]
theorem hoL_room {r : RT} {j : Nat} : ∀ k, hoL r k (37 + 6 * j + 1) = r (37 + 6 * j + 1)
  | 0 => rfl
  | k + 1 => by
    show stS r (hoL r k) k _ = _
    rw [stS_off (by omega)]
    exact hoL_room k
theorem anS_ext {f g : Nat → Bool} : ∀ n, (∀ d, d < n → f d = g d) → anS f n = anS g n
  | 0, _ => rfl
  | n + 1, h => by
    simp only [anS]
    rw [anS_ext n (fun d hd => h d (by omega)), h n (by omega)]
theorem doS_ext {r r' : RT} (hlo : ∀ q, q < 37 → r' q = r q) (x y : Int32) {d : Nat} (hd : d < 8) : doS r' x y d = doS r x y d := by
  have h1 := hlo 1 (by omega)
  have h2 := hlo (6 + 2 * d) (by omega)
  have h3 := hlo (6 + 2 * d + 1) (by omega)
  unfold doS
  exact decide_eq_decide.mpr (by rw [h1, h2, h3])
theorem neS_eq {r r' : RT} (hlo : ∀ q, q < 37 → r' q = r q) (hr : ∀ j, hd r' j 1 = hd r j 1) (h8 : nD r ≤ 8) (a b : Nat) : neS r' a b = neS r a b := by
  have hn : nD r' = nD r := by unfold nD; rw [hlo 0 (by omega)]
  have ha := hr a
  have hb := hr b
  unfold neS
  rw [hn, ha, hb, anS_ext (nD r) (fun d hd => doS_ext hlo _ _ (show d < 8 by omega))]
theorem giv_q {r : RT} {N j : Nat} (h : Ok r N) (h0 : 0 ≤ heS r j) : ∃ q, q < nH r ∧ byS r j = nI q ∧ neS r j q = true ∧ huS r q = true ∧ hd r q 3 = heS r j ∧ ∀ o, o < q → ¬ (neS r j o = true ∧ huS r o = true ∧ hd r o 3 = heS r j) := by
  obtain ⟨e, -⟩ := heS_ok h h0
  obtain ⟨-, h2⟩ := heL_best h (j := j) (n := nH r) (Nat.le_refl _)
  rw [e] at h0
  obtain ⟨q, h3, h4, h5, h6, h7⟩ := h2 h0
  refine ⟨q, h3, h4, h5.2.1, h5.1, by rw [e]; exact h6, fun o ho hz => h7 o ho ⟨⟨hz.2.1, hz.1, fun w => h5.2.2 ?_⟩, by rw [← e]; exact hz.2.2⟩⟩
  rw [h6, ← e, ← hz.2.2]; exact w
theorem gu_close {X : RT} {k : Nat} {g : Int32} (hg : hd X k 5 = g) (h0 : 0 ≤ g) (h3 : g ≤ 3) : upd X (37 + 6 * k + 5) (if 0 < g - 1 then g - 1 else 0) = guS X k := by
  unfold guS
  rw [hg]
  by_cases c : 0 < g
  · rw [if_pos c]
    have : (if 0 < g - 1 then g - 1 else 0) = g - 1 := by grind
    rw [this]
  · have hz : g = 0 := by grind
    rw [if_neg c, if_neg (show ¬ 0 < g - 1 by rw [hz]; decide)]
    have h := upd_same X (37 + 6 * k + 5)
    rw [show X (37 + 6 * k + 5) = 0 from hg.trans hz] at h
    exact h
theorem geS_5 {r : RT} {j k : Nat} {v : Int32} : hd (geS r j v) k 5 = hd r k 5 := geS_off (by omega)
theorem waS_5 {r : RT} {j k : Nat} : hd (waS r j) k 5 = hd r k 5 := waS_off (by omega)
theorem fm_ext {r : RT} {g g' : RT} (h : ∀ j, j < 6 → g j = g' j) (j : Nat) (hj : j < 6) : fmS r g j = fmS r g' j := by
  unfold fmS
  split
  · rfl
  · exact h j hj
theorem or_ext {r : RT} {N : Nat} (ho : Ok r N) {g g' : RT} (h : ∀ j, j < 6 → g j = g' j) (j : Nat) (hj : j < 6) : orS r g j = orS r g' j := by
  unfold orS
  split
  · rename_i c
    obtain ⟨q, hq, hb, -⟩ := giv_q ho c.2
    have := ho.h6
    rw [hb, ix_nI (by omega)]
    exact h q (by omega)
  · exact h j hj
