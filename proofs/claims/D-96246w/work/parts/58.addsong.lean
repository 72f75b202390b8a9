/-! A SONG COMES INTO AN OFFICE; loops that make cells -/
set_option maxRecDepth 100000
def asR (r : RT) (k p l : Int32) : RT := upd (upd (upd (upd r (22 + 3 * nS r + 0) k) (22 + 3 * nS r + 1) p) (22 + 3 * nS r + 2) l) 2 (nI (nS r + 1))
theorem asR_off {r : RT} {k p l : Int32} {q : Nat} (h2 : q ≠ 2) (h : q < 22 + 3 * nS r ∨ 22 + 3 * nS r + 3 ≤ q) : asR r k p l q = r q := by
  unfold asR
  rw [upd_ne _ _ h2, upd_ne _ _ (by omega), upd_ne _ _ (by omega), upd_ne _ _ (by omega)]
theorem asR_2 {r : RT} {k p l : Int32} : asR r k p l 2 = nI (nS r + 1) := upd_self _ _ _
theorem asR_so {r : RT} {k p l : Int32} : so (asR r k p l) (nS r) 0 = k ∧ so (asR r k p l) (nS r) 1 = p ∧ so (asR r k p l) (nS r) 2 = l := by
  unfold asR so
  refine ⟨?_, ?_, ?_⟩
  · rw [upd_ne _ _ (by omega), upd_ne _ _ (by omega), upd_ne _ _ (by omega), upd_self]
  · rw [upd_ne _ _ (by omega), upd_ne _ _ (by omega), upd_self]
  · rw [upd_ne _ _ (by omega), upd_self]
theorem oC_as {r : RT} {A : BT} {k p l : Int32} (h5 : nS r < 5) : ∀ c, c < 15 → c ≠ 3 → c ≠ 4 → ∀ q, q < oN c → up2 (oC r A) 0 2 (nI (nS r + 1)) c q = oC (asR r k p l) A c q := by
  intro c h15 h3 h4 q hq
  have hz : ∀ z, z ≠ 2 → (z < 22 ∨ 37 ≤ z) → r z = asR r k p l z := fun z h g => (asR_off h (by omega)).symm
  have hsh : shS (asR r k p l) = shS r := shS_eq (hz 0 (by decide) (by decide)).symm (hz 1 (by decide) (by decide)).symm
  have : c = 0 ∨ c = 1 ∨ c = 2 ∨ c = 5 ∨ c = 6 ∨ c = 7 ∨ c = 8 ∨ c = 9 ∨ c = 10 ∨ c = 11 ∨ c = 12 ∨ c = 13 ∨ c = 14 := by omega
  rcases this with rfl | rfl | rfl | rfl | rfl | rfl | rfl | rfl | rfl | rfl | rfl | rfl | rfl
  · have : q = 0 ∨ q = 1 ∨ q = 2 ∨ q = 3 ∨ q = 4 ∨ q = 5 := by unfold oN at hq; simp at hq; omega
    rcases this with rfl | rfl | rfl | rfl | rfl | rfl
    · exact hz 0 (by decide) (by decide)
    · exact hsh.symm
    · exact asR_2.symm
    · exact hz 3 (by decide) (by decide)
    · exact hz 4 (by decide) (by decide)
    · exact hz 5 (by decide) (by decide)
  · have : q < 8 := hq
    exact hz (6 + 2 * q) (by omega) (by omega)
  · have : q < 8 := hq
    exact hz (6 + 2 * q + 1) (by omega) (by omega)
  · exact hz (37 + 6 * q + 1) (by omega) (by omega)
  · exact hz (37 + 6 * q + 2) (by omega) (by omega)
  · exact hz (37 + 6 * q + 3) (by omega) (by omega)
  · exact hz (37 + 6 * q + 4) (by omega) (by omega)
  · exact hz (37 + 6 * q + 5) (by omega) (by omega)
  all_goals rfl
section AS
variable {D : va_G} {t : Nat → ClassId} {ob kb lo : Nat} {sg kd : GT} {r : RT} {A : BT} {H H1 : Heap} {a kk : Nat} {v0 v1 : Int32}
/-- a song into a place where none counts -/
theorem OV.sset {k : Nat} (h : OV D t ob kb lo sg kd r A H) (hkb : kb + 6 ≤ ob) (hlo : ob + 15 ≤ lo) (hk : nS r ≤ k) (hR : OR D t ob (oC r A) (va_up sg k (some a)) kd H1) (hq : ∀ q, q < H.size → ¬ oA ob q → H1[q]? = H[q]?) (ha : lo ≤ a) (hkk : kk < 6) (hO : OB D a (9 + kk) [.int v0, .int v1] H1) : OV D t ob kb lo (va_up sg k (some a)) kd r A H1 := by
  have hG := h.2.1.kept (H1 := H1) (fun q h1 h2 => hq q h2 (fun z => by have := z.2; omega))
  refine ⟨hR, ⟨fun i h5 hi => ?_, fun i h5 b hb => ?_⟩, h.2.2.1, h.2.2.2.kept (fun q h1 h2 => hq q (by have := (h.2.2.2 (q - kb) (by omega)).lt; omega) (fun z => by have := z.1; omega))⟩
  · obtain ⟨b, h1, h2, h3⟩ := hG.1 i h5 hi
    exact ⟨b, by unfold va_up; rw [if_neg (by omega)]; exact h1, h2, h3⟩
  · unfold va_up at hb
    by_cases e : i = k
    · rw [if_pos e] at hb
      cases hb
      exact ⟨ha, kk, v0, v1, hkk, hO⟩
    · rw [if_neg e] at hb
      exact hG.2 i h5 b hb
/-- .. and it counts -/
theorem OV.sadd (h : OV D t ob kb lo sg kd r A H) (hkb : kb + 6 ≤ ob) (hlo : ob + 15 ≤ lo) (h5 : nS r < 5) (hs : sg (nS r) = some a) (ha : lo ≤ a) (hkk : kk < 6) (hO : OB D a (9 + kk) [.int v0, .int v1] H) (hR : OR D t ob (up2 (oC r A) 0 2 (nI (nS r + 1))) sg kd H1) (hq : ∀ q, q < H.size → ¬ oA ob q → H1[q]? = H[q]?) : OV D t ob kb lo sg kd (asR r (nI kk) v0 v1) A H1 := by
  have hG := h.2.1.kept (H1 := H1) (fun q h1 h2 => hq q h2 (fun z => by have := z.2; omega))
  have hO1 : OB D a (9 + kk) [.int v0, .int v1] H1 := hO.kept (hq a hO.lt (fun z => by have := z.2; omega))
  have hn : nS (asR r (nI kk) v0 v1) = nS r + 1 := by
    show ix (asR r (nI kk) v0 v1 2) = _
    rw [asR_2, ix_nI (by omega)]
  refine ⟨OR_congr (oC_as h5) hR, ⟨fun i h5' hi => ?_, hG.2⟩, ⟨fun j h6 hj => ?_, h.2.2.1.2⟩, h.2.2.2.kept (fun q h1 h2 => hq q (by have := (h.2.2.2 (q - kb) (by omega)).lt; omega) (fun z => by have := z.1; omega))⟩
  · rw [hn] at hi
    by_cases e : i = nS r
    · subst e
      obtain ⟨e0, e1, e2⟩ := asR_so (r := r) (k := nI kk) (p := v0) (l := v1)
      refine ⟨a, hs, ha, ?_⟩
      rw [e0, e1, e2, ix_nI (by omega)]
      exact hO1
    · obtain ⟨b, h1, h2, h3⟩ := hG.1 i h5' (by omega)
      refine ⟨b, h1, h2, ?_⟩
      rw [show so (asR r (nI kk) v0 v1) i 0 = so r i 0 from asR_off (by omega) (by omega), show so (asR r (nI kk) v0 v1) i 1 = so r i 1 from asR_off (by omega) (by omega), show so (asR r (nI kk) v0 v1) i 2 = so r i 2 from asR_off (by omega) (by omega)]
      exact h3
  · rw [show nH (asR r (nI kk) v0 v1) = nH r from nH_eq (asR_off (by decide) (by omega))] at hj
    rw [show hd (asR r (nI kk) v0 v1) j 0 = hd r j 0 from asR_off (by omega) (by omega)]
    exact h.2.2.1.1 j h6 hj
end AS
section WC
variable {p : Program} {l : Launch} {e : Env} {R : Room} {s : State} {m : MethodId} {args : Array Value} {below : List Frame} {meth : Method} {c : Code} {Q : State → Prop}
/-- a loop that may change the heap, and make cells -/
theorem W.loopC {σ : Type} {pc : Nat} {st : List Value} (cs ss : σ → Nat) (I : σ → Heap → List Loc → Array Slot → Prop) (μ : σ → Nat)
    (step : ∀ x H locs ls, I x H locs ls → (∀ y H' locs' ls', μ y < μ x → I y H' locs' ls' → W p l e R s m args below meth c H' locs' (cs y) (ss y) Q (F0 m pc ls' st)) → W p l e R s m args below meth c H locs (cs x) (ss x) Q (F0 m pc ls st))
    (x : σ) {H : Heap} {locs : List Loc} {ls : Array Slot} (h : I x H locs ls) : W p l e R s m args below meth c H locs (cs x) (ss x) Q (F0 m pc ls st) := by
  have key : ∀ (n : Nat) (x : σ) (H : Heap) (locs : List Loc) (ls : Array Slot), μ x < n → I x H locs ls → W p l e R s m args below meth c H locs (cs x) (ss x) Q (F0 m pc ls st) := by
    intro n
    induction n with
    | zero => intro x H locs ls h0; omega
    | succ n ih => intro x H locs ls h0 h1; exact step x H locs ls h1 (fun y H' locs' ls' h2 h3 => ih y H' locs' ls' (by omega) h3)
  exact key (μ x + 1) x H locs ls (by omega) h
theorem W.bk {H : Heap} {locs : List Loc} {cells slots cells' slots' : Nat} {g : JFrame} (hc : cells ≤ cells') (hs : slots ≤ slots') (k : W p l e R s m args below meth c H locs cells' slots' Q g) : W p l e R s m args below meth c H locs cells slots Q g := W.wk (fun _ h _ => h) hc hs k
end WC
/-- the most as the class keeps it -/
def moL (x : Int32) (K : Nat) : Int32 := if K = 0 then -1 else x
theorem mo_lt {f : Nat → Int32} (hf : ∀ k, 0 ≤ f k) (K : Nat) : moL (mxL f (-9, -9) K).2 K < f K ↔ (mxL f (-9, -9) K).2 < f K := by
  unfold moL
  by_cases h : K = 0
  · subst h
    rw [if_pos rfl]
    have h0 := hf 0
    have e1 : (-1 : Int32).toInt = -1 := by decide +kernel
    have e2 : (-9 : Int32).toInt = -9 := by decide +kernel
    have e3 : (0 : Int32).toInt = 0 := by decide +kernel
    rw [Int32.le_iff_toInt_le] at h0
    constructor
    · intro _; show (-9 : Int32) < f 0; rw [Int32.lt_iff_toInt_lt]; omega
    · intro _; rw [Int32.lt_iff_toInt_lt]; omega
  · rw [if_neg h]
theorem mo_f {f : Nat → Int32} (hf : ∀ k, 0 ≤ f k) {K : Nat} (c : ¬ f K ≤ moL (mxL f (-9, -9) K).2 K) : nI K = (mxL f (-9, -9) (K + 1)).1 := by
  rw [mx_1, if_pos ((mo_lt hf K).mp (Int32.not_le.mp c))]
theorem mo_t {f : Nat → Int32} (hf : ∀ k, 0 ≤ f k) {K : Nat} (c : f K ≤ moL (mxL f (-9, -9) K).2 K) : (mxL f (-9, -9) K).1 = (mxL f (-9, -9) (K + 1)).1 := by
  rw [mx_1, if_neg (fun h => Int32.not_lt.mpr c ((mo_lt hf K).mpr h))]
theorem mo_max {f : Nat → Int32} (hf : ∀ k, 0 ≤ f k) {K : Nat} : (if moL (mxL f (-9, -9) K).2 K < f K then f K else moL (mxL f (-9, -9) K).2 K) = moL (mxL f (-9, -9) (K + 1)).2 (K + 1) := by
  have e : moL (mxL f (-9, -9) (K + 1)).2 (K + 1) = (mxL f (-9, -9) (K + 1)).2 := by unfold moL; rw [if_neg (by omega)]
  rw [e, mx_2]
  by_cases h : (mxL f (-9, -9) K).2 < f K
  · rw [if_pos ((mo_lt hf K).mpr h), if_pos h]
  · rw [if_neg (fun q => h ((mo_lt hf K).mp q)), if_neg h]
    unfold moL
    by_cases h0 : K = 0
    · subst h0
      exact absurd ((mo_lt hf 0).mp (by unfold moL; rw [if_pos rfl]; have := hf 0; rw [Int32.lt_iff_toInt_lt]; rw [Int32.le_iff_toInt_le] at this; have e1 : (-1 : Int32).toInt = -1 := by decide +kernel
                                        have e3 : (0 : Int32).toInt = 0 := by decide +kernel
                                        omega)) h
    · rw [if_neg h0]
