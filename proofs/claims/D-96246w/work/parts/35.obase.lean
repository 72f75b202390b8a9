/-! AN OFFICE: fifteen cells at ob ..; O: its columns (0: doors, shut, songs, heads, hour, loud; 1 from, 2 to, 5 rooms, 6 resists, 7 holds, 8 strengths, 9 gums, 10 hummed, 11 gets, 12 givers, 13 firsts, 14 firstsThen); sg, kd: its songs, its heads' kinds -/
set_option maxRecDepth 100000
abbrev GT : Type := Nat → Option Nat
def oF (ob : Nat) (O : BT) : List Value := [.int (O 0 0), .ref (ob + 1), .ref (ob + 2), .int (O 0 1), .int (O 0 2), .ref (ob + 3), .int (O 0 3), .ref (ob + 4), .ref (ob + 5), .ref (ob + 6), .ref (ob + 7), .ref (ob + 8), .ref (ob + 9), .int (O 0 4), .int (O 0 5), .ref (ob + 10), .ref (ob + 11), .ref (ob + 12), .ref (ob + 13), .ref (ob + 14)]
def oL (t : Nat → ClassId) (ob : Nat) (O : BT) (sg kd : GT) : va_W := [(ob, .inr (2, oF ob O)), (ob + 1, .inl (t 0, 8, .inl (O 1))), (ob + 2, .inl (t 0, 8, .inl (O 2))), (ob + 3, .inl (t 3, 5, .inr (.inr (.inr (.inr sg))))), (ob + 4, .inl (t 4, 6, .inr (.inr (.inr (.inr kd))))), (ob + 5, .inl (t 0, 6, .inl (O 5))), (ob + 6, .inl (t 0, 6, .inl (O 6))), (ob + 7, .inl (t 0, 6, .inl (O 7))), (ob + 8, .inl (t 0, 6, .inl (O 8))), (ob + 9, .inl (t 0, 6, .inl (O 9))), (ob + 10, .inl (t 0, 6, .inl (O 10))), (ob + 11, .inl (t 0, 6, .inl (O 11))), (ob + 12, .inl (t 0, 6, .inl (O 12))), (ob + 13, .inl (t 0, 6, .inl (O 13))), (ob + 14, .inl (t 0, 6, .inl (O 14)))]
def oA (ob : Nat) : Nat → Prop := fun q => ob ≤ q ∧ q < ob + 15
def OR (D : va_G) (t : Nat → ClassId) (ob : Nat) (O : BT) (sg kd : GT) (H : Heap) : Prop := va_P D vwCl (oL t ob O sg kd) H
theorem oL_at {t : Nat → ClassId} {ob : Nat} {O : BT} {sg kd : GT} {k : Nat} {q : Nat × va_E} (h : (oL t ob O sg kd)[k]? = some q) : q.1 = ob + k ∧ k < 15 := by
  have hk : k < 15 := (List.getElem?_eq_some_iff.mp h).1
  have : k = 0 ∨ k = 1 ∨ k = 2 ∨ k = 3 ∨ k = 4 ∨ k = 5 ∨ k = 6 ∨ k = 7 ∨ k = 8 ∨ k = 9 ∨ k = 10 ∨ k = 11 ∨ k = 12 ∨ k = 13 ∨ k = 14 := by omega
  rcases this with rfl | rfl | rfl | rfl | rfl | rfl | rfl | rfl | rfl | rfl | rfl | rfl | rfl | rfl | rfl <;> (cases h; exact ⟨rfl, hk⟩)
theorem oL_D {t : Nat → ClassId} {ob : Nat} {O : BT} {sg kd : GT} {A : Nat → Prop} (hA : ∀ q, oA ob q → A q) : va_D A (oL t ob O sg kd) := by
  refine ⟨fun i j p q hi hj e => ?_, fun k q hk => ?_⟩
  · have h1 := (oL_at hi).1
    have h2 := (oL_at hj).1
    omega
  · have h1 := oL_at hk
    exact hA _ ⟨by omega, by omega⟩
def oN (c : Nat) : Nat := if c = 0 then 6 else if c ≤ 2 then 8 else 6
theorem OR_congr {D : va_G} {t : Nat → ClassId} {ob : Nat} {O O' : BT} {sg kd : GT} {H : Heap} (h : ∀ c, c < 15 → c ≠ 3 → c ≠ 4 → ∀ k, k < oN c → O c k = O' c k) (hP : OR D t ob O sg kd H) : OR D t ob O' sg kd H := by
  intro k q hk
  have h14 := (oL_at hk).2
  have hF : oF ob O' = oF ob O := by
    unfold oF
    rw [h 0 (by decide) (by decide) (by decide) 0 (by decide), h 0 (by decide) (by decide) (by decide) 1 (by decide), h 0 (by decide) (by decide) (by decide) 2 (by decide), h 0 (by decide) (by decide) (by decide) 3 (by decide), h 0 (by decide) (by decide) (by decide) 4 (by decide), h 0 (by decide) (by decide) (by decide) 5 (by decide)]
  have : k = 0 ∨ k = 1 ∨ k = 2 ∨ k = 3 ∨ k = 4 ∨ k = 5 ∨ k = 6 ∨ k = 7 ∨ k = 8 ∨ k = 9 ∨ k = 10 ∨ k = 11 ∨ k = 12 ∨ k = 13 ∨ k = 14 := by omega
  rcases this with rfl | rfl | rfl | rfl | rfl | rfl | rfl | rfl | rfl | rfl | rfl | rfl | rfl | rfl | rfl
  · cases hk
    show va_at D vwCl (ob, .inr (2, oF ob O')) H
    rw [hF]
    exact hP 0 _ rfl
  · cases hk; exact (hP 1 _ rfl : H[ob + 1]? = some (vp_cell (t 0) (8, .inl (O 1)))).trans (congrArg some (vp_cell_ext (h 1 (by decide) (by decide) (by decide))))
  · cases hk; exact (hP 2 _ rfl : H[ob + 2]? = some (vp_cell (t 0) (8, .inl (O 2)))).trans (congrArg some (vp_cell_ext (h 2 (by decide) (by decide) (by decide))))
  · cases hk; exact hP 3 _ rfl
  · cases hk; exact hP 4 _ rfl
  · cases hk; exact (hP 5 _ rfl : H[ob + 5]? = some (vp_cell (t 0) (6, .inl (O 5)))).trans (congrArg some (vp_cell_ext (h 5 (by decide) (by decide) (by decide))))
  · cases hk; exact (hP 6 _ rfl : H[ob + 6]? = some (vp_cell (t 0) (6, .inl (O 6)))).trans (congrArg some (vp_cell_ext (h 6 (by decide) (by decide) (by decide))))
  · cases hk; exact (hP 7 _ rfl : H[ob + 7]? = some (vp_cell (t 0) (6, .inl (O 7)))).trans (congrArg some (vp_cell_ext (h 7 (by decide) (by decide) (by decide))))
  · cases hk; exact (hP 8 _ rfl : H[ob + 8]? = some (vp_cell (t 0) (6, .inl (O 8)))).trans (congrArg some (vp_cell_ext (h 8 (by decide) (by decide) (by decide))))
  · cases hk; exact (hP 9 _ rfl : H[ob + 9]? = some (vp_cell (t 0) (6, .inl (O 9)))).trans (congrArg some (vp_cell_ext (h 9 (by decide) (by decide) (by decide))))
  · cases hk; exact (hP 10 _ rfl : H[ob + 10]? = some (vp_cell (t 0) (6, .inl (O 10)))).trans (congrArg some (vp_cell_ext (h 10 (by decide) (by decide) (by decide))))
  · cases hk; exact (hP 11 _ rfl : H[ob + 11]? = some (vp_cell (t 0) (6, .inl (O 11)))).trans (congrArg some (vp_cell_ext (h 11 (by decide) (by decide) (by decide))))
  · cases hk; exact (hP 12 _ rfl : H[ob + 12]? = some (vp_cell (t 0) (6, .inl (O 12)))).trans (congrArg some (vp_cell_ext (h 12 (by decide) (by decide) (by decide))))
  · cases hk; exact (hP 13 _ rfl : H[ob + 13]? = some (vp_cell (t 0) (6, .inl (O 13)))).trans (congrArg some (vp_cell_ext (h 13 (by decide) (by decide) (by decide))))
  · cases hk; exact (hP 14 _ rfl : H[ob + 14]? = some (vp_cell (t 0) (6, .inl (O 14)))).trans (congrArg some (vp_cell_ext (h 14 (by decide) (by decide) (by decide))))
/-- the doors that are shut -/
def shS (r : RT) : Int32 := nI (2 ^ nD r - 1) ^^^ r 1
/-- an office's columns by a row and what else it keeps of an hour -/
def oC (r : RT) (A : BT) : BT := fun c => match c with
  | 0 => fun k => match k with
    | 0 => r 0
    | 1 => shS r
    | 2 => r 2
    | 3 => r 3
    | 4 => r 4
    | _ => r 5
  | 1 => fun d => r (6 + 2 * d)
  | 2 => fun d => r (6 + 2 * d + 1)
  | 5 => fun j => r (37 + 6 * j + 1)
  | 6 => fun j => r (37 + 6 * j + 2)
  | 7 => fun j => r (37 + 6 * j + 3)
  | 8 => fun j => r (37 + 6 * j + 4)
  | 9 => fun j => r (37 + 6 * j + 5)
  | c => A c
/-- its songs stand, each by itself, at lo or above -/
def SG (D : va_G) (lo : Nat) (sg : GT) (r : RT) (H : Heap) : Prop := (∀ i, i < 5 → i < nS r → ∃ a, sg i = some a ∧ lo ≤ a ∧ OB D a (9 + ix (so r i 0)) [.int (so r i 1), .int (so r i 2)] H) ∧ ∀ i, i < 5 → ∀ a, sg i = some a → lo ≤ a ∧ ∃ k v0 v1, k < 6 ∧ OB D a (9 + k) [.int v0, .int v1] H
def KD (kb : Nat) (kd : GT) (r : RT) : Prop := (∀ j, j < 6 → j < nH r → kd j = some (kb + ix (hd r j 0))) ∧ ∀ j, j < 6 → ∀ a, kd j = some a → ∃ k, k < 6 ∧ a = kb + k
def KO (D : va_G) (kb : Nat) (H : Heap) : Prop := ∀ k, k < 6 → OB D (kb + k) (3 + k) [] H
def OV (D : va_G) (t : Nat → ClassId) (ob kb lo : Nat) (sg kd : GT) (r : RT) (A : BT) (H : Heap) : Prop := OR D t ob (oC r A) sg kd H ∧ SG D lo sg r H ∧ KD kb kd r ∧ KO D kb H
/-- two rows alike in their songs and in the heads' kinds -/
def SK (r r' : RT) : Prop := (∀ q, q = 2 ∨ q = 3 ∨ (22 ≤ q ∧ q < 37) → r' q = r q) ∧ ∀ j, j < 6 → hd r' j 0 = hd r j 0
theorem SK.rf (r : RT) : SK r r := ⟨fun _ _ => rfl, fun _ _ => rfl⟩
theorem SK.tr {a b d : RT} (h : SK a b) (g : SK b d) : SK a d := ⟨fun q hq => (g.1 q hq).trans (h.1 q hq), fun j hj => (g.2 j hj).trans (h.2 j hj)⟩
theorem SG.kept {D : va_G} {lo : Nat} {sg : GT} {r : RT} {H H1 : Heap} (h : SG D lo sg r H) (hq : ∀ q, lo ≤ q → q < H.size → H1[q]? = H[q]?) : SG D lo sg r H1 := by
  refine ⟨fun i h5 hi => ?_, fun i h5 a ha => ?_⟩
  · obtain ⟨a, h1, h2, h3⟩ := h.1 i h5 hi
    exact ⟨a, h1, h2, h3.kept (hq a h2 h3.lt)⟩
  · obtain ⟨h1, k, v0, v1, hk, hO⟩ := h.2 i h5 a ha
    exact ⟨h1, k, v0, v1, hk, hO.kept (hq a h1 hO.lt)⟩
theorem SG.row {D : va_G} {lo : Nat} {sg : GT} {r r' : RT} {H : Heap} (h : SG D lo sg r H) (hs : SK r r') : SG D lo sg r' H := by
  refine ⟨fun i h5 hi => ?_, h.2⟩
  rw [show nS r' = nS r from nS_eq (hs.1 2 (Or.inl rfl))] at hi
  obtain ⟨a, h1, h2, h3⟩ := h.1 i h5 hi
  refine ⟨a, h1, h2, ?_⟩
  rw [show so r' i 0 = so r i 0 from hs.1 _ (by omega), show so r' i 1 = so r i 1 from hs.1 _ (by omega), show so r' i 2 = so r i 2 from hs.1 _ (by omega)]
  exact h3
theorem KD.row {kb : Nat} {kd : GT} {r r' : RT} (h : KD kb kd r) (hs : SK r r') : KD kb kd r' := by
  refine ⟨fun j h6 hj => ?_, h.2⟩
  rw [show nH r' = nH r from nH_eq (hs.1 3 (Or.inr (Or.inl rfl)))] at hj
  rw [hs.2 j h6]
  exact h.1 j h6 hj
theorem KO.kept {D : va_G} {kb : Nat} {H H1 : Heap} (h : KO D kb H) (hq : ∀ q, kb ≤ q → q < kb + 6 → H1[q]? = H[q]?) : KO D kb H1 := fun k hk => (h k hk).kept (hq _ (by omega) (by omega))
/-- the office behind a change inside of it -/
theorem OV.put {D : va_G} {t : Nat → ClassId} {ob kb lo : Nat} {sg kd : GT} {r r' : RT} {A A' : BT} {H H1 : Heap} (h : OV D t ob kb lo sg kd r A H) (hk : kb + 6 ≤ ob) (hlo : ob + 15 ≤ lo) (hR : OR D t ob (oC r' A') sg kd H1) (hq : ∀ q, q < H.size → ¬ oA ob q → H1[q]? = H[q]?) (hs : SK r r') : OV D t ob kb lo sg kd r' A' H1 :=
  ⟨hR, (h.2.1.kept (fun q h1 h2 => hq q h2 (fun z => by have := z.2; omega))).row hs, h.2.2.1.row hs, h.2.2.2.kept (fun q h1 h2 => hq q (by have := (h.2.2.2 (q - kb) (by omega)).lt; omega) (fun z => by have := z.1; omega))⟩
/-- .. behind a change elsewhere -/
theorem OV.kept {D : va_G} {t : Nat → ClassId} {ob kb lo : Nat} {sg kd : GT} {r : RT} {A : BT} {H H1 : Heap} (h : OV D t ob kb lo sg kd r A H) (hq : ∀ q, q < H.size → (oA ob q ∨ lo ≤ q ∨ (kb ≤ q ∧ q < kb + 6)) → H1[q]? = H[q]?) : OV D t ob kb lo sg kd r A H1 :=
  ⟨va_P.kept h.1 (fun k q hk => hq _ (h.1 k q hk).lt (Or.inl (by have := oL_at hk; exact ⟨by omega, by omega⟩))), h.2.1.kept (fun q h1 h2 => hq q h2 (Or.inr (Or.inl h1))), h.2.2.1, h.2.2.2.kept (fun q h1 h2 => hq q (by have := (h.2.2.2 (q - kb) (by omega)).lt; omega) (Or.inr (Or.inr ⟨h1, h2⟩)))⟩
/-- a head's place changed; one of the hour's columns changed -/
theorem SK_hd {r : RT} {j k : Nat} {v : Int32} (hk : 1 ≤ k ∧ k ≤ 5) : SK r (upd r (37 + 6 * j + k) v) := ⟨fun q hq => upd_ne _ _ (by omega), fun i hi => upd_ne _ _ (by omega)⟩
theorem oC_col {r : RT} {j k q : Nat} {v : Int32} : upd (fun i => r (37 + 6 * i + k)) j v q = upd r (37 + 6 * j + k) v (37 + 6 * q + k) := by
  unfold upd
  by_cases e : q = j
  · subst e; rw [if_pos rfl, if_pos rfl]
  · rw [if_neg e, if_neg (by omega)]
theorem oC_off {r : RT} {j k k' q : Nat} {v : Int32} (h : k ≠ k') (h1 : k ≤ 5) (h2 : k' ≤ 5) : r (37 + 6 * q + k') = upd r (37 + 6 * j + k) v (37 + 6 * q + k') := (upd_ne _ _ (by omega)).symm
theorem oC_hd {r : RT} {A : BT} {j k : Nat} {v : Int32} (hk : 1 ≤ k ∧ k ≤ 5) : ∀ c, c < 15 → c ≠ 3 → c ≠ 4 → ∀ q, q < oN c → up2 (oC r A) (4 + k) j v c q = oC (upd r (37 + 6 * j + k) v) A c q := by
  intro c h15 h3 h4 q hq
  have hk' : k = 1 ∨ k = 2 ∨ k = 3 ∨ k = 4 ∨ k = 5 := by omega
  have hsh : shS (upd r (37 + 6 * j + k) v) = shS r := by
    unfold shS nD
    rw [upd_ne _ _ (show (0 : Nat) ≠ 37 + 6 * j + k by omega), upd_ne _ _ (show (1 : Nat) ≠ 37 + 6 * j + k by omega)]
  have hlow : ∀ z, z < 37 → upd r (37 + 6 * j + k) v z = r z := fun z hz => upd_ne _ _ (by omega)
  have : c = 0 ∨ c = 1 ∨ c = 2 ∨ c = 5 ∨ c = 6 ∨ c = 7 ∨ c = 8 ∨ c = 9 ∨ 10 ≤ c := by omega
  rcases this with rfl | rfl | rfl | rfl | rfl | rfl | rfl | rfl | hc
  · rw [up2_ne _ _ _ (by omega)]
    have : q = 0 ∨ q = 1 ∨ q = 2 ∨ q = 3 ∨ q = 4 ∨ q = 5 := by unfold oN at hq; simp at hq; omega
    rcases this with rfl | rfl | rfl | rfl | rfl | rfl
    · exact (hlow 0 (by omega)).symm
    · exact hsh.symm
    · exact (hlow 2 (by omega)).symm
    · exact (hlow 3 (by omega)).symm
    · exact (hlow 4 (by omega)).symm
    · exact (hlow 5 (by omega)).symm
  · rw [up2_ne _ _ _ (by omega)]; unfold oN at hq; simp at hq; exact (hlow _ (by omega)).symm
  · rw [up2_ne _ _ _ (by omega)]; unfold oN at hq; simp at hq; exact (hlow _ (by omega)).symm
  · rcases hk' with rfl | rfl | rfl | rfl | rfl <;> first | exact oC_col | exact oC_off (k' := 1) (by decide) (by decide) (by decide)
  · rcases hk' with rfl | rfl | rfl | rfl | rfl <;> first | exact oC_col | exact oC_off (k' := 2) (by decide) (by decide) (by decide)
  · rcases hk' with rfl | rfl | rfl | rfl | rfl <;> first | exact oC_col | exact oC_off (k' := 3) (by decide) (by decide) (by decide)
  · rcases hk' with rfl | rfl | rfl | rfl | rfl <;> first | exact oC_col | exact oC_off (k' := 4) (by decide) (by decide) (by decide)
  · rcases hk' with rfl | rfl | rfl | rfl | rfl <;> first | exact oC_col | exact oC_off (k' := 5) (by decide) (by decide) (by decide)
  · rw [up2_ne _ _ _ (by omega)]
    have : c = 10 ∨ c = 11 ∨ c = 12 ∨ c = 13 ∨ c = 14 := by omega
    rcases this with rfl | rfl | rfl | rfl | rfl <;> rfl
theorem oC_aux {r : RT} {A : BT} {c0 j : Nat} {v : Int32} (hc : 10 ≤ c0 ∧ c0 ≤ 14) : ∀ c, c < 15 → c ≠ 3 → c ≠ 4 → ∀ q, q < oN c → up2 (oC r A) c0 j v c q = oC r (up2 A c0 j v) c q := by
  intro c h15 h3 h4 q hq
  have : c = 0 ∨ c = 1 ∨ c = 2 ∨ c = 5 ∨ c = 6 ∨ c = 7 ∨ c = 8 ∨ c = 9 ∨ c = 10 ∨ c = 11 ∨ c = 12 ∨ c = 13 ∨ c = 14 := by omega
  have hc' : c0 = 10 ∨ c0 = 11 ∨ c0 = 12 ∨ c0 = 13 ∨ c0 = 14 := by omega
  rcases hc' with rfl | rfl | rfl | rfl | rfl <;> rcases this with rfl | rfl | rfl | rfl | rfl | rfl | rfl | rfl | rfl | rfl | rfl | rfl | rfl <;> rfl
theorem oC_low {r : RT} {z : Nat} {v : Int32} (h : 4 < z) : r z = upd r 4 v z := (upd_ne _ _ (by omega)).symm
theorem oC_hr {r : RT} {A : BT} {v : Int32} : ∀ c, c < 15 → c ≠ 3 → c ≠ 4 → ∀ q, q < oN c → up2 (oC r A) 0 4 v c q = oC (upd r 4 v) A c q := by
  intro c h15 h3 h4 q hq
  have hsh : shS (upd r 4 v) = shS r := by
    unfold shS nD
    rw [upd_ne _ _ (show (0 : Nat) ≠ 4 by omega), upd_ne _ _ (show (1 : Nat) ≠ 4 by omega)]
  have : c = 0 ∨ c = 1 ∨ c = 2 ∨ c = 5 ∨ c = 6 ∨ c = 7 ∨ c = 8 ∨ c = 9 ∨ c = 10 ∨ c = 11 ∨ c = 12 ∨ c = 13 ∨ c = 14 := by omega
  rcases this with rfl | rfl | rfl | rfl | rfl | rfl | rfl | rfl | rfl | rfl | rfl | rfl | rfl
  · have : q = 0 ∨ q = 1 ∨ q = 2 ∨ q = 3 ∨ q = 4 ∨ q = 5 := by unfold oN at hq; simp at hq; omega
    rcases this with rfl | rfl | rfl | rfl | rfl | rfl
    · rfl
    · exact hsh.symm
    · rfl
    · rfl
    · rfl
    · rfl
  · exact oC_low (z := 6 + 2 * q) (by omega)
  · exact oC_low (z := 6 + 2 * q + 1) (by omega)
  · exact oC_low (z := 37 + 6 * q + 1) (by omega)
  · exact oC_low (z := 37 + 6 * q + 2) (by omega)
  · exact oC_low (z := 37 + 6 * q + 3) (by omega)
  · exact oC_low (z := 37 + 6 * q + 4) (by omega)
  · exact oC_low (z := 37 + 6 * q + 5) (by omega)
  all_goals rfl
