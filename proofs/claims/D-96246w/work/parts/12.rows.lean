/-! MORE ROWS: names for the top of the stack, switches, numbers -/
set_option maxRecDepth 100000
section ZR
variable {p : Program} {l : Launch} {e : Env} {R : Room} {s : State} {m : MethodId} {args : Array Value} {below : List Frame} {meth : Method} {c : Code} {H : Heap} {locs : List Loc} {cells slots : Nat} {Q : State → Prop} {cc : ByteArray} {pc : Nat} {ls : Array Slot} {rest : List Value}
theorem z_top {x y : Int32} (h : x = y) (k : W p l e R s m args below meth c H locs cells slots Q (F0 m pc ls (.int y :: rest))) : W p l e R s m args below meth c H locs cells slots Q (F0 m pc ls (.int x :: rest)) := by
  subst h; exact k
theorem z_stk {st st' : List Value} (h : st = st') (k : W p l e R s m args below meth c H locs cells slots Q (F0 m pc ls st')) : W p l e R s m args below meth c H locs cells slots Q (F0 m pc ls st) := by
  subst h; exact k
/-- the end of a method that answers a truth -/
theorem z_bret {Qc : Array Value → State → Outcome → State → Prop} {free : Addr → Prop} {b : Bool} (hexec : p.tables.exec = Jvm.exec) (hb : c.code = cc) (hr : meth.sig.returnType = some .boolean)
    (hq : ∀ t : State, t.heap = H → s.WarmedH t.vm → Qc args s (.returned (some (.int (bI b)))) t) (hf : ∀ q ∈ locs, free q.base)
    (hdg : decode cc pc = .ok (.ireturn, 1)) (hlocks : meth.locks = false) : W p l e R s m args below meth c H locs cells slots (MQ below Qc args s cells slots free) (F0 m pc ls [.int (bI b)]) := by
  cases b with
  | true => exact W.zret (v := 1) hexec hb hr rfl hq hf hdg hlocks
  | false => exact W.zret (v := 0) hexec hb hr rfl hq hf hdg hlocks
/-- the ends of a method that reads alone -/
theorem z_iretR {free : Addr → Prop} {v r : Int32} (hexec : p.tables.exec = Jvm.exec) (hb : c.code = cc) (hr : meth.sig.returnType = some .int) (hv : v = r) (hf : ∀ q ∈ locs, free q.base) (hH : H = s.heap)
    (hdg : decode cc pc = .ok (.ireturn, 1)) (hlocks : meth.locks = false) : W p l e R s m args below meth c H locs cells slots (MQ below (QcRead r) args s cells slots free) (F0 m pc ls [.int v]) := by
  subst hv
  exact W.iret (v := v) hexec hb hr (fun tt ht _ => ⟨rfl, by rw [ht]; exact hH⟩) hf hdg hlocks
theorem z_bretR {free : Addr → Prop} {v : Int32} {b : Bool} (hexec : p.tables.exec = Jvm.exec) (hb : c.code = cc) (hr : meth.sig.returnType = some .boolean) (hv : v = bI b) (hf : ∀ q ∈ locs, free q.base) (hH : H = s.heap)
    (hdg : decode cc pc = .ok (.ireturn, 1)) (hlocks : meth.locks = false) : W p l e R s m args below meth c H locs cells slots (MQ below (QcRead (bI b)) args s cells slots free) (F0 m pc ls [.int v]) := by
  subst hv
  exact z_bret hexec hb hr (fun tt ht _ => ⟨rfl, by rw [ht]; exact hH⟩) hf hdg hlocks
end ZR
def zNe (x : Int32) : List Int32 → Prop
  | [] => True
  | k :: r => (¬ x = k) ∧ zNe x r
theorem zNe_not {x : Int32} : ∀ {ks : List Int32}, zNe x ks → ∀ k ∈ ks, ¬ x = k
  | [], _, k, h => by cases h
  | a :: r, hz, k, h => by
    rcases List.mem_cons.mp h with rfl | h
    · exact hz.1
    · exact zNe_not hz.2 k h
theorem z_tabOut {x : Int32} {lo hi : Int} (ks : List Int32) (h1 : ks.map Int32.toInt = (List.range (hi - lo + 1).toNat).map (fun i : Nat => lo + (i : Int))) (h2 : lo ≤ hi) (h : zNe x ks) : x.toInt < lo ∨ hi < x.toInt := by
  by_cases a : x.toInt < lo
  · exact Or.inl a
  by_cases b : hi < x.toInt
  · exact Or.inr b
  exfalso
  have hm : x.toInt ∈ (List.range (hi - lo + 1).toNat).map (fun i : Nat => lo + (i : Int)) := by
    refine List.mem_map.mpr ⟨(x.toInt - lo).toNat, List.mem_range.mpr (by omega), by omega⟩
  rw [← h1] at hm
  obtain ⟨k, hk, e⟩ := List.mem_map.mp hm
  exact zNe_not h k hk (Int32.toInt_inj.mp e.symm)
theorem z_lookOut {x : Int32} {d : Int} : ∀ {ps : List (Int × Int)} (ks : List Int32), ps.map (·.1) = ks.map Int32.toInt → zNe x ks → Op.lookupswitch.offset ps d x.toInt = d
  | [], [], _, _ => rfl
  | [], k :: r, h, _ => by cases h
  | q :: ps, [], h, _ => by cases h
  | (a, o) :: ps, k :: r, h, hz => by
    have h1 : a = k.toInt := by have := congrArg List.head? h; simpa using this
    have h2 : ps.map (·.1) = r.map Int32.toInt := by have := congrArg List.tail h; simpa using this
    rw [lv_osw hz.1 h1.symm]
    exact z_lookOut r h2 hz.2
/-- sums and products of numbers -/
theorem nI_addO {a b : Int32} {m n : Nat} (ha : a = nI m) (hb : b = nI n) : a + b = nI (m + n) := by subst ha; subst hb; exact nI_add m n
theorem nI_mulO {a b : Int32} {m n : Nat} (ha : a = nI m) (hb : b = nI n) : a * b = nI (m * n) := by subst ha; subst hb; exact pk_mul m n
theorem nI_subO {a b : Int32} {m n : Nat} (ha : a = nI m) (hb : b = nI n) (h : n ≤ m) : a - b = nI (m - n) := by subst ha; subst hb; exact pk_sub h
/-- two columns alike where they are read: one picture -/
theorem vp_cell_ext {cA : ClassId} {n : Nat} {f g : Nat → Int32} (h : ∀ k, k < n → f k = g k) : vp_cell cA (n, .inl f) = vp_cell cA (n, .inl g) := by
  rw [vp_cell_i, vp_cell_i]
  unfold arrV
  congr 1
  apply Array.ext
  · simp
  · intro i h1 h2
    simp at h1
    simp [h i h1]
/-- a whole column is changed -/
def upc (B : Nat → Nat → Int32) (c : Nat) (f : Nat → Int32) : Nat → Nat → Int32 := fun c' => if c' = c then f else B c'
section MR
variable {p : Program} {l : Launch} {e : Env} {R : Room} {s : State} {m : MethodId} {args : Array Value} {below : List Frame} {meth : Method} {c : Code} {H : Heap} {locs : List Loc} {cells slots : Nat} {cc : ByteArray} {pc : Nat} {ls : Array Slot} {D : va_G} {t : Nat → ClassId} {mb : Nat} {B : BT}
/-- the ends of a method of the model that writes -/
theorem m_iret {post : Int32 → BT → Prop} {v : Int32} (hexec : p.tables.exec = Jvm.exec) (hb : c.code = cc) (hr : meth.sig.returnType = some .int) (hp : post v B) (hP : MW D t mb B H) (hS : va_S (mA mb) s.heap H locs)
    (hdg : decode cc pc = .ok (.ireturn, 1)) (hlocks : meth.locks = false) : W p l e R s m args below meth c H locs cells slots (MQ below (va_Qi post (fun B' U => MW D t mb B' U.heap) (mA mb)) args s cells slots (mA mb)) (F0 m pc ls [.int v]) :=
  W.iret (v := v) hexec hb hr (fun tt ht _ => ⟨⟨v, B, rfl, hp, by show MW D t mb B tt.heap; rw [ht]; exact hP⟩, hS.F ht⟩) hS.2.2 hdg hlocks
theorem m_zret {post : Int32 → BT → Prop} {v : Int32} {b : Bool} (hexec : p.tables.exec = Jvm.exec) (hb : c.code = cc) (hr : meth.sig.returnType = some .boolean) (hv : v = bI b) (hp : post (bI b) B) (hP : MW D t mb B H) (hS : va_S (mA mb) s.heap H locs)
    (hdg : decode cc pc = .ok (.ireturn, 1)) (hlocks : meth.locks = false) : W p l e R s m args below meth c H locs cells slots (MQ below (va_Qi post (fun B' U => MW D t mb B' U.heap) (mA mb)) args s cells slots (mA mb)) (F0 m pc ls [.int v]) := by
  subst hv
  exact z_bret hexec hb hr (fun tt ht _ => ⟨⟨bI b, B, rfl, hp, by show MW D t mb B tt.heap; rw [ht]; exact hP⟩, hS.F ht⟩) hS.2.2 hdg hlocks
theorem m_vret {post : BT → Prop} (hexec : p.tables.exec = Jvm.exec) (hb : c.code = cc) (hr : meth.sig.returnType = none) (hp : post B) (hP : MW D t mb B H) (hS : va_S (mA mb) s.heap H locs)
    (hdg : decode cc pc = .ok (.return_, 1)) (hlocks : meth.locks = false) : W p l e R s m args below meth c H locs cells slots (MQ below (va_Qv post (fun B' U => MW D t mb B' U.heap) (mA mb)) args s cells slots (mA mb)) (F0 m pc ls []) :=
  W.vret hexec hb hr (fun tt ht _ => ⟨⟨B, rfl, hp, by show MW D t mb B tt.heap; rw [ht]; exact hP⟩, hS.F ht⟩) hS.2.2 hdg hlocks
end MR
theorem upc_upc (B : Nat → Nat → Int32) (c : Nat) (f g : Nat → Int32) : upc (upc B c f) c g = upc B c g := by
  funext c'
  unfold upc
  split <;> rfl
theorem upc_self (B : Nat → Nat → Int32) (c : Nat) : upc B c (B c) = B := by
  funext c'
  unfold upc
  split
  · rename_i h; rw [h]
  · rfl
theorem upc_same (B : Nat → Nat → Int32) (c : Nat) (f : Nat → Int32) : upc B c f c = f := by simp [upc]
theorem upc_ne (B : Nat → Nat → Int32) {c c' : Nat} (f : Nat → Int32) (h : c' ≠ c) : upc B c f c' = B c' := by simp [upc, h]
theorem up2_upc (B : Nat → Nat → Int32) (c j : Nat) (v : Int32) : up2 B c j v = upc B c (upd (B c) j v) := rfl
theorem upc_comm (B : Nat → Nat → Int32) {c d : Nat} (f g : Nat → Int32) (h : c ≠ d) : upc (upc B c f) d g = upc (upc B d g) c f := by
  funext c'
  unfold upc
  by_cases h1 : c' = c <;> by_cases h2 : c' = d <;> simp_all
