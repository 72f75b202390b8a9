/-! AN OFFICE IS SET AS ANOTHER: both in one picture -/
set_option maxRecDepth 100000
def sL (t : Nat → ClassId) (ob oc : Nat) (O O2 : BT) (sg kd sg2 kd2 : GT) : va_W := oL t ob O sg kd ++ oL t oc O2 sg2 kd2
def sA (ob oc : Nat) : Nat → Prop := fun q => oA ob q ∨ oA oc q
theorem sL_D {t : Nat → ClassId} {ob oc : Nat} {O O2 : BT} {sg kd sg2 kd2 : GT} (hd : ob + 15 ≤ oc ∨ oc + 15 ≤ ob) : va_D (sA ob oc) (sL t ob oc O O2 sg kd sg2 kd2) :=
  va_D.app (oL_D fun q h => Or.inl h) (oL_D fun q h => Or.inr h) (fun i j p q hi hj => by have h1 := oL_at hi; have h2 := oL_at hj; omega)
def SW (D : va_G) (t : Nat → ClassId) (ob oc : Nat) (O O2 : BT) (sg kd sg2 kd2 : GT) (H : Heap) : Prop := va_P D vwCl (sL t ob oc O O2 sg kd sg2 kd2) H
theorem SW.fst {D : va_G} {t : Nat → ClassId} {ob oc : Nat} {O O2 : BT} {sg kd sg2 kd2 : GT} {H : Heap} (h : SW D t ob oc O O2 sg kd sg2 kd2 H) : OR D t ob O sg kd H := va_P.sub h [0, 1, 2, 3, 4, 5, 6, 7, 8, 9, 10, 11, 12, 13, 14] rfl
theorem SW.snd {D : va_G} {t : Nat → ClassId} {ob oc : Nat} {O O2 : BT} {sg kd sg2 kd2 : GT} {H : Heap} (h : SW D t ob oc O O2 sg kd sg2 kd2 H) : OR D t oc O2 sg2 kd2 H := va_P.sub h [15, 16, 17, 18, 19, 20, 21, 22, 23, 24, 25, 26, 27, 28, 29] rfl
theorem vp_cell_extq {cA : ClassId} {n : Nat} {f g : GT} (h : ∀ k, k < n → f k = g k) : vp_cell cA (n, .inr (.inr (.inr (.inr f)))) = vp_cell cA (n, .inr (.inr (.inr (.inr g)))) := by
  rw [vp_cell_q, vp_cell_q]
  unfold arrV
  congr 1
  apply Array.ext
  · simp
  · intro i h1 h2
    simp at h1
    simp [h i h1]
theorem OR_congrG {D : va_G} {t : Nat → ClassId} {ob : Nat} {O : BT} {sg kd sg' kd' : GT} {H : Heap} (hs : ∀ k, k < 5 → sg k = sg' k) (hk : ∀ k, k < 6 → kd k = kd' k) (hP : OR D t ob O sg kd H) : OR D t ob O sg' kd' H := by
  intro k q hq
  by_cases h3 : k = 3
  · subst h3; cases hq; exact (hP 3 _ rfl : H[ob + 3]? = some (vp_cell (t 3) (5, .inr (.inr (.inr (.inr sg)))))).trans (congrArg some (vp_cell_extq hs))
  · by_cases h4 : k = 4
    · subst h4; cases hq; exact (hP 4 _ rfl : H[ob + 4]? = some (vp_cell (t 4) (6, .inr (.inr (.inr (.inr kd)))))).trans (congrArg some (vp_cell_extq hk))
    · refine hP k q ?_
      rw [← hq]
      have h15 := (oL_at hq).2
      have : k = 0 ∨ k = 1 ∨ k = 2 ∨ k = 5 ∨ k = 6 ∨ k = 7 ∨ k = 8 ∨ k = 9 ∨ k = 10 ∨ k = 11 ∨ k = 12 ∨ k = 13 ∨ k = 14 := by omega
      rcases this with rfl | rfl | rfl | rfl | rfl | rfl | rfl | rfl | rfl | rfl | rfl | rfl | rfl <;> rfl
section SZ
variable {p : Program} {l : Launch} {e : Env} {R : Room} {s : State} {m : MethodId} {args : Array Value} {below : List Frame} {meth : Method} {c : Code} {H : Heap} {locs : List Loc} {cells slots : Nat} {Q : State → Prop} {cc : ByteArray} {pc : Nat} {ls : Array Slot} {rest : List Value} {D : va_G} {t : Nat → ClassId} {ob oc : Nat} {O O2 : BT} {sg kd sg2 kd2 : GT} {H0 : Heap} {index : Nat}
theorem s_put (hexec : p.tables.exec = Jvm.exec) (hb : c.code = cc) (hts : ∀ w ∈ lw_all, w.before args s = true) (hown : s.vm.findClass RX8 = some m.cls) (hKK : KK D t s) (hd : ob + 15 ≤ oc ∨ oc + 15 ≤ ob) (hP : SW D t ob oc O O2 sg kd sg2 kd2 H) (hS : va_S (sA ob oc) H0 H locs) (k j : Nat) (hk : k < 20) (hlink : (Cond.fieldLink RX8 index "SongThatStays$Office" (TX8 k).2.1 (TX8 k).2.2.1) ∈ lw_all) (hT : (TX8 k).1 = "SongThatStays$Office") (hfin : (TX8 k).2.2.2 = false) {x : Int32} (hdd : parseFieldDescriptor (TX8 k).2.2.1 = some .int) (hset : (oF ob O).set k (.int x) = oF ob (up2 O 0 j x)) (hdg : decode cc pc = .ok (.putfield index, 3))
    (kk : ∀ (H1 : Heap) (locs1 : List Loc), SW D t ob oc (up2 O 0 j x) O2 sg kd sg2 kd2 H1 → va_S (sA ob oc) H0 H1 locs1 → W p l e R s m args below meth c H1 locs1 cells slots Q (F0 m (pc + 3) ls rest)) : W p l e R s m args below meth c H locs cells slots Q (F0 m pc ls (.int x :: .ref ob :: rest)) := by
  refine va_put (D := D) (ci := 2) (C := RX8) (T := TX8) (N := 20) hexec hb hts in_X8 tyX8 tyX8_ok nmX8 hown hKK.1 hP (sL_D hd) hS 0 rfl rfl k hk (hts _ hlink) (fun _ h9 => by rw [hT] at h9; exact h9) hfin hdd rfl rfl hk hdg (fun H1 locs1 hP1 _ hS1 => kk H1 locs1 ?_ hS1)
  rw [hset] at hP1
  exact hP1
/-- a column copied -/
theorem s_copy (hexec : p.tables.exec = Jvm.exec) (hb : c.code = cc) (hml : c.maxLocals = ls.size) (hts : ∀ w ∈ lw_all, w.before args s = true) (hown : s.vm.findClass RX8 = some m.cls) (hlink : Cond.methodLink RX8 index arraycopyName ∈ lw_all) (hnat : Cond.native arraycopyName ∈ lw_all) (hstat : Cond.static arraycopyName ∈ lw_all) (hini : Cond.initialized "java/lang/System" ∈ lw_all) (hKK : KK D t s) (hd : ob + 15 ≤ oc ∨ oc + 15 ≤ ob) (hP : SW D t ob oc O O2 sg kd sg2 kd2 H) (hS : va_S (sA ob oc) H0 H locs) (q0 : Nat) {N : Nat} (ha0 : (sL t ob oc O O2 sg kd sg2 kd2)[15 + q0]? = some (oc + q0, .inl (t 0, N, .inl (O2 q0)))) (ha1 : (sL t ob oc O O2 sg kd sg2 kd2)[q0]? = some (ob + q0, .inl (t 0, N, .inl (O q0))))
    {n : Int32} (hn0 : ¬ n < 0) (hn : n.toNatClampNeg = N) (hset : (sL t ob oc O O2 sg kd sg2 kd2).set q0 (ob + q0, .inl (t 0, N, .inl (va_cpy (O2 q0) (O q0) 0 0 N))) = sL t ob oc (upc O q0 (va_cpy (O2 q0) (O q0) 0 0 N)) O2 sg kd sg2 kd2) (hfr : 1 ≤ R.frames) (hlo : (rest.map fun v => v.category).sum + (nativeFrameWords "java/lang/System" "arraycopy" 5 + 11) ≤ R.locals) (hdg : decode cc pc = .ok (.invokestatic index, 3))
    (kk : ∀ (H1 : Heap) (locs1 : List Loc), SW D t ob oc (upc O q0 (va_cpy (O2 q0) (O q0) 0 0 N)) O2 sg kd sg2 kd2 H1 → va_S (sA ob oc) H0 H1 locs1 → W p l e R s m args below meth c H1 locs1 cells slots Q (F0 m (pc + 3) ls rest)) : W p l e R s m args below meth c H locs cells slots Q (F0 m pc ls (.int n :: .int 0 :: .ref (ob + q0) :: .int 0 :: .ref (oc + q0) :: rest)) := by
  refine va_copyi hexec hb hml hown (hts _ hlink) (hts _ hnat) (hts _ hstat) (hts _ hini) hKK.1 hP (sL_D hd) hS (15 + q0) q0 0 0 ha0 ha1 rfl rfl rfl (by decide) (by decide) hn0 (by rw [hn]; show 0 + N ≤ N; omega) (by rw [hn]; show 0 + N ≤ N; omega) (fun i _ => rfl) hfr hlo hdg (fun H1 locs1 hP1 _ hS1 => kk H1 locs1 ?_ hS1)
  rw [hn] at hP1
  have hP2 : va_P D vwCl ((sL t ob oc O O2 sg kd sg2 kd2).set q0 (ob + q0, .inl (t 0, N, .inl (va_cpy (O2 q0) (O q0) 0 0 N)))) H1 := hP1
  rw [hset] at hP2
  exact hP2
theorem OB.any {E : String} {a ci : Nat} {fs : List Value} {q : vw_C} (hKK : KK D t s) (h : OB D a ci fs H) (hc : vwCl[ci]? = some q) (hz : va_Nw (.castable q.1 E) s) : va_Any E s H a := by
  obtain ⟨cell, h1, h2, h3⟩ := h.recv hKK hc
  obtain ⟨kC, hkC, -⟩ := Vm.findClass_spec h3
  obtain ⟨c0, t1, f1, f2, f3⟩ := Cond.castable_spec (va_Nw.use (A := #[]) rfl hz)
  refine ⟨cell, h1, h2, ⟨kC, hkC⟩, fun comp hcomp => ?_⟩
  cases h3.symm.trans f1
  cases hcomp.symm.trans f2
  exact f3
end SZ
