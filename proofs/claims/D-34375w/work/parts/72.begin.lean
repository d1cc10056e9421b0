/-! the law's start: what the Statement gives -/
theorem eq_int {args : Array Value} {s : State} {a : Term} {z : Int32} (h : (Cond.eq a (.int z)).before args s = true) : a.eval args s none [] s = some (.int z) := by
  cases hv : a.eval args s none [] s with
  | none => simp [Cond.before, Cond.holds, Cond.value, hv] at h
  | some w =>
    have hz : (Term.int z).eval args s none [] s = some (.int z) := rfl
    simp only [Cond.before, Cond.holds, Cond.value, hv, hz] at h
    cases w <;> simp_all
abbrev fcS : Term := .static "Greenwave" "FIRST_CONFLICTS" "[I"
theorem el_at {args : Array Value} {s : State} {st : Term} {t k : Nat} {cell : Cell} {v : Int32} (hk : k < 16) (ht : st.eval args s none [] s = some (.ref t)) (hc : s.heap[t]? = some cell) (h : (Cond.eq (.elem st (.int (Int32.ofNat k))) (.int v)).before args s = true) : cell.slots[k]? = some (.int v) := by
  have h1 := eq_int h
  have h2 : (if Int32.ofNat k < 0 then none else (s.arrayAt? t).bind fun c => c.slots[(Int32.ofNat k).toNatClampNeg]?) = some (.int v) := by
    rw [← h1]
    simp only [Term.eval, ht]
    rfl
  have e0 : ¬ Int32.ofNat k < 0 := by
    rw [iI_nat, ← iI_0, iI_lt (by omega)]
    omega
  have e1 : (Int32.ofNat k).toNatClampNeg = k := by
    rw [iI_nat]
    exact iI_cl rfl (by omega)
  rw [if_neg e0, e1] at h2
  cases ha : s.arrayAt? t with
  | none => rw [ha] at h2; cases h2
  | some c =>
    rw [ha] at h2
    obtain ⟨hcb, -, -, -⟩ := State.arrayAt?_spec ha
    have e2 : c = cell := Option.some.inj (hcb.symm.trans hc)
    rw [← e2]
    exact h2
theorem ln_at {args : Array Value} {s : State} {st : Term} {t : Nat} {cell : Cell} (ht : st.eval args s none [] s = some (.ref t)) (hc : s.heap[t]? = some cell) (h : (Cond.eq (.length st) (.int 16)).before args s = true) : cell.slots.size = 16 := by
  have h1 := eq_int h
  have h2 : ((s.arrayAt? t).bind fun c => if c.slots.size < 2 ^ 31 then some (Value.int c.slots.size.toInt32) else none) = some (.int 16) := by
    rw [← h1]
    simp only [Term.eval, ht]
    rfl
  cases ha : s.arrayAt? t with
  | none => rw [ha] at h2; cases h2
  | some c =>
    rw [ha] at h2
    obtain ⟨hcb, -, -, -⟩ := State.arrayAt?_spec ha
    have e2 : c = cell := Option.some.inj (hcb.symm.trans hc)
    rw [← e2]
    have h3 : (if c.slots.size < 2 ^ 31 then some (Value.int c.slots.size.toInt32) else none) = some (.int 16) := h2
    by_cases hs : c.slots.size < 2 ^ 31
    · rw [if_pos hs] at h3
      have h4 : iI (c.slots.size : Int) = iI 16 := by
        have h5 := Option.some.inj h3
        rw [← iI_nat]
        exact Value.int.inj h5
      have := (iI_inj (by omega)).mp h4
      omega
    · rw [if_neg hs] at h3
      cases h3
theorem fc_start {args : Array Value} {s : State} (hg : (Jvm.Cond.and given_1 narrow_1).before args s = true) : ∃ (t : Nat) (cell : Cell), fcS.eval args s none [] s = some (.ref t) ∧ s.heap[t]? = some cell ∧ s.vm.findClass "[I" = some cell.cls ∧ (∀ k, cell.vm ≠ .statics k) ∧ cell.vm ≠ .unknown ∧ ∀ cI : ClassId, cell.slots = (arrV cI 16 (fun j => .int (iI (fcF j)))).slots := by
  have hs := flat_of_before _ hg
  obtain ⟨t, c, cell, k, q1, q2, q3, q4, q5, q6, -⟩ := Cond.exactly_spec (args := args) (first := s) (o := none) (s := s) (idx := []) (t := fcS) (cls := "[I") (hs _ (by decide +kernel))
  obtain ⟨⟨r1, -⟩, r2⟩ := Cond.arrayOf_spec (args := args) (first := s) (o := none) (s := s) (idx := []) (t := fcS) (ty := .int) (hs (.arrayOf fcS .int) (by decide +kernel)) q1 q3
  have hln := ln_at q1 q3 (hs (.eq (.length fcS) (.int 16)) (by decide +kernel))
  refine ⟨t, cell, q1, q3, by rw [q6]; exact q2, r1, r2, fun cI => ?_⟩
  have hj : ∀ j, j < 16 → cell.slots[j]? = some (.int (iI (fcF j))) := by
    intro j hj
    rcases (show j = 0 ∨ j = 1 ∨ j = 2 ∨ j = 3 ∨ j = 4 ∨ j = 5 ∨ j = 6 ∨ j = 7 ∨ j = 8 ∨ j = 9 ∨ j = 10 ∨ j = 11 ∨ j = 12 ∨ j = 13 ∨ j = 14 ∨ j = 15 by omega) with rfl | rfl | rfl | rfl | rfl | rfl | rfl | rfl | rfl | rfl | rfl | rfl | rfl | rfl | rfl | rfl
    · exact el_at (v := -1) (by decide) q1 q3 (hs _ (by decide +kernel))
    · exact el_at (v := -1) (by decide) q1 q3 (hs _ (by decide +kernel))
    · exact el_at (v := 3) (by decide) q1 q3 (hs _ (by decide +kernel))
    · exact el_at (v := 3) (by decide) q1 q3 (hs _ (by decide +kernel))
    · exact el_at (v := -1) (by decide) q1 q3 (hs _ (by decide +kernel))
    · exact el_at (v := -1) (by decide) q1 q3 (hs _ (by decide +kernel))
    · exact el_at (v := 3) (by decide) q1 q3 (hs _ (by decide +kernel))
    · exact el_at (v := 3) (by decide) q1 q3 (hs _ (by decide +kernel))
    · exact el_at (v := 3) (by decide) q1 q3 (hs _ (by decide +kernel))
    · exact el_at (v := 3) (by decide) q1 q3 (hs _ (by decide +kernel))
    · exact el_at (v := -1) (by decide) q1 q3 (hs _ (by decide +kernel))
    · exact el_at (v := -1) (by decide) q1 q3 (hs _ (by decide +kernel))
    · exact el_at (v := 3) (by decide) q1 q3 (hs _ (by decide +kernel))
    · exact el_at (v := 3) (by decide) q1 q3 (hs _ (by decide +kernel))
    · exact el_at (v := -1) (by decide) q1 q3 (hs _ (by decide +kernel))
    · exact el_at (v := -1) (by decide) q1 q3 (hs _ (by decide +kernel))
  refine Array.ext_getElem? fun i => ?_
  by_cases hi : i < 16
  · rw [hj i hi, arrV_read _ _ hi]
  · rw [Array.getElem?_eq_none (by omega), Array.getElem?_eq_none (by rw [arrV_size]; omega)]
theorem arr_ty {args : Array Value} {s : State} {ty : FieldType} (h : (Cond.arrayClass ty).before args s = true) : ∃ c : ClassId, s.vm.findClass ("[" ++ ty.toString) = some c ∧ ArrOfT s c ty := by
  obtain ⟨c, k, comp, h1, h2, h3⟩ := Cond.arrayClass_spec h
  exact ⟨c, h1, fun n z => ⟨fun q hq => (by cases hq), k, h2, comp, h3⟩⟩
set_option maxHeartbeats 4000000 in
/-- what every method finds, at the law's start -/
theorem kk_start {args : Array Value} {s : State} (hts : ∀ w ∈ lw_tbl, w.before args s = true) (hg : (Jvm.Cond.and given_1 narrow_1).before args s = true) : ∃ E : EP, eN E = s.heap.size ∧ kk E s s.heap := by
  have hta : ∀ w ∈ lw_all, w.before args s = true := fun w h => hts w (lw_all_tbl h)
  have hs := flat_of_before _ hg
  obtain ⟨t, cell, f1, f2, f3, f4, f5, f6⟩ := fc_start hg
  obtain ⟨c1, i1, hK1⟩ := u_known (C := RX1) (T := TX1) (N := 6) (n := 6) hta in_X1 (hta _ q59)
  obtain ⟨c2, i2, hK2⟩ := u_known (C := RX2) (T := TX2) (N := 14) (n := 14) hta in_X2 (hta _ q72)
  obtain ⟨c3, i3, hK3⟩ := u_known (C := RX3) (T := TX3) (N := 27) (n := 27) hta in_X3 (hta _ q592)
  obtain ⟨aI, aI1, aI2⟩ := arr_ty (hta _ q141)
  obtain ⟨aZ, aZ1, aZ2⟩ := arr_ty (hta _ q450)
  obtain ⟨aJ, aJ1, aJ2⟩ := arr_ty (hta _ q919)
  have hoI : va_AA .int s := hts (.arrayOver (.array .int)) (by decide +kernel)
  have hoZ : va_AA .boolean s := hts (.arrayOver (.array .boolean)) (by decide +kernel)
  have hoG : va_AO "Greenwave$Junction" s := hts (.arrayOver (.object "Greenwave$Junction")) (by decide +kernel)
  obtain ⟨gC, gA, gK, g1, g2, g3, g4, g5⟩ := Cond.arrayOver_spec hoG
  obtain ⟨pC, pA, pK, p1, p2, p3, p4, p5⟩ := arrayOverA_spec hoI
  obtain ⟨zC, zA, zK, z1, z2, z3, z4, z5⟩ := arrayOverA_spec hoZ
  have hA : ∀ a : Nat, a < s.heap.size → ¬ s.heap.size ≤ a := fun a h => Nat.not_le.mpr h
  refine ⟨((fun k => if k = 0 then c1 else if k = 1 then c2 else c3, fun k => if k = 0 then i1 else if k = 1 then i2 else i3), s.heap.size, t, fun k => if k = 0 then aI else if k = 1 then gA else if k = 2 then aZ else if k = 3 then aJ else if k = 4 then pA else zA), rfl, ⟨?_, ?_⟩, ⟨?_, ?_, ?_, ?_, ?_, hoG, hoI, hoZ⟩, ?_, ?_, ?_, ?_, ?_, ?_, Nat.le_refl _⟩
  · intro k q hq
    rcases k with _ | _ | _ | k
    · cases hq; exact hK1
    · cases hq; exact hK2
    · cases hq; exact hK3
    · simp [vwCl] at hq
  · intro k q hq
    rcases k with _ | _ | _ | _ | _ | _ | k
    · cases hq; exact ⟨aI2, aI1⟩
    · cases hq; exact ⟨fun n z => ⟨fun q hq => (by cases hq), gK, g3, gC, g4⟩, gK, gC, g3, g4, g1, g5⟩
    · cases hq; exact ⟨aZ2, aZ1⟩
    · cases hq; exact ⟨aJ2, aJ1⟩
    · cases hq; exact ⟨fun n z => ⟨fun q hq => (by cases hq), pK, p3, pC, p4⟩, p5⟩
    · cases hq; exact ⟨fun n z => ⟨fun q hq => (by cases hq), zK, z3, zC, z4⟩, z5⟩
    · simp [eTy] at hq
  · intro w hw
    exact va_Nw.of rfl (hts _ ((by decide +kernel : ∀ w ∈ nFl, Cond.fieldLinkNest w.1 w.2.1 w.2.2.1 w.2.2.2.1 w.2.2.2.2.1 w.2.2.2.2.2 ∈ lw_tbl) w hw))
  · exact va_Nw.of rfl (hts _ (by decide +kernel))
  · intro w hw
    exact va_Nw.of rfl (hts _ ((by decide +kernel : ∀ w ∈ nCa, Cond.castable w.1 w.2 ∈ lw_tbl) w hw))
  · intro w hw
    exact va_Nw.of rfl (hts _ ((by decide +kernel : ∀ w ∈ nDe, Cond.declares w ∈ lw_tbl) w hw))
  · intro w hw
    simp only [nNc, List.mem_cons, List.not_mem_nil, or_false] at hw
    rcases hw with rfl | rfl | rfl | rfl | rfl | rfl <;> exact va_Nc.of (args := args) (hs _ (by decide +kernel))
  · exact ⟨pK, p3, by
      have e : pC = aI := Option.some.inj (p1.symm.trans aI1)
      rw [p4, e]; rfl⟩
  · exact ⟨zK, z3, by
      have e : zC = aZ := Option.some.inj (z1.symm.trans aZ1)
      rw [z4, e]; rfl⟩
  · exact vx_Zqof (args := args) (hts _ (by decide +kernel)) (hts _ (by decide +kernel)) (hs _ (by decide +kernel)) hA
  · exact vx_Zqof (args := args) (hts _ (by decide +kernel)) (hts _ (by decide +kernel)) (hs _ (by decide +kernel)) hA
  · exact va_Zof (args := args) (hts _ (by decide +kernel)) (hts _ (by decide +kernel)) f1 hA
  · refine ⟨(Array.getElem?_eq_some_iff.mp f2).1, cell, f2, ?_, f4, f5, f6 _⟩
    exact Option.some.inj (f3.symm.trans (va_nm_int (s := s) (cA := aI) aI1))
