/-! rows of the corridor: fields of a nest mate -/
section CR
variable {p : Program} {l : Launch} {e : Env} {R : Room} {s : State} {m : MethodId} {args : Array Value} {below : List Frame} {meth : Method} {c : Code} {H : Heap} {locs : List Loc} {cells slots : Nat} {Q : State → Prop}
variable {cc : ByteArray} {nL : Nat} {own : String} {ret : Option FieldType} {pc : Nat} {ls : Array Slot} {rest : List Value} {E : EP}
theorem g_putN (X : gX p s m meth c cc nL args own ret) (hk : kk E s H) {A0 : Nat → Prop} (hS : va_S A0 s.heap H locs) {C : String} {T : u_T} {N ci index a : Nat} {host : String} (hA : A0 a ∧ eN E ≤ a) (hin : ∀ w ∈ u_ws C T N, w ∈ lw_all) (ty0 : Nat → FieldType) (hty : ∀ k, k < N → parseFieldDescriptor (T k).2.2.1 = some (ty0 k)) (hnm : ∀ a, a < N → ∀ b, b < N → a ≠ b → (T a).2.1 ≠ (T b).2.1) (hc : vwCl[ci]? = some (C, T, N)) {fs : List Value} (hcell : ce E a (.inr (ci, fs)) H) (k : Nat) (hkN : k < N) (i : Nat) (hw : nFl[i]? = some (own, index, (T k).1, (T k).2.1, (T k).2.2.1, host))
    (hfin : (T k).2.2.2 = false) {ty : FieldType} {v : Value} (hd : parseFieldDescriptor (T k).2.2.1 = some ty) (hn : narrow ty v = v) (hfit : fits ty v = true) (hl : k < fs.length) (hdg : decode cc pc = .ok (.putfield index, 3))
    (kk : ∀ (H1 : Heap) (locs1 : List Loc), ce E a (.inr (ci, fs.set k v)) H1 → kk E s H1 → H1.size = H.size → (∀ q : Nat, q ≠ a → H1[q]? = H[q]?) → va_S A0 s.heap H1 locs1 → W p l e R s m args below meth c H1 locs1 cells slots Q (F0 m (pc + 3) ls rest)) : W p l e R s m args below meth c H locs cells slots Q (F0 m pc ls (v :: .ref a :: rest)) := by
  have hap := va_apart (own := own) X.1.2.2.2.2 hin ty0 hty hnm hk.K hc
  obtain ⟨r, h1, cell, q1, q2, q3, q4⟩ := hcell
  have hr : r = (C, T, N) := Option.some.inj (h1.symm.trans hc)
  subst hr
  obtain ⟨hS1, hfc, kC, hkC, hkind⟩ := hk.K.1 ci _ hc
  obtain ⟨cf, kf, fi, f, hi, hsl⟩ := hS1 k hkN
  have hlay := X.1.2.2.2.2 _ (hin _ (u_in_lay hkN))
  unfold u_lay at hlay
  rw [if_neg (by rw [hfin]; decide)] at hlay
  have hst := (u_facts hfc hkC (u_lays X.1.2.2.2.2 hin hkN) hi).1
  have h6 := u_store hfc hkC hkind hlay hi hd hn hfit
  refine va_WputK (f := f) (host := host) X.1.1 X.1.2.1 X.1.2.2.2.1 (va_Nw.use rfl (hk.ev.1 _ (List.mem_of_getElem? hw))) hi hst (by rw [q2]; exact h6) q1 q3 (by rw [hsl]; exact k2_hasslot (q4 k hkN)) rfl rfl hdg fun H' e1 e2 e3 => ?_
  rw [hsl] at e1 ⊢
  exact kk H' _ ⟨_, hc, t_OB.to (V := updV (vp_V fs) k v) ⟨_, e1, q2, q3, t_set q4 hap hkN v⟩ (fun j _ => vp_updV_set hl v j)⟩ (hk.put hA.2 e2 e3) e2 e3 (hS.put e2 e3 hA.1)
/-- the first conflicts, read and copied -/
theorem g_getFC (X : gX p s m meth c cc nL args own ret) (hk : kk E s H) {index : Nat} {host : String} (i : Nat) (hw : nFl[i]? = some (own, index, "Greenwave", "FIRST_CONFLICTS", "[I", host)) (hdg : decode cc pc = .ok (.getstatic index, 3))
    (k : W p l e R s m args below meth c H locs cells slots Q (F0 m (pc + 3) ls (.ref (eT E) :: rest))) : W p l e R s m args below meth c H locs cells slots Q (F0 m pc ls rest) := by
  obtain ⟨cf, kf, fi, f, a, cell, h1, h2, h3, h4, h5, h6, h7, h8⟩ := hk.2.2.2.2.2.2.1
  exact va_WgetsN (host := host) X.1.1 X.1.2.1 X.1.2.2.2.1 (va_Nw.use rfl (hk.ev.1 _ (List.mem_of_getElem? hw))) h1 h2 h3 h4 h5 (fun e => by rw [e] at h6; cases h6) h7 rfl hdg k
theorem g_cloneFC (X : gX p s m meth c cc nL args own ret) (hk : kk E s H) {A0 : Nat → Prop} (hS : va_S A0 s.heap H locs) {index : Nat} (hlink : Cond.methodLink own index ⟨"[I", "clone", "()Ljava/lang/Object;"⟩ ∈ lw_all) (hls : ls.size = nL) (hW : (rest.map fun v => v.category).sum ≤ 8) (hR : 1 ≤ R.frames ∧ 22 ≤ R.locals ∧ cells + 1 ≤ R.cells ∧ slots + 16 ≤ R.slots) (hdg : decode cc pc = .ok (.invokevirtual index, 3))
    (k : ∀ (q : Nat) (H1 : Heap), q = H.size → ce E q (aI E 16 fcF) H1 → kk E s H1 → H1.size = H.size + 1 → (∀ q : Nat, q < H.size → H1[q]? = H[q]?) → va_S A0 s.heap H1 locs → W p l e R s m args below meth c H1 locs (cells + 1) (slots + 16) Q (F0 m (pc + 3) ls (.ref q :: rest))) : W p l e R s m args below meth c H locs cells slots Q (F0 m pc ls (.ref (eT E) :: rest)) := by
  obtain ⟨hT0, cell, g1, g2, g3, g4, g5⟩ := hk.2.2.2.2.2.2.2.1
  have hK0 := hk.K.2 0 _ rfl
  have hnm : s.vm.findClass "[I" = some (eA E 0) := va_nm_int hK0.2
  obtain ⟨c0, t0', f1, f2, f3⟩ := Cond.castable_spec (va_Nw.use (A := args) rfl (hk.ev.2.2.1 _ (List.mem_of_getElem? (i := 0) rfl)))
  cases hnm.symm.trans f1
  intro T hT XX
  have hcellT : T.heap[eT E]? = some cell := by rw [hT]; exact g1
  obtain ⟨-, kA, hkA, comp, hkind⟩ := State.isArrayOf_alike XX.warmed.alike (hK0.1 0 (fun _ => .null))
  obtain ⟨-, kS, hkS, compS, hkindS⟩ := hK0.1 0 (fun _ => .null)
  have hsz : cell.slots.size = 16 := by rw [g5, arrV_size]
  have hfit : ∀ (i : Nat) (v : Value), cell.slots[i]? = some v → fits .int v = true := fun i v hv => va_fit (cA := eA E 0) (n := 16) (F := fun j => .int (iI (fcF j))) (fun _ _ => rfl) i v (by rw [← g5]; exact hv)
  obtain ⟨vm', X', st⟩ := XX.cloneArray X.1.1 X.1.2.2.2.1 (X.1.2.2.2.2 _ hlink) (X.1.2.2.2.2 _ q83) (X.1.2.2.2.2 _ q84) (X.1.2.2.2.2 _ q85) (X.1.2.2.2.2 _ q86) (a := eT E) (cell := cell) hcellT g3 g4 (by rw [g2]; exact hnm) f2 (by rw [g2]; exact f3)
    (fun i v hv => by
      rw [g2]
      have hk' : T.vm.classes[eA E 0]? = some kA := hkA
      simpa [State.fitsSlot, State.slotType?, hk', hkind] using hfit i v hv)
    (g := F0 m pc ls (.ref (eT E) :: rest)) rfl (hls.trans X.1.2.2.1.symm) rfl (by rw [X.1.2.1]; exact hdg) hR.1 (by show 2 * 0 + _ + 14 ≤ _; omega) hR.2.2.1 (by rw [hsz]; exact hR.2.2.2) (hloader := by rw [g2]; exact Vm.clonesLoader_of_array hkS hkindS)
  have hcellE : ({ cls := cell.cls, slots := cell.slots } : Cell) = arrV (eA E 0) 16 (fun j => .int (iI (fcF j))) := by rw [g2, g5]; rfl
  rw [hcellE, hsz] at X'
  generalize hH1 : H.push (arrV (eA E 0) 16 (fun j => .int (iI (fcF j)))) = H1
  have z1 : H1.size = H.size + 1 := by rw [← hH1, Array.size_push]
  have e1 : H1[H.size]? = some (arrV (eA E 0) 16 (fun j => .int (iI (fcF j)))) := by rw [← hH1, Array.getElem?_push_size]
  have o1 : ∀ q : Nat, q < H.size → H1[q]? = H[q]? := fun q hq => by rw [← hH1, Array.getElem?_push, if_neg (Nat.ne_of_lt hq)]
  obtain ⟨t, b1, b2⟩ := k H.size H1 rfl e1 (hk.new z1 o1) z1 o1 (hS.new z1 o1) ((T.setVm vm').pushCell (arrV (eA E 0) 16 (fun j => .int (iI (fcF j))))) (by rw [← hH1, ← hT]; rfl) X'
  refine ⟨t, st t ?_, b2⟩
  rw [hcellE, hT]
  exact b1
theorem g_castI (X : gX p s m meth c cc nL args own ret) (hk : kk E s H) {index a n : Nat} {f : Nat → Int} (hlink : Cond.classLink own index "[I" ∈ lw_all) (hc : ce E a (aI E n f) H) (hdg : decode cc pc = .ok (.checkcast index, 3))
    (k : W p l e R s m args below meth c H locs cells slots Q (F0 m (pc + 3) ls (.ref a :: rest))) : W p l e R s m args below meth c H locs cells slots Q (F0 m pc ls (.ref a :: rest)) :=
  va_castA X.1.1 X.1.2.1 X.1.2.2.2.1 (X.1.2.2.2.2 _ hlink) (P1 hc) 0 rfl (va_nm_int (hk.K.2 0 _ rfl).2) hdg k
end CR
