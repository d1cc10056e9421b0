/-! methods of the corridor: what is kept, what is thrown -/
theorem g_ws {A B : Nat → Prop} {H0 H : Heap} {locs : List Loc} (h : va_S A H0 H locs) (hAB : ∀ q, A q → B q) : va_S B H0 H locs := ⟨h.1, fun q h1 h2 => h.2.1 q h1 (fun z => h2 (hAB q z)), fun q hq => hAB _ (h.2.2 q hq)⟩
/-- a method's own new cells, kept when the corridor's are written -/
abbrev lkS (s0 : Nat) (H H1 : Heap) : Prop := ∀ q : Nat, s0 ≤ q → q < H.size → H1[q]? = H[q]?
section LK
variable {E : EP} {n s0 : Nat} {ad : Nat → Nat → Nat} {H H1 : Heap}
theorem lk_new (o : ∀ q : Nat, q < H.size → H1[q]? = H[q]?) : lkS s0 H H1 := fun q _ h => o q h
theorem lk_nA {A : Nat → Prop} (hA : ∀ q, A q → H.size ≤ q) (o : ∀ q : Nat, q < H.size → ¬ A q → H1[q]? = H[q]?) : ∀ q : Nat, q < H.size → H1[q]? = H[q]? := fun q h => o q h (fun z => by have := hA q z; omega)
theorem lk_put {k j : Nat} (hA : ∀ k j, gv n k j → ad k j < s0) (hv : gv n k j) (o : ∀ q : Nat, q ≠ ad k j → H1[q]? = H[q]?) : lkS s0 H H1 := fun q h _ => o q (by have := hA k j hv; omega)
theorem lk_W (hA : ∀ k j, gv n k j → ad k j < s0) (o : ∀ q : Nat, q < H.size → ¬ gW n ad H q → H1[q]? = H[q]?) : lkS s0 H H1 := fun q h h1 => o q h1 (by
  rintro (⟨k, j, hv, e⟩ | z)
  · have := hA k j hv; omega
  · omega)
end LK
theorem GP.lts {E : EP} {ad : Nat → Nat → Nat} {S : GS} {H : Heap} (h : GP E ad S H) : ∀ k j, gv (gN S) k j → ad k j < H.size := fun _ _ hv => h.lt hv
theorem GP.loc {E : EP} {ad : Nat → Nat → Nat} {S : GS} {H H1 : Heap} {s0 q : Nat} (h : GP E ad S H) (hA : ∀ k j, gv (gN S) k j → ad k j < s0) (hq : s0 ≤ q) (o : ∀ q' : Nat, q' ≠ q → H1[q']? = H[q']?) : GP E ad S H1 := h.kept fun k j hv => o _ (by have := hA k j hv; omega)
theorem arr_ext {c : ClassId} {n : Nat} {f g : Nat → Value} (h : ∀ i, i < n → f i = g i) : arrV c n f = arrV c n g := by
  unfold arrV
  congr 1
  congr 1
  funext j
  exact h j.val j.isLt
theorem ce_I {E : EP} {q n : Nat} {f g : Nat → Int} {H : Heap} (h : ce E q (aI E n f) H) (e : ∀ i, i < n → f i = g i) : ce E q (aI E n g) H := by
  have h1 : H[q]? = some (arrV (eA E 0) n (fun j => .int (iI (f j)))) := h
  rw [arr_ext (g := fun j => .int (iI (g j))) (fun i hi => by rw [e i hi])] at h1
  exact h1
theorem ce_B {E : EP} {q n : Nat} {f g : Nat → Int} {H : Heap} (h : ce E q (aB E n f) H) (e : ∀ i, i < n → f i = g i) : ce E q (aB E n g) H := by
  have h1 : H[q]? = some (arrV (eA E 2) n (fun j => .int (iI (f j)))) := h
  rw [arr_ext (g := fun j => .int (iI (g j))) (fun i hi => by rw [e i hi])] at h1
  exact h1
/-- where a corridor's cells may lie behind a call -/
abbrev adW (n1 n : Nat) (ad : Nat → Nat → Nat) (H : Heap) (ad1 : Nat → Nat → Nat) : Prop := ad1 6 0 = ad 6 0 ∧ ∀ k i, gv n1 k i → gW n ad H (ad1 k i)
/-- which class is thrown by which code -/
def xC (er : Int) (L : List String) (Ex : String) : Prop := ∃ k : Nat, er = (k : Int) + 1 ∧ L[k]? = some Ex
theorem xC.one {er : Int} {a Ex : String} (h : xC er [a] Ex) : er = 1 ∧ Ex = a := by
  obtain ⟨k, h1, h2⟩ := h
  cases k with
  | zero => exact ⟨h1, (Option.some.inj h2).symm⟩
  | succ k => cases h2
theorem xC.two {er : Int} {a b Ex : String} (h : xC er [a, b] Ex) : (er = 1 ∧ Ex = a) ∨ (er = 2 ∧ Ex = b) := by
  obtain ⟨k, h1, h2⟩ := h
  rcases k with _ | _ | k
  · exact Or.inl ⟨h1, (Option.some.inj h2).symm⟩
  · exact Or.inr ⟨h1, (Option.some.inj h2).symm⟩
  · cases h2
theorem xC.three {er : Int} {a b c Ex : String} (h : xC er [a, b, c] Ex) : (er = 1 ∧ Ex = a) ∨ (er = 2 ∧ Ex = b) ∨ (er = 3 ∧ Ex = c) := by
  obtain ⟨k, h1, h2⟩ := h
  rcases k with _ | _ | _ | k
  · exact Or.inl ⟨h1, (Option.some.inj h2).symm⟩
  · exact Or.inr (Or.inl ⟨h1, (Option.some.inj h2).symm⟩)
  · exact Or.inr (Or.inr ⟨h1, (Option.some.inj h2).symm⟩)
  · cases h2
abbrev nIx : String := "java/lang/IndexOutOfBoundsException"
abbrev nAr : String := "java/lang/IllegalArgumentException"
abbrev nSt : String := "java/lang/IllegalStateException"
def gXD (X : String → Prop) : String → State → State → Prop := fun Ex st t => X Ex ∧ va_F (fun q => st.heap.size ≤ q) st t
abbrev gCv (l : Launch) (E : EP) (y : MethodName) (cc : ByteArray) (nL : Nat) (d mc ms : Nat) (H : Heap) (As : List Value) (A : Nat → Prop) (P : Heap → Prop) (X : String → Prop) : Prop :=
  vx_Met l y (ws_ y cc nL none) (gR d mc ms) (gPc E H As) (gQv A P) (gXD X) mc ms A
abbrev gCi (l : Launch) (E : EP) (y : MethodName) (cc : ByteArray) (nL : Nat) (rt : FieldType) (d mc ms : Nat) (H : Heap) (As : List Value) (A : Nat → Prop) (P : Int → Heap → Prop) (X : String → Prop) : Prop :=
  vx_Met l y (ws_ y cc nL (some rt)) (gR d mc ms) (gPc E H As) (gQi A P) (gXD X) mc ms A
abbrev gCr (l : Launch) (E : EP) (y : MethodName) (cc : ByteArray) (nL : Nat) (rt : FieldType) (d mc ms : Nat) (H : Heap) (As : List Value) (A : Nat → Prop) (P : Nat → Heap → Prop) (X : String → Prop) : Prop :=
  vx_Met l y (ws_ y cc nL (some rt)) (gR d mc ms) (gPc E H As) (gQr A P) (gXD X) mc ms A
section XR
variable {p : Program} {l : Launch} {e : Env} {R : Room} {s : State} {m : MethodId} {args : Array Value} {below : List Frame} {meth : Method} {c : Code} {H : Heap} {locs : List Loc} {cells slots : Nat}
variable {cc : ByteArray} {nL : Nat} {own : String} {ret : Option FieldType} {pc : Nat} {ls : Array Slot} {rest : List Value} {E : EP} {Qc : Array Value → State → Outcome → State → Prop}
/-- it throws here -/
theorem g_thx (X : gX p s m meth c cc nL args own ret) (hno : ∀ x ∈ c.exceptionTable.toList, False) {mc ms mc' ms' : Nat} {Ex : String} {X2 : String → Prop} {A : Nat → Prop} {st0 : List Value} (hr : vx_Run p l e R s m args below meth c H locs cells slots mc ms (F0 m pc ls st0) rest (fun _ _ _ => False) (gXC Ex) (nA H)) (hS : va_S (nA s.heap) s.heap H locs) (hA : ∀ q, s.heap.size ≤ q → A q) (hx : X2 Ex) (hc : cells + mc ≤ mc' ∧ slots + ms ≤ ms') :
    W p l e R s m args below meth c H locs cells slots (vx_MQ below Qc (gXD X2) args s mc' ms' A) (F0 m pc ls st0) := by
  intro T hT X0
  rcases hr T hT X0 with ⟨v, st₀, t, T', L, h0, X', hL, e1, e2, hq, st⟩ | ⟨q, st₀, t, T', L, E', ce, h0, X', hL, e1, e2, ⟨hE, hF⟩, hce, hcv, hcl, st⟩
  · exact hq.elim
  · subst hE
    obtain ⟨hz, hq, hS1⟩ := vx_keep h0 e1 hS (fun q h1 h2 => by rw [h0] at h2; exact absurd h2 (Nat.not_le.mpr h1)) (fun q h => Nat.le_trans hS.1 h) hL hF
    obtain ⟨t2, a1, b1⟩ := vx_out (pc := pc) (ls := ls) (rest := rest) (Qc := Qc) (XC := gXD X2) (free := A) (mc := mc') (ms := ms') (fun x hx => (hno x hx).elim) X.2.2 (by rw [e1]; exact hce) hcv hcl (fun t ht ha => ⟨hx, hS1.F ht⟩) (fun z hz => hA _ (hS1.2.2 z hz)) hc.1 hc.2 T' rfl X'
    exact ⟨t2, st.trans a1, b1⟩
theorem g_thxS (X : gX p s m meth c cc nL args own ret) (hno : ∀ x ∈ c.exceptionTable.toList, False) (hk : kk E s H) {index maxL d mc ms mc' ms' : Nat} {As : List Value} {y : MethodName} {bytes : ByteArray} {rt : Option FieldType} {Ex : String} {X2 : String → Prop} {A : Nat → Prop}
    (hM : gT l E y bytes maxL rt d mc ms H As Ex) (n : Nat) (hT : GoodIn lw_all (va_wsS own index y (ws_ y bytes maxL rt))) (hy : y.cls ≠ "java/lang/invoke/MethodHandle" ∧ y.cls ≠ "java/lang/invoke/VarHandle" ∧ (parseMethodDescriptor y.desc).map (fun d => d.parameters.length) = some n)
    (hR : (d + 1 ≤ R.frames ∧ 8 + (maxL + 11) + 60 * d ≤ R.locals) ∧ cells + mc ≤ R.cells ∧ slots + ms ≤ R.slots) {st0 : List Value} (hst : st0 = As.reverse ++ rest) (hn : As.length = n) (hls : ls.size = nL) (hW : (rest.map fun v => v.category).sum ≤ 8) (hdg : decode cc pc = .ok (.invokestatic index, 3)) (hS : va_S (nA s.heap) s.heap H locs) (hA : ∀ q, s.heap.size ≤ q → A q) (hx : X2 Ex) (hc : cells + mc ≤ mc' ∧ slots + ms ≤ ms') :
    W p l e R s m args below meth c H locs cells slots (vx_MQ below Qc (gXD X2) args s mc' ms' A) (F0 m pc ls st0) :=
  g_thx X hno (vx_runS (As := As) (rest := rest) (g := F0 m pc ls st0) X.1 hM (va_cwS n X.1.2.2.2.2 hT rfl rfl rfl hy hR.1) ⟨gPc_blind, fun U hU hW => ⟨rfl, hU, hk.warm hW⟩⟩ rfl hn hls hst (lv_room hW) hdg hR.2) hS hA hx hc
theorem g_xrunV (X : gX p s m meth c cc nL args own ret) (hk : kk E s H) {C : String} {T : u_T} {N ci index a maxL d mc ms : Nat} {fs As : List Value} {y : MethodName} {bytes : ByteArray} {rt : Option FieldType} {Qc' : Array Value → State → Outcome → State → Prop} {XC : String → State → State → Prop} {free : Nat → Prop} (hc : vwCl[ci]? = some (C, T, N)) (hcell : ce E a (.inr (ci, fs)) H)
    (hM : vx_Met l y (ws_ y bytes maxL rt) (gR d mc ms) (gPc E H (.ref a :: As)) Qc' XC mc ms free) (n : Nat) (hT : GoodIn lw_all (wsV own index C y (ws_ y bytes maxL rt))) (hy : y.cls = C ∧ y.cls ≠ "java/lang/invoke/MethodHandle" ∧ y.cls ≠ "java/lang/invoke/VarHandle" ∧ (parseMethodDescriptor y.desc).map (fun d => d.parameters.length) = some n)
    (hR : (d + 1 ≤ R.frames ∧ 8 + (maxL + 11) + 60 * d ≤ R.locals) ∧ cells + mc ≤ R.cells ∧ slots + ms ≤ R.slots) {st0 : List Value} (hst : st0 = As.reverse ++ .ref a :: rest) (hn : As.length = n) (hls : ls.size = nL) (hW : (rest.map fun v => v.category).sum ≤ 8) (hdg : decode cc pc = .ok (.invokevirtual index, 3)) :
    vx_Run p l e R s m args below meth c H locs cells slots mc ms (F0 m pc ls st0) rest (Qc' (Value.ref a :: As).toArray) XC free :=
  vx_runV (C := C) (b := a) (As := As) (rest := rest) (g := F0 m pc ls st0) X.1 hM (cwV n X.1.2.2.2.2 hT rfl rfl rfl hy hR.1) ⟨gPc_blind, va_recv hk.K (P1 hcell) (q0 := 0) hc rfl, fun U hU hW => ⟨rfl, hU, hk.warm hW⟩⟩ rfl hn hls hst (lv_room hW) hdg hR.2
theorem g_xrunS (X : gX p s m meth c cc nL args own ret) (hk : kk E s H) {index maxL d mc ms : Nat} {As : List Value} {y : MethodName} {bytes : ByteArray} {rt : Option FieldType} {Qc' : Array Value → State → Outcome → State → Prop} {XC : String → State → State → Prop} {free : Nat → Prop}
    (hM : vx_Met l y (ws_ y bytes maxL rt) (gR d mc ms) (gPc E H As) Qc' XC mc ms free) (n : Nat) (hT : GoodIn lw_all (va_wsS own index y (ws_ y bytes maxL rt))) (hy : y.cls ≠ "java/lang/invoke/MethodHandle" ∧ y.cls ≠ "java/lang/invoke/VarHandle" ∧ (parseMethodDescriptor y.desc).map (fun d => d.parameters.length) = some n)
    (hR : (d + 1 ≤ R.frames ∧ 8 + (maxL + 11) + 60 * d ≤ R.locals) ∧ cells + mc ≤ R.cells ∧ slots + ms ≤ R.slots) {st0 : List Value} (hst : st0 = As.reverse ++ rest) (hn : As.length = n) (hls : ls.size = nL) (hW : (rest.map fun v => v.category).sum ≤ 8) (hdg : decode cc pc = .ok (.invokestatic index, 3)) :
    vx_Run p l e R s m args below meth c H locs cells slots mc ms (F0 m pc ls st0) rest (Qc' As.toArray) XC free :=
  vx_runS (As := As) (rest := rest) (g := F0 m pc ls st0) X.1 hM (va_cwS n X.1.2.2.2.2 hT rfl rfl rfl hy hR.1) ⟨gPc_blind, fun U hU hW => ⟨rfl, hU, hk.warm hW⟩⟩ rfl hn hls hst (lv_room hW) hdg hR.2
/-- what is known where a callee has thrown, and where it returned -/
theorem g_xback {A1 : Nat → Prop} {L : List Loc} {st₀ t T' : State} {q : Nat} {cel : Cell} {Ex : String} {mc ms mc' ms' : Nat} {X2 : String → Prop} {A : Nat → Prop} (X : gX p s m meth c cc nL args own ret) (hno : ∀ x ∈ c.exceptionTable.toList, False) (hS : va_S (nA s.heap) s.heap H locs) (hA : ∀ q, A1 q → s.heap.size ≤ q) (hA0 : ∀ q, s.heap.size ≤ q → A q) (hx : X2 Ex) (hc : cells + mc ≤ mc' ∧ slots + ms ≤ ms')
    (h0 : st₀.heap = H) (e1 : T'.heap = t.heap) (hL : ∀ z ∈ L, A1 z.base) (hF : va_F (fun q => st₀.heap.size ≤ q) st₀ t) (X' : Stand p l e R s m args below meth c T' (locs ++ L) (cells + mc) (slots + ms)) (hce : t.heap[q]? = some cel) (hcv : cel.vm = .none) (hcl : s.vm.findClass Ex = some cel.cls) {u : State} (st : Steps p.tables e below u ((T'.setTop (F0 m pc ls rest)).pushFrame (.throwing q))) :
    ∃ t2, Steps p.tables e below u t2 ∧ vx_MQ below Qc (gXD X2) args s mc' ms' A t2 := by
  obtain ⟨hz, hq, hS1⟩ := vx_keep (A0 := nA s.heap) (free := A1) h0 e1 hS (fun q h1 h2 => by rw [h0] at h2; exact absurd h2 (Nat.not_le.mpr h1)) hA hL hF
  obtain ⟨t2, a1, b1⟩ := vx_out (pc := pc) (ls := ls) (rest := rest) (Qc := Qc) (XC := gXD X2) (free := A) (mc := mc') (ms := ms') (fun x hx => (hno x hx).elim) X.2.2 (by rw [e1]; exact hce) hcv hcl (fun t ht ha => ⟨hx, hS1.F ht⟩) (fun z hz => hA0 _ (hS1.2.2 z hz)) hc.1 hc.2 T' rfl X'
  exact ⟨t2, st.trans a1, b1⟩
theorem g_xcallr {A1 : Nat → Prop} {P : Nat → Heap → Prop} {X1 X2 : String → Prop} {A : Nat → Prop} {mc ms mc' ms' : Nat} {a : Array Value} {st0 : List Value} (hr : vx_Run p l e R s m args below meth c H locs cells slots mc ms (F0 m pc ls st0) rest (gQr A1 P a) (gXD X1) A1) (X : gX p s m meth c cc nL args own ret) (hno : ∀ x ∈ c.exceptionTable.toList, False) (hk : kk E s H) (hS : va_S (nA s.heap) s.heap H locs) (hA : ∀ q, A1 q → s.heap.size ≤ q) (hN : ∀ q, A1 q → eN E ≤ q) (hA0 : ∀ q, s.heap.size ≤ q → A q) (hx : ∀ Ex, X1 Ex → X2 Ex) (hc : cells + mc ≤ mc' ∧ slots + ms ≤ ms')
    (k : ∀ (z : Nat) (H1 : Heap) (locs1 : List Loc), P z H1 → kk E s H1 → H.size ≤ H1.size → (∀ q : Nat, q < H.size → ¬ A1 q → H1[q]? = H[q]?) → va_S (nA s.heap) s.heap H1 locs1 → W p l e R s m args below meth c H1 locs1 (cells + mc) (slots + ms) (vx_MQ below Qc (gXD X2) args s mc' ms' A) (F0 m (pc + 3) ls (.ref z :: rest))) : W p l e R s m args below meth c H locs cells slots (vx_MQ below Qc (gXD X2) args s mc' ms' A) (F0 m pc ls st0) := by
  intro T hT X0
  rcases hr T hT X0 with ⟨v, st₀, t, T', L, h0, X', hL, e1, e2, ⟨⟨z, hv, hp⟩, hF⟩, st⟩ | ⟨q, st₀, t, T', L, E', cel, h0, X', hL, e1, e2, ⟨hE, hF⟩, hce, hcv, hcl, st⟩
  · cases hv
    obtain ⟨hz, hq, hS1, hk1⟩ := g_back hk h0 e1 hS hA hN hL hF
    obtain ⟨t2, a1, b1⟩ := k z T'.heap (locs ++ L) (by rw [e1]; exact hp) hk1 hz hq hS1 T' rfl X'
    exact ⟨t2, st t2 a1, b1⟩
  · exact g_xback X hno hS hA hA0 (hx _ hE) hc h0 e1 hL hF X' hce hcv hcl st
theorem g_xcallv {A1 : Nat → Prop} {P : Heap → Prop} {X1 X2 : String → Prop} {A : Nat → Prop} {mc ms mc' ms' : Nat} {a : Array Value} {st0 : List Value} (hr : vx_Run p l e R s m args below meth c H locs cells slots mc ms (F0 m pc ls st0) rest (gQv A1 P a) (gXD X1) A1) (X : gX p s m meth c cc nL args own ret) (hno : ∀ x ∈ c.exceptionTable.toList, False) (hk : kk E s H) (hS : va_S (nA s.heap) s.heap H locs) (hA : ∀ q, A1 q → s.heap.size ≤ q) (hN : ∀ q, A1 q → eN E ≤ q) (hA0 : ∀ q, s.heap.size ≤ q → A q) (hx : ∀ Ex, X1 Ex → X2 Ex) (hc : cells + mc ≤ mc' ∧ slots + ms ≤ ms')
    (k : ∀ (H1 : Heap) (locs1 : List Loc), P H1 → kk E s H1 → H.size ≤ H1.size → (∀ q : Nat, q < H.size → ¬ A1 q → H1[q]? = H[q]?) → va_S (nA s.heap) s.heap H1 locs1 → W p l e R s m args below meth c H1 locs1 (cells + mc) (slots + ms) (vx_MQ below Qc (gXD X2) args s mc' ms' A) (F0 m (pc + 3) ls rest)) : W p l e R s m args below meth c H locs cells slots (vx_MQ below Qc (gXD X2) args s mc' ms' A) (F0 m pc ls st0) := by
  intro T hT X0
  rcases hr T hT X0 with ⟨v, st₀, t, T', L, h0, X', hL, e1, e2, ⟨⟨hv, hp⟩, hF⟩, st⟩ | ⟨q, st₀, t, T', L, E', cel, h0, X', hL, e1, e2, ⟨hE, hF⟩, hce, hcv, hcl, st⟩
  · cases hv
    obtain ⟨hz, hq, hS1, hk1⟩ := g_back hk h0 e1 hS hA hN hL hF
    obtain ⟨t2, a1, b1⟩ := k T'.heap (locs ++ L) (by rw [e1]; exact hp) hk1 hz hq hS1 T' rfl X'
    exact ⟨t2, st t2 a1, b1⟩
  · exact g_xback X hno hS hA hA0 (hx _ hE) hc h0 e1 hL hF X' hce hcv hcl st
/-! the same where the heap stays as it was -/
theorem g_callE {Q : State → Prop} {a : Array Value} {st0 : List Value} (hr : va_Run p l e R s m args below meth c H locs cells slots 0 0 (F0 m pc ls st0) rest (gQv (fun _ => False) (fun H1 => H1 = H) a) (fun _ => False))
    (k : W p l e R s m args below meth c H locs cells slots Q (F0 m (pc + 3) ls rest)) : W p l e R s m args below meth c H locs cells slots Q (F0 m pc ls st0) := by
  intro T hT X
  obtain ⟨v, st₀, t, T', L, h0, X', hL, e1, e2, ⟨⟨hv, hp⟩, hF⟩, st⟩ := hr T hT X
  cases hv
  have hL0 : L = [] := by
    cases L with
    | nil => rfl
    | cons a b => exact (hL a List.mem_cons_self).elim
  subst hL0
  rw [List.append_nil] at X'
  obtain ⟨t2, a1, b1⟩ := k T' (e1.trans hp) X'
  exact ⟨t2, st t2 a1, b1⟩
theorem g_xcallrE {A1 : Nat → Prop} {B : Prop} {q : Nat} {X1 X2 : String → Prop} {A : Nat → Prop} {mc ms mc' ms' : Nat} {a : Array Value} {st0 : List Value} (hr : vx_Run p l e R s m args below meth c H locs cells slots mc ms (F0 m pc ls st0) rest (gQr A1 (fun z H1 => B ∧ z = q ∧ H1 = H) a) (gXD X1) A1) (X : gX p s m meth c cc nL args own ret) (hno : ∀ x ∈ c.exceptionTable.toList, False) (hk : kk E s H) (hS : va_S (nA s.heap) s.heap H locs) (hA : ∀ q, A1 q → s.heap.size ≤ q) (hN : ∀ q, A1 q → eN E ≤ q) (hA0 : ∀ q, s.heap.size ≤ q → A q) (hx : ∀ Ex, X1 Ex → X2 Ex) (hc : cells + mc ≤ mc' ∧ slots + ms ≤ ms')
    (k : ∀ (locs1 : List Loc), B → va_S (nA s.heap) s.heap H locs1 → W p l e R s m args below meth c H locs1 (cells + mc) (slots + ms) (vx_MQ below Qc (gXD X2) args s mc' ms' A) (F0 m (pc + 3) ls (.ref q :: rest))) : W p l e R s m args below meth c H locs cells slots (vx_MQ below Qc (gXD X2) args s mc' ms' A) (F0 m pc ls st0) :=
  g_xcallr hr X hno hk hS hA hN hA0 hx hc (fun z H1 locs1 hP _ _ _ hS1 => by obtain ⟨hB, e1, e2⟩ := hP; subst e2; rw [e1]; exact k locs1 hB hS1)
theorem g_xcallvE {A1 : Nat → Prop} {X1 X2 : String → Prop} {A : Nat → Prop} {B : Prop} {mc ms mc' ms' : Nat} {a : Array Value} {st0 : List Value} (hr : vx_Run p l e R s m args below meth c H locs cells slots mc ms (F0 m pc ls st0) rest (gQv A1 (fun H1 => B ∧ H1 = H) a) (gXD X1) A1) (X : gX p s m meth c cc nL args own ret) (hno : ∀ x ∈ c.exceptionTable.toList, False) (hk : kk E s H) (hS : va_S (nA s.heap) s.heap H locs) (hA : ∀ q, A1 q → s.heap.size ≤ q) (hN : ∀ q, A1 q → eN E ≤ q) (hA0 : ∀ q, s.heap.size ≤ q → A q) (hx : ∀ Ex, X1 Ex → X2 Ex) (hc : cells + mc ≤ mc' ∧ slots + ms ≤ ms')
    (k : ∀ (locs1 : List Loc), B → va_S (nA s.heap) s.heap H locs1 → W p l e R s m args below meth c H locs1 (cells + mc) (slots + ms) (vx_MQ below Qc (gXD X2) args s mc' ms' A) (F0 m (pc + 3) ls rest)) : W p l e R s m args below meth c H locs cells slots (vx_MQ below Qc (gXD X2) args s mc' ms' A) (F0 m pc ls st0) :=
  g_xcallv hr X hno hk hS hA hN hA0 hx hc (fun H1 locs1 hP _ _ _ hS1 => by obtain ⟨hB, e2⟩ := hP; subst e2; exact k locs1 hB hS1)
end XR
theorem rq_Index_t (l : Launch) (E : EP) (hst : l.stackTraces = false) (H : Heap) (z : Int) (hz : z = 0) : gT l E yX1_requireIndex cX1_requireIndex 1 none 6 1 6 H [.int (iI z)] nIx := by
  subst hz
  exact p_requireIndex_t l E hst H
theorem rq_Index (l : Launch) (E : EP) (H : Heap) (z : Int) (hz : z = 1) : gMv l E yX1_requireIndex cX1_requireIndex 1 0 0 0 H [.int (iI z)] (fun _ => False) (fun H1 => H1 = H) := by
  subst hz
  exact p_requireIndex l E H
theorem rq_Argument_t (l : Launch) (E : EP) (hst : l.stackTraces = false) (H : Heap) (z : Int) (hz : z = 0) : gT l E yX1_requireArgument cX1_requireArgument 1 none 6 1 6 H [.int (iI z)] nAr := by
  subst hz
  exact p_requireArgument_t l E hst H
theorem rq_Argument (l : Launch) (E : EP) (H : Heap) (z : Int) (hz : z = 1) : gMv l E yX1_requireArgument cX1_requireArgument 1 0 0 0 H [.int (iI z)] (fun _ => False) (fun H1 => H1 = H) := by
  subst hz
  exact p_requireArgument l E H
theorem rq_State_t (l : Launch) (E : EP) (hst : l.stackTraces = false) (H : Heap) (z : Int) (hz : z = 0) : gT l E yX1_requireState cX1_requireState 1 none 6 1 6 H [.int (iI z)] nSt := by
  subst hz
  exact p_requireState_t l E hst H
theorem rq_State (l : Launch) (E : EP) (H : Heap) (z : Int) (hz : z = 1) : gMv l E yX1_requireState cX1_requireState 1 0 0 0 H [.int (iI z)] (fun _ => False) (fun H1 => H1 = H) := by
  subst hz
  exact p_requireState l E H
