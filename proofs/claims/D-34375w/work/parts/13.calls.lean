/-! answers, calls -/
section GC
variable {p : Program} {l : Launch} {e : Env} {R : Room} {s : State} {m : MethodId} {args : Array Value} {below : List Frame} {meth : Method} {c : Code} {H : Heap} {locs : List Loc} {cells slots : Nat} {Q : State → Prop}
variable {cc : ByteArray} {nL : Nat} {own : String} {ret : Option FieldType} {pc : Nat} {ls : Array Slot} {rest : List Value} {E : EP}
/-- a method that reads alone, and answers v -/
abbrev gP (l : Launch) (E : EP) (y : MethodName) (cc : ByteArray) (nL : Nat) (rt : FieldType) (d : Nat) (H : Heap) (As : List Value) (v : Int) : Prop :=
  Met l y (ws_ y cc nL (some rt)) (gR d 0 0) (gPc E H As) (QcRead (iI v)) 0 0 (fun _ => False)
theorem g_iretP (X : gX p s m meth c cc nL args own (some .int)) {z v : Int} (hz : z = v) (hdg : decode cc pc = .ok (.ireturn, 1)) :
    W p l e R s m args below meth c s.heap [] 0 0 (MQ below (QcRead (iI v)) args s 0 0 (fun _ => False)) (F0 m pc ls [.int (iI z)]) := by
  subst hz
  exact W.iret X.1.1 X.1.2.1 X.2.1 (fun t ht hW => ⟨rfl, ht⟩) (fun _ h => nomatch h) hdg X.2.2
theorem g_zretP (X : gX p s m meth c cc nL args own (some .boolean)) {z v : Int} (h : 0 ≤ v ∧ v ≤ 1) (hz : z = v) (hdg : decode cc pc = .ok (.ireturn, 1)) :
    W p l e R s m args below meth c s.heap [] 0 0 (MQ below (QcRead (iI v)) args s 0 0 (fun _ => False)) (F0 m pc ls [.int (iI z)]) := by
  subst hz
  exact W.zret X.1.1 X.1.2.1 X.2.1 (iI_narB z h) (fun t ht hW => ⟨rfl, ht⟩) (fun _ h => nomatch h) hdg X.2.2
/-- a call through an object, of a method that reads alone -/
theorem g_pV (X : gX p s m meth c cc nL args own ret) (hk : kk E s H) {C : String} {T : u_T} {N ci index a maxL d : Nat} {fs As : List Value} {v : Int} {y : MethodName} {bytes : ByteArray} {rt : FieldType} (hc : vwCl[ci]? = some (C, T, N)) (hcell : ce E a (.inr (ci, fs)) H)
    (hM : gP l E y bytes maxL rt d H (.ref a :: As) v) (n : Nat) (hT : GoodIn lw_all (wsV own index C y (ws_ y bytes maxL (some rt)))) (hy : y.cls = C ∧ y.cls ≠ "java/lang/invoke/MethodHandle" ∧ y.cls ≠ "java/lang/invoke/VarHandle" ∧ (parseMethodDescriptor y.desc).map (fun d => d.parameters.length) = some n)
    (hR : (d + 1 ≤ R.frames ∧ 8 + (maxL + 11) + 60 * d ≤ R.locals) ∧ cells ≤ R.cells ∧ slots ≤ R.slots) {st0 : List Value} (hst : st0 = As.reverse ++ .ref a :: rest) (hn : As.length = n) (hls : ls.size = nL) (hW : (rest.map fun v => v.category).sum ≤ 8) (hdg : decode cc pc = .ok (.invokevirtual index, 3))
    (k : W p l e R s m args below meth c H locs cells slots Q (F0 m (pc + 3) ls (.int (iI v) :: rest))) : W p l e R s m args below meth c H locs cells slots Q (F0 m pc ls st0) :=
  W.callR (W.runV (C := C) (b := a) (As := As) (rest := rest) (g := F0 m pc ls st0) X.1 hM (cwV n X.1.2.2.2.2 hT rfl rfl rfl hy hR.1) ⟨gPc_blind, va_recv hk.K (P1 hcell) (q0 := 0) hc rfl, fun U hU hW => ⟨rfl, hU, hk.warm hW⟩⟩ rfl hn hls hst (lv_room hW) hdg hR.2) k
/-- a static call, of a method that reads alone -/
theorem g_pS (X : gX p s m meth c cc nL args own ret) (hk : kk E s H) {index maxL d : Nat} {As : List Value} {v : Int} {y : MethodName} {bytes : ByteArray} {rt : FieldType}
    (hM : gP l E y bytes maxL rt d H As v) (n : Nat) (hT : GoodIn lw_all (va_wsS own index y (ws_ y bytes maxL (some rt)))) (hy : y.cls ≠ "java/lang/invoke/MethodHandle" ∧ y.cls ≠ "java/lang/invoke/VarHandle" ∧ (parseMethodDescriptor y.desc).map (fun d => d.parameters.length) = some n)
    (hR : (d + 1 ≤ R.frames ∧ 8 + (maxL + 11) + 60 * d ≤ R.locals) ∧ cells ≤ R.cells ∧ slots ≤ R.slots) {st0 : List Value} (hst : st0 = As.reverse ++ rest) (hn : As.length = n) (hls : ls.size = nL) (hW : (rest.map fun v => v.category).sum ≤ 8) (hdg : decode cc pc = .ok (.invokestatic index, 3))
    (k : W p l e R s m args below meth c H locs cells slots Q (F0 m (pc + 3) ls (.int (iI v) :: rest))) : W p l e R s m args below meth c H locs cells slots Q (F0 m pc ls st0) :=
  W.callR (W.runS (As := As) (rest := rest) (g := F0 m pc ls st0) X.1 hM (va_cwS n X.1.2.2.2.2 hT rfl rfl rfl hy hR.1) ⟨gPc_blind, fun U hU hW => ⟨rfl, hU, hk.warm hW⟩⟩ rfl hn hls hst (lv_room hW) hdg hR.2) k
/-- .. of a nest mate's private static method -/
theorem g_pSN (X : gX p s m meth c cc nL args own ret) (hk : kk E s H) {index maxL d : Nat} {As : List Value} {v : Int} {y : MethodName} {bytes : ByteArray} {rt : FieldType} {host : String}
    (hM : gP l E y bytes maxL rt d H As v) (n : Nat) (hl : va_Nw (.methodLinkNest own index y host) s) (hi : Cond.initialized y.cls ∈ lw_all) (hstat : Cond.static y ∈ lw_all) (hcode : Cond.code y bytes maxL (some rt) ∈ lw_all) (hy : y.cls ≠ "java/lang/invoke/MethodHandle" ∧ y.cls ≠ "java/lang/invoke/VarHandle" ∧ (parseMethodDescriptor y.desc).map (fun d => d.parameters.length) = some n)
    (hR : (d + 1 ≤ R.frames ∧ 8 + (maxL + 11) + 60 * d ≤ R.locals) ∧ cells ≤ R.cells ∧ slots ≤ R.slots) {st0 : List Value} (hst : st0 = As.reverse ++ rest) (hn : As.length = n) (hls : ls.size = nL) (hW : (rest.map fun v => v.category).sum ≤ 8) (hdg : decode cc pc = .ok (.invokestatic index, 3))
    (k : W p l e R s m args below meth c H locs cells slots Q (F0 m (pc + 3) ls (.int (iI v) :: rest))) : W p l e R s m args below meth c H locs cells slots Q (F0 m pc ls st0) :=
  W.callR (va_Run.run (va_runSN (As := As) (rest := rest) (g := F0 m pc ls st0) X.1 hM ⟨va_cnB n X.1.2.2.2.2 (lw_meth hcode) rfl rfl rfl hl (X.1.2.2.2.2 _ hi) hy hR.1, X.1.2.2.2.2 _ hstat, trivial⟩ ⟨gPc_blind, fun U hU hW => ⟨rfl, hU, hk.warm hW⟩⟩ rfl hn hls hst (lv_room hW) hdg hR.2)) k
/-! methods that write or make cells: A, what they may change -/
def gQv (A : Nat → Prop) (P : Heap → Prop) : Array Value → State → Outcome → State → Prop := fun _ st oc t => (oc = .returned none ∧ P t.heap) ∧ va_F A st t
def gQi (A : Nat → Prop) (P : Int → Heap → Prop) : Array Value → State → Outcome → State → Prop := fun _ st oc t => (∃ z : Int, oc = .returned (some (.int (iI z))) ∧ P z t.heap) ∧ va_F A st t
def gQr (A : Nat → Prop) (P : Nat → Heap → Prop) : Array Value → State → Outcome → State → Prop := fun _ st oc t => (∃ q : Nat, oc = .returned (some (.ref q)) ∧ P q t.heap) ∧ va_F A st t
abbrev nA (H : Heap) : Nat → Prop := fun q => H.size ≤ q
abbrev gMv (l : Launch) (E : EP) (y : MethodName) (cc : ByteArray) (nL : Nat) (d mc ms : Nat) (H : Heap) (As : List Value) (A : Nat → Prop) (P : Heap → Prop) : Prop :=
  Met l y (ws_ y cc nL none) (gR d mc ms) (gPc E H As) (gQv A P) mc ms A
abbrev gMi (l : Launch) (E : EP) (y : MethodName) (cc : ByteArray) (nL : Nat) (rt : FieldType) (d mc ms : Nat) (H : Heap) (As : List Value) (A : Nat → Prop) (P : Int → Heap → Prop) : Prop :=
  Met l y (ws_ y cc nL (some rt)) (gR d mc ms) (gPc E H As) (gQi A P) mc ms A
abbrev gMr (l : Launch) (E : EP) (y : MethodName) (cc : ByteArray) (nL : Nat) (rt : FieldType) (d mc ms : Nat) (H : Heap) (As : List Value) (A : Nat → Prop) (P : Nat → Heap → Prop) : Prop :=
  Met l y (ws_ y cc nL (some rt)) (gR d mc ms) (gPc E H As) (gQr A P) mc ms A
theorem g_vret (X : gX p s m meth c cc nL args own none) {A : Nat → Prop} {P : Heap → Prop} {mc ms : Nat} (hS : va_S A s.heap H locs) (hP : P H) (hc : cells ≤ mc ∧ slots ≤ ms) (hdg : decode cc pc = .ok (.return_, 1)) :
    W p l e R s m args below meth c H locs cells slots (MQ below (gQv A P) args s mc ms A) (F0 m pc ls []) := by
  refine W.widen hc.1 hc.2 ?_
  exact W.vret X.1.1 X.1.2.1 X.2.1 (fun t ht hW => ⟨⟨rfl, by rw [ht]; exact hP⟩, hS.F ht⟩) hS.2.2 hdg X.2.2
theorem g_iret (X : gX p s m meth c cc nL args own (some .int)) {A : Nat → Prop} {P : Int → Heap → Prop} {mc ms : Nat} {z : Int} (hS : va_S A s.heap H locs) (hP : P z H) (hc : cells ≤ mc ∧ slots ≤ ms) (hdg : decode cc pc = .ok (.ireturn, 1)) :
    W p l e R s m args below meth c H locs cells slots (MQ below (gQi A P) args s mc ms A) (F0 m pc ls [.int (iI z)]) := by
  refine W.widen hc.1 hc.2 ?_
  exact W.iret X.1.1 X.1.2.1 X.2.1 (fun t ht hW => ⟨⟨z, rfl, by rw [ht]; exact hP⟩, hS.F ht⟩) hS.2.2 hdg X.2.2
theorem g_zret (X : gX p s m meth c cc nL args own (some .boolean)) {A : Nat → Prop} {P : Int → Heap → Prop} {mc ms : Nat} {z : Int} (h : 0 ≤ z ∧ z ≤ 1) (hS : va_S A s.heap H locs) (hP : P z H) (hc : cells ≤ mc ∧ slots ≤ ms) (hdg : decode cc pc = .ok (.ireturn, 1)) :
    W p l e R s m args below meth c H locs cells slots (MQ below (gQi A P) args s mc ms A) (F0 m pc ls [.int (iI z)]) := by
  refine W.widen hc.1 hc.2 ?_
  exact W.zret X.1.1 X.1.2.1 X.2.1 (iI_narB z h) (fun t ht hW => ⟨⟨z, rfl, by rw [ht]; exact hP⟩, hS.F ht⟩) hS.2.2 hdg X.2.2
theorem g_aret {rt : FieldType} (X : gX p s m meth c cc nL args own (some rt)) (hrt : (∃ n, rt = .object n) ∨ ∃ t, rt = .array t) {A : Nat → Prop} {P : Nat → Heap → Prop} {mc ms : Nat} {q : Nat} (hS : va_S A s.heap H locs) (hP : P q H) (hc : cells ≤ mc ∧ slots ≤ ms) (hdg : decode cc pc = .ok (.areturn, 1)) :
    W p l e R s m args below meth c H locs cells slots (MQ below (gQr A P) args s mc ms A) (F0 m pc ls [.ref q]) := by
  refine W.widen hc.1 hc.2 ?_
  exact W.aret X.1.1 X.1.2.1 X.2.1 hrt (Or.inr ⟨q, rfl⟩) (fun t ht hW => ⟨⟨q, rfl, by rw [ht]; exact hP⟩, hS.F ht⟩) hS.2.2 hdg X.2.2
/-- behind a call: what is known of the caller's world -/
theorem g_back {A0 A1 : Nat → Prop} {L : List Loc} {st₀ t T' : State} (hk : kk E s H) (h0 : st₀.heap = H) (e1 : T'.heap = t.heap) (hS : va_S A0 s.heap H locs) (hA : ∀ q, A1 q → A0 q) (hN : ∀ q, A1 q → eN E ≤ q) (hL : ∀ q ∈ L, A1 q.base) (hF : va_F A1 st₀ t) :
    H.size ≤ T'.heap.size ∧ (∀ q : Nat, q < H.size → ¬ A1 q → T'.heap[q]? = H[q]?) ∧ va_S A0 s.heap T'.heap (locs ++ L) ∧ kk E s T'.heap := by
  obtain ⟨hz, hq⟩ := hF
  rw [h0] at hz hq
  rw [← e1] at hz hq
  refine ⟨hz, hq, ⟨Nat.le_trans hS.1 hz, fun q h1 h2 => ?_, fun q hq' => ?_⟩, hk.kept hz (fun q h1 h2 => hq q h1 (fun z => h2 (hN q z)))⟩
  · rw [hq q (Nat.lt_of_lt_of_le h1 hS.1) (fun z => h2 (hA q z))]
    exact hS.2.1 q h1 h2
  · rcases List.mem_append.mp hq' with h | h
    · exact hS.2.2 q h
    · exact hA _ (hL q h)
theorem g_callv {A0 A1 : Nat → Prop} {P : Heap → Prop} {mc ms : Nat} {a : Array Value} {st0 : List Value} (hr : va_Run p l e R s m args below meth c H locs cells slots mc ms (F0 m pc ls st0) rest (gQv A1 P a) A1) (hk : kk E s H) (hS : va_S A0 s.heap H locs) (hA : ∀ q, A1 q → A0 q) (hN : ∀ q, A1 q → eN E ≤ q)
    (k : ∀ (H1 : Heap) (locs1 : List Loc), P H1 → kk E s H1 → H.size ≤ H1.size → (∀ q : Nat, q < H.size → ¬ A1 q → H1[q]? = H[q]?) → va_S A0 s.heap H1 locs1 → W p l e R s m args below meth c H1 locs1 (cells + mc) (slots + ms) Q (F0 m (pc + 3) ls rest)) : W p l e R s m args below meth c H locs cells slots Q (F0 m pc ls st0) := by
  intro T hT X
  obtain ⟨v, st₀, t, T', L, h0, X', hL, e1, e2, ⟨⟨hv, hp⟩, hF⟩, st⟩ := hr T hT X
  cases hv
  obtain ⟨hz, hq, hS1, hk1⟩ := g_back hk h0 e1 hS hA hN hL hF
  obtain ⟨t2, a1, b1⟩ := k T'.heap (locs ++ L) (by rw [e1]; exact hp) hk1 hz hq hS1 T' rfl X'
  exact ⟨t2, st t2 a1, b1⟩
theorem g_calli {A0 A1 : Nat → Prop} {P : Int → Heap → Prop} {mc ms : Nat} {a : Array Value} {st0 : List Value} (hr : va_Run p l e R s m args below meth c H locs cells slots mc ms (F0 m pc ls st0) rest (gQi A1 P a) A1) (hk : kk E s H) (hS : va_S A0 s.heap H locs) (hA : ∀ q, A1 q → A0 q) (hN : ∀ q, A1 q → eN E ≤ q)
    (k : ∀ (z : Int) (H1 : Heap) (locs1 : List Loc), P z H1 → kk E s H1 → H.size ≤ H1.size → (∀ q : Nat, q < H.size → ¬ A1 q → H1[q]? = H[q]?) → va_S A0 s.heap H1 locs1 → W p l e R s m args below meth c H1 locs1 (cells + mc) (slots + ms) Q (F0 m (pc + 3) ls (.int (iI z) :: rest))) : W p l e R s m args below meth c H locs cells slots Q (F0 m pc ls st0) := by
  intro T hT X
  obtain ⟨v, st₀, t, T', L, h0, X', hL, e1, e2, ⟨⟨z, hv, hp⟩, hF⟩, st⟩ := hr T hT X
  cases hv
  obtain ⟨hz, hq, hS1, hk1⟩ := g_back hk h0 e1 hS hA hN hL hF
  obtain ⟨t2, a1, b1⟩ := k z T'.heap (locs ++ L) (by rw [e1]; exact hp) hk1 hz hq hS1 T' rfl X'
  exact ⟨t2, st t2 a1, b1⟩
theorem g_callr {A0 A1 : Nat → Prop} {P : Nat → Heap → Prop} {mc ms : Nat} {a : Array Value} {st0 : List Value} (hr : va_Run p l e R s m args below meth c H locs cells slots mc ms (F0 m pc ls st0) rest (gQr A1 P a) A1) (hk : kk E s H) (hS : va_S A0 s.heap H locs) (hA : ∀ q, A1 q → A0 q) (hN : ∀ q, A1 q → eN E ≤ q)
    (k : ∀ (z : Nat) (H1 : Heap) (locs1 : List Loc), P z H1 → kk E s H1 → H.size ≤ H1.size → (∀ q : Nat, q < H.size → ¬ A1 q → H1[q]? = H[q]?) → va_S A0 s.heap H1 locs1 → W p l e R s m args below meth c H1 locs1 (cells + mc) (slots + ms) Q (F0 m (pc + 3) ls (.ref z :: rest))) : W p l e R s m args below meth c H locs cells slots Q (F0 m pc ls st0) := by
  intro T hT X
  obtain ⟨v, st₀, t, T', L, h0, X', hL, e1, e2, ⟨⟨z, hv, hp⟩, hF⟩, st⟩ := hr T hT X
  cases hv
  obtain ⟨hz, hq, hS1, hk1⟩ := g_back hk h0 e1 hS hA hN hL hF
  obtain ⟨t2, a1, b1⟩ := k z T'.heap (locs ++ L) (by rw [e1]; exact hp) hk1 hz hq hS1 T' rfl X'
  exact ⟨t2, st t2 a1, b1⟩
theorem g_runV (X : gX p s m meth c cc nL args own ret) (hk : kk E s H) {C : String} {T : u_T} {N ci index a maxL d mc ms : Nat} {fs As : List Value} {y : MethodName} {bytes : ByteArray} {rt : Option FieldType} {Qc : Array Value → State → Outcome → State → Prop} {free : Nat → Prop} (hc : vwCl[ci]? = some (C, T, N)) (hcell : ce E a (.inr (ci, fs)) H)
    (hM : Met l y (ws_ y bytes maxL rt) (gR d mc ms) (gPc E H (.ref a :: As)) Qc mc ms free) (n : Nat) (hT : GoodIn lw_all (wsV own index C y (ws_ y bytes maxL rt))) (hy : y.cls = C ∧ y.cls ≠ "java/lang/invoke/MethodHandle" ∧ y.cls ≠ "java/lang/invoke/VarHandle" ∧ (parseMethodDescriptor y.desc).map (fun d => d.parameters.length) = some n)
    (hR : (d + 1 ≤ R.frames ∧ 8 + (maxL + 11) + 60 * d ≤ R.locals) ∧ cells + mc ≤ R.cells ∧ slots + ms ≤ R.slots) {st0 : List Value} (hst : st0 = As.reverse ++ .ref a :: rest) (hn : As.length = n) (hls : ls.size = nL) (hW : (rest.map fun v => v.category).sum ≤ 8) (hdg : decode cc pc = .ok (.invokevirtual index, 3)) :
    va_Run p l e R s m args below meth c H locs cells slots mc ms (F0 m pc ls st0) rest (Qc (Value.ref a :: As).toArray) free :=
  va_runV (C := C) (b := a) (As := As) (rest := rest) (g := F0 m pc ls st0) X.1 hM (cwV n X.1.2.2.2.2 hT rfl rfl rfl hy hR.1) ⟨gPc_blind, va_recv hk.K (P1 hcell) (q0 := 0) hc rfl, fun U hU hW => ⟨rfl, hU, hk.warm hW⟩⟩ rfl hn hls hst (lv_room hW) hdg hR.2
theorem g_runS (X : gX p s m meth c cc nL args own ret) (hk : kk E s H) {index maxL d mc ms : Nat} {As : List Value} {y : MethodName} {bytes : ByteArray} {rt : Option FieldType} {Qc : Array Value → State → Outcome → State → Prop} {free : Nat → Prop}
    (hM : Met l y (ws_ y bytes maxL rt) (gR d mc ms) (gPc E H As) Qc mc ms free) (n : Nat) (hT : GoodIn lw_all (va_wsS own index y (ws_ y bytes maxL rt))) (hy : y.cls ≠ "java/lang/invoke/MethodHandle" ∧ y.cls ≠ "java/lang/invoke/VarHandle" ∧ (parseMethodDescriptor y.desc).map (fun d => d.parameters.length) = some n)
    (hR : (d + 1 ≤ R.frames ∧ 8 + (maxL + 11) + 60 * d ≤ R.locals) ∧ cells + mc ≤ R.cells ∧ slots + ms ≤ R.slots) {st0 : List Value} (hst : st0 = As.reverse ++ rest) (hn : As.length = n) (hls : ls.size = nL) (hW : (rest.map fun v => v.category).sum ≤ 8) (hdg : decode cc pc = .ok (.invokestatic index, 3)) :
    va_Run p l e R s m args below meth c H locs cells slots mc ms (F0 m pc ls st0) rest (Qc As.toArray) free :=
  va_runS (As := As) (rest := rest) (g := F0 m pc ls st0) X.1 hM (va_cwS n X.1.2.2.2.2 hT rfl rfl rfl hy hR.1) ⟨gPc_blind, fun U hU hW => ⟨rfl, hU, hk.warm hW⟩⟩ rfl hn hls hst (lv_room hW) hdg hR.2
theorem g_runI (X : gX p s m meth c cc nL args own ret) (hk : kk E s H) {index a maxL d mc ms : Nat} {As : List Value} {y : MethodName} {bytes : ByteArray} {Qc : Array Value → State → Outcome → State → Prop} {free : Nat → Prop}
    (hM : Met l y (ws_ y bytes maxL none) (gR d mc ms) (gPc E H (.ref a :: As)) Qc mc ms free) (n : Nat) (hini : Cond.initialized y.cls ∈ lw_all) (hlink : Cond.methodLink own index y ∈ lw_all) (hinst : Cond.instanceMethod y ∈ lw_all) (hcode : Cond.code y bytes maxL none ∈ lw_all) (hy1 : y.name = "<init>") (hy : y.cls ≠ "java/lang/invoke/MethodHandle" ∧ y.cls ≠ "java/lang/invoke/VarHandle" ∧ (parseMethodDescriptor y.desc).map (fun d => d.parameters.length) = some n)
    (hR : (d + 1 ≤ R.frames ∧ 8 + (maxL + 11) + 60 * d ≤ R.locals) ∧ cells + mc ≤ R.cells ∧ slots + ms ≤ R.slots) {st0 : List Value} (hst : st0 = As.reverse ++ .ref a :: rest) (hn : As.length = n) (hls : ls.size = nL) (hW : (rest.map fun v => v.category).sum ≤ 8) (hdg : decode cc pc = .ok (.invokespecial index, 3)) :
    va_Run p l e R s m args below meth c H locs cells slots mc ms (F0 m pc ls st0) rest (Qc (Value.ref a :: As).toArray) free :=
  va_runI (b := a) (As := As) (rest := rest) (g := F0 m pc ls st0) X.1 hM (cwI n X.1.2.2.2.2 (lw_meth hcode) rfl rfl rfl (X.1.2.2.2.2 _ hini) (X.1.2.2.2.2 _ hlink) (X.1.2.2.2.2 _ hinst) hy1 hy hR.1) ⟨gPc_blind, fun U hU hW => ⟨rfl, hU, hk.warm hW⟩⟩ rfl hn hls hst (lv_room hW) hdg hR.2
/-! writes and new cells -/
theorem kk.put {H1 : Heap} {a : Nat} (hk : kk E s H) (hN : eN E ≤ a) (z : H1.size = H.size) (o : ∀ q : Nat, q ≠ a → H1[q]? = H[q]?) : kk E s H1 := hk.kept (by omega) (fun q _ h => o q (fun e => h (by rw [e]; exact hN)))
theorem kk.new {H1 : Heap} (hk : kk E s H) (z : H1.size = H.size + 1) (o : ∀ q : Nat, q < H.size → H1[q]? = H[q]?) : kk E s H1 := hk.kept (by omega) (fun q h _ => o q h)
theorem va_S.new {A : Nat → Prop} {H0 H H1 : Heap} {locs : List Loc} (h : va_S A H0 H locs) (z : H1.size = H.size + 1) (o : ∀ q : Nat, q < H.size → H1[q]? = H[q]?) : va_S A H0 H1 locs :=
  ⟨by have := h.1; omega, fun q h1 h2 => (o q (Nat.lt_of_lt_of_le h1 h.1)).trans (h.2.1 q h1 h2), h.2.2⟩
theorem g_iast (X : gX p s m meth c cc nL args own ret) (hk : kk E s H) {A0 : Nat → Prop} (hS : va_S A0 s.heap H locs) {a n j : Nat} {f : Nat → Int} {i x : Int} (hA : A0 a ∧ eN E ≤ a) (hc : ce E a (aI E n f) H) (hj : i = (j : Int)) (hlt : j < n ∧ n ≤ 2147483647) (hdg : decode cc pc = .ok (.iastore, 1))
    (k : ∀ (H1 : Heap) (locs1 : List Loc), ce E a (aI E n (uI f j x)) H1 → kk E s H1 → H1.size = H.size → (∀ q : Nat, q ≠ a → H1[q]? = H[q]?) → va_S A0 s.heap H1 locs1 → W p l e R s m args below meth c H1 locs1 cells slots Q (F0 m (pc + 1) ls rest)) : W p l e R s m args below meth c H locs cells slots Q (F0 m pc ls (.int (iI x) :: .int (iI i) :: .ref a :: rest)) := by
  have e : (iI i).toNatClampNeg = j := iI_cl hj (by omega)
  have hin : vp_in (iI i) n := iI_in hj hlt.1 (by omega)
  refine W.iast X.1.1 X.1.2.1 hc ((hk.K.2 0 _ rfl).1 n (fun j => .int (iI (f j)))) (fun q => by cases q) (by show ¬ (iI i < 0 ∨ (arrV _ _ _).slots.size ≤ _); rw [arrV_size]; exact hin) rfl rfl hdg fun H1 e1 z oq => ?_
  refine k H1 _ ?_ (hk.put hA.2 z oq) z oq (hS.put z oq hA.1)
  show H1[a]? = some (vp_cell _ _)
  rw [e1, e, vp_cell_i, vp_cell_i, arrV_store]
  congr 2
  funext q
  by_cases hq : q = j
  · subst hq
    simp [updV, uI]
  · simp [updV, uI, hq]
theorem g_bast (X : gX p s m meth c cc nL args own ret) (hk : kk E s H) {A0 : Nat → Prop} (hS : va_S A0 s.heap H locs) {a n j : Nat} {f : Nat → Int} {i x : Int} (hA : A0 a ∧ eN E ≤ a) (hc : ce E a (aB E n f) H) (hx : 0 ≤ x ∧ x ≤ 1) (hj : i = (j : Int)) (hlt : j < n ∧ n ≤ 2147483647) (hdg : decode cc pc = .ok (.bastore, 1))
    (k : ∀ (H1 : Heap) (locs1 : List Loc), ce E a (aB E n (uI f j x)) H1 → kk E s H1 → H1.size = H.size → (∀ q : Nat, q ≠ a → H1[q]? = H[q]?) → va_S A0 s.heap H1 locs1 → W p l e R s m args below meth c H1 locs1 cells slots Q (F0 m (pc + 1) ls rest)) : W p l e R s m args below meth c H locs cells slots Q (F0 m pc ls (.int (iI x) :: .int (iI i) :: .ref a :: rest)) := by
  have e : (iI i).toNatClampNeg = j := iI_cl hj (by omega)
  have hin : vp_in (iI i) n := iI_in hj hlt.1 (by omega)
  refine W.zast X.1.1 X.1.2.1 hc ((hk.K.2 2 _ rfl).1 n (fun j => .int (iI (f j)))) (fun q => by cases q) (by show ¬ (iI i < 0 ∨ (arrV _ _ _).slots.size ≤ _); rw [arrV_size]; exact hin) rfl rfl hdg fun H1 e1 z oq => ?_
  refine k H1 _ ?_ (hk.put hA.2 z oq) z oq (hS.put z oq hA.1)
  show H1[a]? = some (vp_cell _ _)
  rw [e1, e, vp_cell_i, vp_cell_i, arrV_store, iI_narB x hx]
  congr 2
  funext q
  by_cases hq : q = j
  · subst hq
    simp [updV, uI]
  · simp [updV, uI, hq]
theorem g_last (X : gX p s m meth c cc nL args own ret) (hk : kk E s H) {A0 : Nat → Prop} (hS : va_S A0 s.heap H locs) {a n j : Nat} {f : Nat → Int64} {i : Int} {x : Int64} (hA : A0 a ∧ eN E ≤ a) (hc : ce E a (aL E n f) H) (hj : i = (j : Int)) (hlt : j < n ∧ n ≤ 2147483647) (hdg : decode cc pc = .ok (.lastore, 1))
    (k : ∀ (H1 : Heap) (locs1 : List Loc), ce E a (aL E n (vp_updL f j x)) H1 → kk E s H1 → H1.size = H.size → (∀ q : Nat, q ≠ a → H1[q]? = H[q]?) → va_S A0 s.heap H1 locs1 → W p l e R s m args below meth c H1 locs1 cells slots Q (F0 m (pc + 1) ls rest)) : W p l e R s m args below meth c H locs cells slots Q (F0 m pc ls (.long x :: .int (iI i) :: .ref a :: rest)) := by
  have e : (iI i).toNatClampNeg = j := iI_cl hj (by omega)
  have hin : vp_in (iI i) n := iI_in hj hlt.1 (by omega)
  refine W.last X.1.1 X.1.2.1 hc ((hk.K.2 3 _ rfl).1 n (fun j => .long (f j))) (fun q => by cases q) (by show ¬ (iI i < 0 ∨ (arrV _ _ _).slots.size ≤ _); rw [arrV_size]; exact hin) rfl rfl hdg fun H1 e1 z oq => ?_
  refine k H1 _ ?_ (hk.put hA.2 z oq) z oq (hS.put z oq hA.1)
  show H1[a]? = some (vp_cell _ _)
  rw [e1, e, vp_cell_l, vp_cell_l, arrV_store]
  congr 2
  funext q
  by_cases hq : q = j
  · subst hq
    simp [updV, vp_updL]
  · simp [updV, vp_updL, hq]
/-- a reference to a junction into an array of junctions -/
theorem g_aastJ (X : gX p s m meth c cc nL args own ret) (hk : kk E s H) {A0 : Nat → Prop} (hS : va_S A0 s.heap H locs) {a n j v : Nat} {vs : List Value} {f : Nat → Option Nat} {i : Int} (hA : A0 a ∧ eN E ≤ a) (hc : ce E a (aQ E 1 n f) H) (hv : ce E v (.inr (1, vs)) H) (hj : i = (j : Int)) (hlt : j < n ∧ n ≤ 2147483647) (hdg : decode cc pc = .ok (.aastore, 1))
    (k : ∀ (H1 : Heap) (locs1 : List Loc), ce E a (aQ E 1 n (va_up f j (some v))) H1 → kk E s H1 → H1.size = H.size → (∀ q : Nat, q ≠ a → H1[q]? = H[q]?) → va_S A0 s.heap H1 locs1 → W p l e R s m args below meth c H1 locs1 cells slots Q (F0 m (pc + 1) ls rest)) : W p l e R s m args below meth c H locs cells slots Q (F0 m pc ls (.ref v :: .int (iI i) :: .ref a :: rest)) := by
  have e : (iI i).toNatClampNeg = j := iI_cl hj (by omega)
  have hin : vp_in (iI i) n := iI_in hj hlt.1 (by omega)
  have h0 : ¬ iI i < 0 := fun q => hin (Or.inl q)
  obtain ⟨r', hr', cellV, g1, g2, g3, -⟩ := hv
  have hcls := (hk.K.1 1 _ rfl).2
  obtain ⟨kA, comp, k1, k2, k3, -⟩ := (hk.K.2 1 _ rfl).2
  have hcomp : comp = (eD E).1 1 := Option.some.inj (k3.symm.trans hcls.1)
  subst hcomp
  obtain ⟨kC, hkC, -⟩ := hcls.2
  refine W.aast X.1.1 X.1.2.1 hc (fun q h => by cases h) (fun h => by cases h) k1 k2 rfl hkC ⟨h0, by show _ < (arrV _ _ _).slots.size; rw [arrV_size, e]; exact hlt.1⟩ g1 (fun q h => by rw [g3] at h; cases h) (by rw [g2]; exact hkC) (by rw [g2]; exact va_asg _ _) rfl rfl hdg fun H1 e1 z oq => ?_
  refine k H1 _ ?_ (hk.put hA.2 z oq) z oq (hS.put z oq hA.1)
  show H1[a]? = some (vp_cell _ _)
  rw [e1, e, vp_cell_q, vp_cell_q, arrV_store]
  congr 2
  funext q
  by_cases hq : q = j
  · subst hq
    simp [updV, va_up, va_rf]
  · simp [updV, va_up, hq]
/-- an array into an array of arrays -/
theorem g_aastA (X : gX p s m meth c cc nL args own ret) (hk : kk E s H) {A0 : Nat → Prop} (hS : va_S A0 s.heap H locs) {a n j v cA cI : Nat} {t : FieldType} {x : vp_A} {f : Nat → Option Nat} {i : Int} (hA : A0 a ∧ eN E ≤ a) (hc : ce E a (aQ E cA n f) H) (hcA : aaK s (eA E cA) (eA E cI) t) (hcI : ArrOfT s (eA E cI) t) (hv : ce E v (.inl (eA E cI, x)) H) (hj : i = (j : Int)) (hlt : j < n ∧ n ≤ 2147483647) (hdg : decode cc pc = .ok (.aastore, 1))
    (k : ∀ (H1 : Heap) (locs1 : List Loc), ce E a (aQ E cA n (va_up f j (some v))) H1 → kk E s H1 → H1.size = H.size → (∀ q : Nat, q ≠ a → H1[q]? = H[q]?) → va_S A0 s.heap H1 locs1 → W p l e R s m args below meth c H1 locs1 cells slots Q (F0 m (pc + 1) ls rest)) : W p l e R s m args below meth c H locs cells slots Q (F0 m pc ls (.ref v :: .int (iI i) :: .ref a :: rest)) := by
  have e : (iI i).toNatClampNeg = j := iI_cl hj (by omega)
  have hin : vp_in (iI i) n := iI_in hj hlt.1 (by omega)
  have h0 : ¬ iI i < 0 := fun q => hin (Or.inl q)
  obtain ⟨kA, k1, k2⟩ := hcA
  obtain ⟨-, kI, hkI, compI, hkindI⟩ := hcI 0 (fun _ => .null)
  have hvm0 : (vp_cell (eA E cI) x).vm = .none := by
    obtain ⟨n, f | f | f | f | f⟩ := x <;> rfl
  have hcl0 : (vp_cell (eA E cI) x).cls = eA E cI := by
    obtain ⟨n, f | f | f | f | f⟩ := x <;> rfl
  refine W.aast X.1.1 X.1.2.1 hc (fun q h => by cases h) (fun h => by cases h) k1 k2 rfl hkI ⟨h0, by show _ < (arrV _ _ _).slots.size; rw [arrV_size, e]; exact hlt.1⟩ hv (fun q h => by rw [hvm0] at h; cases h) (by rw [hcl0]; exact hkI) (by rw [hcl0]; exact va_asg _ _) rfl rfl hdg fun H1 e1 z oq => ?_
  refine k H1 _ ?_ (hk.put hA.2 z oq) z oq (hS.put z oq hA.1)
  show H1[a]? = some (vp_cell _ _)
  rw [e1, e, vp_cell_q, vp_cell_q, arrV_store]
  congr 2
  funext q
  by_cases hq : q = j
  · subst hq
    simp [updV, va_up, va_rf]
  · simp [updV, va_up, hq]
theorem g_newI (X : gX p s m meth c cc nL args own ret) (hk : kk E s H) {A0 : Nat → Prop} (hS : va_S A0 s.heap H locs) {N : Nat} {n : Int} (hn : n = (N : Int)) (hN : N ≤ 1000000) (hcs : cells + 1 ≤ R.cells ∧ slots + N ≤ R.slots) (hdg : decode cc pc = .ok (.newarray .int, 2))
    (k : ∀ (q : Nat) (H1 : Heap), q = H.size → ce E q (aI E N (fun _ => 0)) H1 → kk E s H1 → H1.size = H.size + 1 → (∀ q : Nat, q < H.size → H1[q]? = H[q]?) → va_S A0 s.heap H1 locs → W p l e R s m args below meth c H1 locs (cells + 1) (slots + N) Q (F0 m (pc + 2) ls (.ref q :: rest))) : W p l e R s m args below meth c H locs cells slots Q (F0 m pc ls (.int (iI n) :: rest)) := by
  have e : (iI n).toNatClampNeg = N := iI_cl hn (by omega)
  have h0 : ¬ iI n < 0 := by rw [← iI_0, iI_lt (by omega)]; omega
  refine va_newaK X.1.1 X.1.2.1 (atype := .int) (X.1.2.2.2.2 _ q141) rfl hdg rfl h0 e (by show N * 4 ≤ _; omega) hcs.1 hcs.2 rfl fun H1 cA e1 z1 o1 hAr hNm => ?_
  have hc : cA = eA E 0 := Option.some.inj (hNm.symm.trans (hk.K.2 0 _ rfl).2)
  subst hc
  exact k H.size H1 rfl e1 (hk.new z1 o1) z1 o1 (hS.new z1 o1)
theorem g_newB (X : gX p s m meth c cc nL args own ret) (hk : kk E s H) {A0 : Nat → Prop} (hS : va_S A0 s.heap H locs) {N : Nat} {n : Int} (hn : n = (N : Int)) (hN : N ≤ 1000000) (hcs : cells + 1 ≤ R.cells ∧ slots + N ≤ R.slots) (hdg : decode cc pc = .ok (.newarray .boolean, 2))
    (k : ∀ (q : Nat) (H1 : Heap), q = H.size → ce E q (aB E N (fun _ => 0)) H1 → kk E s H1 → H1.size = H.size + 1 → (∀ q : Nat, q < H.size → H1[q]? = H[q]?) → va_S A0 s.heap H1 locs → W p l e R s m args below meth c H1 locs (cells + 1) (slots + N) Q (F0 m (pc + 2) ls (.ref q :: rest))) : W p l e R s m args below meth c H locs cells slots Q (F0 m pc ls (.int (iI n) :: rest)) := by
  have e : (iI n).toNatClampNeg = N := iI_cl hn (by omega)
  have h0 : ¬ iI n < 0 := by rw [← iI_0, iI_lt (by omega)]; omega
  refine va_newaK X.1.1 X.1.2.1 (atype := .boolean) (X.1.2.2.2.2 _ q450) rfl hdg rfl h0 e (by show N * 1 ≤ _; omega) hcs.1 hcs.2 rfl fun H1 cA e1 z1 o1 hAr hNm => ?_
  have hc : cA = eA E 2 := Option.some.inj (hNm.symm.trans (hk.K.2 2 _ rfl).2)
  subst hc
  exact k H.size H1 rfl e1 (hk.new z1 o1) z1 o1 (hS.new z1 o1)
theorem g_newL (X : gX p s m meth c cc nL args own ret) (hk : kk E s H) {A0 : Nat → Prop} (hS : va_S A0 s.heap H locs) {N : Nat} {n : Int} (hn : n = (N : Int)) (hN : N ≤ 1000000) (hcs : cells + 1 ≤ R.cells ∧ slots + N ≤ R.slots) (hdg : decode cc pc = .ok (.newarray .long, 2))
    (k : ∀ (q : Nat) (H1 : Heap), q = H.size → ce E q (aL E N (fun _ => 0)) H1 → kk E s H1 → H1.size = H.size + 1 → (∀ q : Nat, q < H.size → H1[q]? = H[q]?) → va_S A0 s.heap H1 locs → W p l e R s m args below meth c H1 locs (cells + 1) (slots + N) Q (F0 m (pc + 2) ls (.ref q :: rest))) : W p l e R s m args below meth c H locs cells slots Q (F0 m pc ls (.int (iI n) :: rest)) := by
  have e : (iI n).toNatClampNeg = N := iI_cl hn (by omega)
  have h0 : ¬ iI n < 0 := by rw [← iI_0, iI_lt (by omega)]; omega
  refine va_newaK X.1.1 X.1.2.1 (atype := .long) (X.1.2.2.2.2 _ q919) rfl hdg rfl h0 e (by show N * 8 ≤ _; omega) hcs.1 hcs.2 rfl fun H1 cA e1 z1 o1 hAr hNm => ?_
  have hc : cA = eA E 3 := Option.some.inj (hNm.symm.trans (hk.K.2 3 _ rfl).2)
  subst hc
  exact k H.size H1 rfl e1 (hk.new z1 o1) z1 o1 (hS.new z1 o1)
theorem g_newJ (X : gX p s m meth c cc nL args own ret) (hk : kk E s H) {A0 : Nat → Prop} (hS : va_S A0 s.heap H locs) {index N : Nat} {n : Int} (hlink : Cond.classLink own index "Greenwave$Junction" ∈ lw_all) (hn : n = (N : Int)) (hN : N ≤ 1000000) (hcs : cells + 1 ≤ R.cells ∧ slots + N ≤ R.slots) (hdg : decode cc pc = .ok (.anewarray index, 3))
    (k : ∀ (q : Nat) (H1 : Heap), q = H.size → ce E q (aQ E 1 N (fun _ => none)) H1 → kk E s H1 → H1.size = H.size + 1 → (∀ q : Nat, q < H.size → H1[q]? = H[q]?) → va_S A0 s.heap H1 locs → W p l e R s m args below meth c H1 locs (cells + 1) (slots + N) Q (F0 m (pc + 3) ls (.ref q :: rest))) : W p l e R s m args below meth c H locs cells slots Q (F0 m pc ls (.int (iI n) :: rest)) := by
  have e : (iI n).toNatClampNeg = N := iI_cl hn (by omega)
  have h0 : ¬ iI n < 0 := by rw [← iI_0, iI_lt (by omega)]; omega
  refine W.anew X.1.1 X.1.2.1 X.1.2.2.2.1 (X.1.2.2.2.2 _ hlink) (va_AO.use hk.ev.2.2.2.2.2.1) rfl hdg rfl h0 (by rw [e]; omega) hcs.1 (by rw [e]; exact hcs.2) fun cA kA comp f1 f2 f3 f4 => ?_
  rw [e]
  obtain ⟨kA', comp', k1, k2, k3, k4⟩ := (hk.K.2 1 _ rfl).2
  have hc : cA = eA E 1 := Option.some.inj (f1.symm.trans k4)
  subst hc
  generalize hH1 : H.push ({ cls := eA E 1, slots := Array.replicate N .null, vm := .none } : Cell) = H1
  have z1 : H1.size = H.size + 1 := by rw [← hH1, Array.size_push]
  have e1 : H1[H.size]? = some (arrV (eA E 1) N (fun _ => .null)) := by rw [← hH1, Array.getElem?_push_size, ← arrV_new]
  have o1 : ∀ q : Nat, q < H.size → H1[q]? = H[q]? := fun q hq => by rw [← hH1, Array.getElem?_push, if_neg (Nat.ne_of_lt hq)]
  exact k H.size H1 rfl e1 (hk.new z1 o1) z1 o1 (hS.new z1 o1)
/-- a new array of arrays: cA 4 of ints, 5 of booleans -/
theorem g_newA (X : gX p s m meth c cc nL args own ret) (hk : kk E s H) {A0 : Nat → Prop} (hS : va_S A0 s.heap H locs) {index N cA : Nat} {t : FieldType} {n : Int} (hlink : Cond.classLink own index (FieldType.array t).toString ∈ lw_all) (hAA : va_AA t s) (ht : (eTy E)[cA]? = some (eA E cA, .array t)) (hn : n = (N : Int)) (hN : N ≤ 1000000) (hcs : cells + 1 ≤ R.cells ∧ slots + N ≤ R.slots) (hdg : decode cc pc = .ok (.anewarray index, 3))
    (k : ∀ (q : Nat) (H1 : Heap), q = H.size → ce E q (aQ E cA N (fun _ => none)) H1 → kk E s H1 → H1.size = H.size + 1 → (∀ q : Nat, q < H.size → H1[q]? = H[q]?) → va_S A0 s.heap H1 locs → W p l e R s m args below meth c H1 locs (cells + 1) (slots + N) Q (F0 m (pc + 3) ls (.ref q :: rest))) : W p l e R s m args below meth c H locs cells slots Q (F0 m pc ls (.int (iI n) :: rest)) := by
  have e : (iI n).toNatClampNeg = N := iI_cl hn (by omega)
  have h0 : ¬ iI n < 0 := by rw [← iI_0, iI_lt (by omega)]; omega
  have hov : (Cond.arrayOver (.array t)).before args s = true := hAA
  refine W.anewA X.1.1 X.1.2.1 X.1.2.2.2.1 (X.1.2.2.2.2 _ hlink) hov rfl hdg rfl h0 (by rw [e]; omega) hcs.1 (by rw [e]; exact hcs.2) fun cA' kA comp f1 f2 f3 f4 => ?_
  rw [e]
  have k4 := (hk.K.2 cA _ ht).2
  have hc : cA' = eA E cA := Option.some.inj (f1.symm.trans k4)
  subst hc
  generalize hH1 : H.push ({ cls := eA E cA, slots := Array.replicate N .null, vm := .none } : Cell) = H1
  have z1 : H1.size = H.size + 1 := by rw [← hH1, Array.size_push]
  have e1 : H1[H.size]? = some (arrV (eA E cA) N (fun _ => .null)) := by rw [← hH1, Array.getElem?_push_size, ← arrV_new]
  have o1 : ∀ q : Nat, q < H.size → H1[q]? = H[q]? := fun q hq => by rw [← hH1, Array.getElem?_push, if_neg (Nat.ne_of_lt hq)]
  exact k H.size H1 rfl e1 (hk.new z1 o1) z1 o1 (hS.new z1 o1)
theorem g_new (X : gX p s m meth c cc nL args own ret) (hk : kk E s H) {A0 : Nat → Prop} (hS : va_S A0 s.heap H locs) {C : String} {T : u_T} {N ci index : Nat} (hin : ∀ w ∈ u_ws C T N, w ∈ lw_all) (ty : Nat → FieldType) (hty : ∀ k, k < N → parseFieldDescriptor (T k).2.2.1 = some (ty k)) (hc : vwCl[ci]? = some (C, T, N)) (hlink : Cond.classLink own index C ∈ lw_all) (hinst : Cond.instantiable C N ∈ lw_all) (hini : Cond.initialized C ∈ lw_all) {fs : List Value} (hfs : ∀ j, j < N → defaultValue (ty j) = vp_V fs j) (hcs : cells + 1 ≤ R.cells ∧ slots + N ≤ R.slots) (hdg : decode cc pc = .ok (.new index, 3))
    (k : ∀ (q : Nat) (H1 : Heap), q = H.size → ce E q (.inr (ci, fs)) H1 → kk E s H1 → H1.size = H.size + 1 → (∀ q : Nat, q < H.size → H1[q]? = H[q]?) → va_S A0 s.heap H1 locs → W p l e R s m args below meth c H1 locs (cells + 1) (slots + N) Q (F0 m (pc + 3) ls (.ref q :: rest))) : W p l e R s m args below meth c H locs cells slots Q (F0 m pc ls rest) := by
  have hKn := hk.K.1 ci _ hc
  refine W.newcK X.1.1 X.1.2.1 X.1.2.2.2.1 (X.1.2.2.2.2 _ hlink) (X.1.2.2.2.2 _ hinst) (X.1.2.2.2.2 _ hini) rfl hdg hcs.1 hcs.2 hKn.2.1 rfl fun H1 kC hkC e1 z1 o1 => ?_
  exact k H.size H1 rfl ⟨_, hc, (u_born ty X.1.2.2.2.2 hin hKn hkC e1 hty).to hfs⟩ (hk.new z1 o1) z1 o1 (hS.new z1 o1)
theorem g_put (X : gX p s m meth c cc nL args own ret) (hk : kk E s H) {A0 : Nat → Prop} (hS : va_S A0 s.heap H locs) {C : String} {T : u_T} {N ci index a : Nat} (hA : A0 a ∧ eN E ≤ a) (hin : ∀ w ∈ u_ws C T N, w ∈ lw_all) (ty0 : Nat → FieldType) (hty : ∀ k, k < N → parseFieldDescriptor (T k).2.2.1 = some (ty0 k)) (hnm : ∀ a, a < N → ∀ b, b < N → a ≠ b → (T a).2.1 ≠ (T b).2.1) (hc : vwCl[ci]? = some (C, T, N)) {fs : List Value} (hcell : ce E a (.inr (ci, fs)) H) (k : Nat) (hkN : k < N) (hlink : Cond.fieldLink own index (T k).1 (T k).2.1 (T k).2.2.1 ∈ lw_all)
    (hfin : (T k).2.2.2 = false) {ty : FieldType} {v : Value} (hd : parseFieldDescriptor (T k).2.2.1 = some ty) (hn : narrow ty v = v) (hfit : fits ty v = true) (hl : k < fs.length) (hdg : decode cc pc = .ok (.putfield index, 3))
    (kk : ∀ (H1 : Heap) (locs1 : List Loc), ce E a (.inr (ci, fs.set k v)) H1 → kk E s H1 → H1.size = H.size → (∀ q : Nat, q ≠ a → H1[q]? = H[q]?) → va_S A0 s.heap H1 locs1 → W p l e R s m args below meth c H1 locs1 cells slots Q (F0 m (pc + 3) ls rest)) : W p l e R s m args below meth c H locs cells slots Q (F0 m pc ls (v :: .ref a :: rest)) := by
  have hap := va_apart (own := own) X.1.2.2.2.2 hin ty0 hty hnm hk.K hc
  obtain ⟨r, h1, cell, q1, q2, q3, q4⟩ := hcell
  have hr : r = (C, T, N) := Option.some.inj (h1.symm.trans hc)
  subst hr
  obtain ⟨hS1, hfc, kC, hkC, hkind⟩ := hk.K.1 ci _ hc
  obtain ⟨cf, kf, fi, f, hi, hsl⟩ := hS1 k hkN
  have hlay := X.1.2.2.2.2 _ (hin _ (u_in_lay hkN))
  unfold u_lay at hlay
  rw [if_neg (by rw [hfin]; decide)] at hlay
  have hst := (u_facts hfc hkC (u_lays X.1.2.2.2.2 hin hkN) hi).1
  have h6 := u_store hfc hkC hkind hlay hi hd hn hfit
  refine W.putK X.1.1 X.1.2.1 (f := f) ⟨X.1.2.2.2.1, X.1.2.2.2.2 _ hlink, ⟨_, _, _, hi⟩, hst⟩ (by rw [q2]; exact h6) q1 q3 (by rw [hsl]; exact k2_hasslot (q4 k hkN)) rfl rfl hdg fun H' e1 e2 e3 => ?_
  rw [hsl] at e1 ⊢
  exact kk H' _ ⟨_, hc, t_OB.to (V := updV (vp_V fs) k v) ⟨_, e1, q2, q3, t_set q4 hap hkN v⟩ (fun j _ => vp_updV_set hl v j)⟩ (hk.put hA.2 e2 e3) e2 e3 (hS.put e2 e3 hA.1)
theorem g_putF (X : gX p s m meth c cc nL args own ret) (hk : kk E s H) {A0 : Nat → Prop} (hS : va_S A0 s.heap H locs) {C : String} {T : u_T} {N ci index a : Nat} (hA : A0 a ∧ eN E ≤ a) (hin : ∀ w ∈ u_ws C T N, w ∈ lw_all) (ty0 : Nat → FieldType) (hty : ∀ k, k < N → parseFieldDescriptor (T k).2.2.1 = some (ty0 k)) (hnm : ∀ a, a < N → ∀ b, b < N → a ≠ b → (T a).2.1 ≠ (T b).2.1) (hc : vwCl[ci]? = some (C, T, N)) {fs : List Value} (hcell : ce E a (.inr (ci, fs)) H) (k : Nat) (hkN : k < N) (hlink : Cond.fieldLink own index (T k).1 (T k).2.1 (T k).2.2.1 ∈ lw_all)
    (hfin : (T k).2.2.2 = true) (hin2 : meth.name = "<init>") (hdecl : (T k).1 = own) {ty : FieldType} {v : Value} (hd : parseFieldDescriptor (T k).2.2.1 = some ty) (hn : narrow ty v = v) (hfit : fits ty v = true) (hl : k < fs.length) (hdg : decode cc pc = .ok (.putfield index, 3))
    (kk : ∀ (H1 : Heap) (locs1 : List Loc), ce E a (.inr (ci, fs.set k v)) H1 → kk E s H1 → H1.size = H.size → (∀ q : Nat, q ≠ a → H1[q]? = H[q]?) → va_S A0 s.heap H1 locs1 → W p l e R s m args below meth c H1 locs1 cells slots Q (F0 m (pc + 3) ls rest)) : W p l e R s m args below meth c H locs cells slots Q (F0 m pc ls (v :: .ref a :: rest)) := by
  have hap := va_apart (own := own) X.1.2.2.2.2 hin ty0 hty hnm hk.K hc
  obtain ⟨r, h1, cell, q1, q2, q3, q4⟩ := hcell
  have hr : r = (C, T, N) := Option.some.inj (h1.symm.trans hc)
  subst hr
  obtain ⟨hS1, hfc, kC, hkC, hkind⟩ := hk.K.1 ci _ hc
  obtain ⟨cf, kf, fi, f, hi, hsl⟩ := hS1 k hkN
  have hlay := X.1.2.2.2.2 _ (hin _ (u_in_lay hkN))
  unfold u_lay at hlay
  rw [if_pos hfin] at hlay
  have hst := (u_facts hfc hkC (u_lays X.1.2.2.2.2 hin hkN) hi).1
  have hcf : m.cls = cf := by
    obtain ⟨_, _, c', _, _, _, -, -, hf', -, -, -, hown2, -⟩ := Cond.laysFinal_spec hlay
    have e1 : c' = cf := by have := hi.symm.trans hf'; simp at this; exact this.1.symm
    rw [hdecl] at hown2
    rw [← e1]; exact Option.some.inj (X.1.2.2.2.1.symm.trans hown2)
  have h6 := u_fits hfc hkC hkind (Or.inr hlay) hi hd hn hfit
  refine W.putFinK X.1.1 X.1.2.1 X.1.2.2.2.1 (X.1.2.2.2.2 _ hlink) hi hst hcf hin2 (by rw [q2]; exact h6) q1 q3 (by rw [hsl]; exact k2_hasslot (q4 k hkN)) rfl rfl hdg fun H' e1 e2 e3 => ?_
  rw [hsl] at e1 ⊢
  exact kk H' _ ⟨_, hc, t_OB.to (V := updV (vp_V fs) k v) ⟨_, e1, q2, q3, t_set q4 hap hkN v⟩ (fun j _ => vp_updV_set hl v j)⟩ (hk.put hA.2 e2 e3) e2 e3 (hS.put e2 e3 hA.1)
end GC
