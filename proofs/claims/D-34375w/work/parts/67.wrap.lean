/-! the law's wrappers: a call whose throw is caught -/
def lI (z : Int) : Int64 := (iI z).toInt64
theorem g_metH {l : Launch} {E : EP} {y : MethodName} {cc : ByteArray} {nL : Nat} {ret : Option FieldType} {hh : List (Nat × Nat × Nat × Nat)} {As : List Value} {H : Heap} {d mc ms : Nat} {free : Nat → Prop} {Qc : Array Value → State → Outcome → State → Prop} {XC : String → State → State → Prop}
    (hy : plainName y.cls = true) (hlen : (lg_sl As).length ≤ nL)
    (body : ∀ (p : Program) (e : Env) (s : State) (m : MethodId) (below : List Frame) (meth : Method) (c : Code) (ls : Array Slot), gX p s m meth c cc nL As.toArray y.cls ret → c.exceptionTable.toList = tableOf hh → kk E s H → s.heap = H → lv_has ls nL (lv_args 0 As) →
      W p l e (gR d mc ms) s m As.toArray below meth c H [] 0 0 (vx_MQ below Qc XC As.toArray s mc ms free) (F0 m 0 ls [])) : vx_Met l y (wsW_ y cc nL ret hh) (gR d mc ms) (gPc E H As) Qc XC mc ms free := by
  refine vx_ofWH (cc := cc) (maxL := nL) (ret := ret) (hh := hh) hy rfl ?_
  intro p e s m args below meth c s₁ B hml hv
  obtain ⟨rfl, hh', hk⟩ := hv
  have hts := atoms_spec (ws := wsW_ y cc nL ret hh) B.pre
  have htab := vx_table (x := y) B (hts _ List.mem_cons_self)
  have hts : ∀ w ∈ lw_all, w.before _ s = true := fun w h => hts w (List.mem_cons_of_mem _ h)
  have hl := lv_entry As (n := nL) hlen
  rw [lg_entry_eq, hh']
  exact body p e s m below meth c _ ⟨⟨B.exec, B.bytes, hml, findClass_of_methodNamed B.named, hts⟩, B.returns, B.notSynchronized⟩ htab hk hh' hl
abbrev gWi (l : Launch) (E : EP) (y : MethodName) (cc : ByteArray) (nL : Nat) (hh : List (Nat × Nat × Nat × Nat)) (d mc ms : Nat) (H : Heap) (As : List Value) (A : Nat → Prop) (P : Int → Heap → Prop) : Prop :=
  vx_Met l y (wsW_ y cc nL (some .int) hh) (gR d mc ms) (gPc E H As) (gQi A P) (fun _ _ _ => False) mc ms A
/-- what a wrapper may change, what it leaves -/
def oW (n : Nat) (ad : Nat → Nat → Nat) (ob : Nat) (H : Heap) : Nat → Prop := fun q => gW n ad H q ∨ q = ob
def wrO (E : EP) (ad : Nat → Nat → Nat) (S : GS) (ob : Nat) (H : Heap) (ER : Int) (NEW : GS) (ANS : Int) : Int → Heap → Prop := fun z H1 => z = ER ∧ ∃ ad1 S1 g1, GP E ad1 S1 H1 ∧ adW (gN S1) (gN S) ad H ad1 ∧ ce E ob (aL E 1 g1) H1 ∧ (ER = 0 → S1 = NEW ∧ g1 0 = lI ANS) ∧ (¬ ER = 0 → S1 = S)
def wrN (E : EP) (ad : Nat → Nat → Nat) (S : GS) (H : Heap) (ER : Int) (NEW : GS) : Int → Heap → Prop := fun z H1 => z = ER ∧ ∃ ad1 S1, GP E ad1 S1 H1 ∧ adW (gN S1) (gN S) ad H ad1 ∧ (ER = 0 → S1 = NEW) ∧ (¬ ER = 0 → S1 = S)
section WRP
variable {E : EP} {ad ad1 : Nat → Nat → Nat} {S NEW : GS} {ob : Nat} {H H1 : Heap} {ER ANS : Int} {g : Nat → Int64}
theorem gW_rf : adW (gN S) (gN S) ad H ad := ⟨rfl, fun k i hv => Or.inl ⟨k, i, hv, rfl⟩⟩
theorem wrO.ok (he : ER = 0) (hP : GP E ad1 NEW H1) (hW : adW (gN NEW) (gN S) ad H ad1) (hO : ce E ob (aL E 1 g) H1) (hg : g 0 = lI ANS) {z : Int} (hz : z = 0) : wrO E ad S ob H ER NEW ANS z H1 := ⟨hz.trans he.symm, ad1, NEW, g, hP, hW, hO, fun _ => ⟨rfl, hg⟩, fun h => absurd he h⟩
theorem wrO.no {k : Nat} (he : ER = (k : Int) + 1) (hP : GP E ad S H1) (hO : ce E ob (aL E 1 g) H1) {z : Int} (hz : z = (k : Int) + 1) : wrO E ad S ob H ER NEW ANS z H1 := ⟨hz.trans he.symm, ad, S, g, hP, gW_rf, hO, fun h => by omega, fun _ => rfl⟩
theorem wrN.ok (he : ER = 0) (hP : GP E ad1 NEW H1) (hW : adW (gN NEW) (gN S) ad H ad1) {z : Int} (hz : z = 0) : wrN E ad S H ER NEW z H1 := ⟨hz.trans he.symm, ad1, NEW, hP, hW, fun _ => rfl, fun h => absurd he h⟩
theorem wrN.no {k : Nat} (he : ER = (k : Int) + 1) (hP : GP E ad S H1) {z : Int} (hz : z = (k : Int) + 1) : wrN E ad S H ER NEW z H1 := ⟨hz.trans he.symm, ad, S, hP, gW_rf, fun h => by omega, fun _ => rfl⟩
end WRP
section WR
variable {p : Program} {l : Launch} {e : Env} {R : Room} {s : State} {m : MethodId} {args : Array Value} {below : List Frame} {meth : Method} {c : Code} {H : Heap} {locs : List Loc} {cells slots : Nat} {Q : State → Prop}
variable {cc : ByteArray} {nL : Nat} {own : String} {ret : Option FieldType} {pc : Nat} {ls : Array Slot} {rest : List Value} {E : EP}
theorem g_wback {A0 A1 : Nat → Prop} {L : List Loc} {st₀ t T' : State} (hk : kk E s H) (h0 : st₀.heap = H) (e1 : T'.heap = t.heap) (hS : va_S A0 s.heap H locs) (hA : ∀ q, A1 q → A0 q) (hL : ∀ q ∈ L, A1 q.base) (hF : va_F (fun q => st₀.heap.size ≤ q) st₀ t) :
    (∀ q : Nat, q < H.size → T'.heap[q]? = H[q]?) ∧ va_S A0 s.heap T'.heap (locs ++ L) ∧ kk E s T'.heap := by
  obtain ⟨hz, hq, hS1⟩ := vx_keep (A0 := A0) (free := A1) h0 e1 hS (fun q h1 h2 => by rw [h0] at h2; exact absurd h2 (Nat.not_le.mpr h1)) hA hL hF
  have hq2 : ∀ q : Nat, q < H.size → T'.heap[q]? = H[q]? := fun q h => hq q h (by rw [h0]; omega)
  exact ⟨hq2, hS1, hk.kept hz (fun q h _ => hq2 q h)⟩
theorem g_wcalli {A0 A1 : Nat → Prop} {P : Int → Heap → Prop} {ER : Int} {Ls : List String} {mc ms : Nat} {a : Array Value} {st0 : List Value} (hr : vx_Run p l e R s m args below meth c H locs cells slots mc ms (F0 m pc ls st0) rest (gQi A1 P a) (gXD (xC ER Ls)) A1) (hk : kk E s H) (hS : va_S A0 s.heap H locs) (hA : ∀ q, A1 q → A0 q) (hN : ∀ q, A1 q → eN E ≤ q)
    (kx : ∀ (k : Nat) (nm : String) (cel : Cell) (q : Nat) (H1 : Heap) (locs1 : List Loc), ER = (k : Int) + 1 → Ls[k]? = some nm → kk E s H1 → (∀ q : Nat, q < H.size → H1[q]? = H[q]?) → va_S A0 s.heap H1 locs1 → H1[q]? = some cel → cel.vm = .none → s.vm.findClass nm = some cel.cls → vx_W p l e R s m args below meth c H1 locs1 (cells + mc) (slots + ms) Q (F0 m pc ls rest) q)
    (k : ∀ (z : Int) (H1 : Heap) (locs1 : List Loc), P z H1 → kk E s H1 → H.size ≤ H1.size → (∀ q : Nat, q < H.size → ¬ A1 q → H1[q]? = H[q]?) → va_S A0 s.heap H1 locs1 → W p l e R s m args below meth c H1 locs1 (cells + mc) (slots + ms) Q (F0 m (pc + 3) ls (.int (iI z) :: rest))) : W p l e R s m args below meth c H locs cells slots Q (F0 m pc ls st0) := by
  intro T hT X
  rcases hr T hT X with ⟨v, st₀, t, T', L, h0, X', hL, e1, e2, ⟨⟨z, hv, hp⟩, hF⟩, st⟩ | ⟨q, st₀, t, T', L, Ex, cel, h0, X', hL, e1, e2, ⟨⟨k0, hE, hm⟩, hF⟩, hce, hcv, hcl, st⟩
  · cases hv
    obtain ⟨hz, hq, hS1, hk1⟩ := g_back hk h0 e1 hS hA hN hL hF
    obtain ⟨t2, a1, b1⟩ := k z T'.heap (locs ++ L) (by rw [e1]; exact hp) hk1 hz hq hS1 T' rfl X'
    exact ⟨t2, st t2 a1, b1⟩
  · obtain ⟨hq, hS1, hk1⟩ := g_wback hk h0 e1 hS hA hL hF
    obtain ⟨t2, a1, b1⟩ := kx k0 Ex cel q T'.heap (locs ++ L) hE hm hk1 hq hS1 (by rw [e1]; exact hce) hcv hcl T' rfl X'
    exact ⟨t2, st.trans a1, b1⟩
theorem g_wcallv {A0 A1 : Nat → Prop} {P : Heap → Prop} {ER : Int} {Ls : List String} {mc ms : Nat} {a : Array Value} {st0 : List Value} (hr : vx_Run p l e R s m args below meth c H locs cells slots mc ms (F0 m pc ls st0) rest (gQv A1 P a) (gXD (xC ER Ls)) A1) (hk : kk E s H) (hS : va_S A0 s.heap H locs) (hA : ∀ q, A1 q → A0 q) (hN : ∀ q, A1 q → eN E ≤ q)
    (kx : ∀ (k : Nat) (nm : String) (cel : Cell) (q : Nat) (H1 : Heap) (locs1 : List Loc), ER = (k : Int) + 1 → Ls[k]? = some nm → kk E s H1 → (∀ q : Nat, q < H.size → H1[q]? = H[q]?) → va_S A0 s.heap H1 locs1 → H1[q]? = some cel → cel.vm = .none → s.vm.findClass nm = some cel.cls → vx_W p l e R s m args below meth c H1 locs1 (cells + mc) (slots + ms) Q (F0 m pc ls rest) q)
    (k : ∀ (H1 : Heap) (locs1 : List Loc), P H1 → kk E s H1 → H.size ≤ H1.size → (∀ q : Nat, q < H.size → ¬ A1 q → H1[q]? = H[q]?) → va_S A0 s.heap H1 locs1 → W p l e R s m args below meth c H1 locs1 (cells + mc) (slots + ms) Q (F0 m (pc + 3) ls rest)) : W p l e R s m args below meth c H locs cells slots Q (F0 m pc ls st0) := by
  intro T hT X
  rcases hr T hT X with ⟨v, st₀, t, T', L, h0, X', hL, e1, e2, ⟨⟨hv, hp⟩, hF⟩, st⟩ | ⟨q, st₀, t, T', L, Ex, cel, h0, X', hL, e1, e2, ⟨⟨k0, hE, hm⟩, hF⟩, hce, hcv, hcl, st⟩
  · cases hv
    obtain ⟨hz, hq, hS1, hk1⟩ := g_back hk h0 e1 hS hA hN hL hF
    obtain ⟨t2, a1, b1⟩ := k T'.heap (locs ++ L) (by rw [e1]; exact hp) hk1 hz hq hS1 T' rfl X'
    exact ⟨t2, st t2 a1, b1⟩
  · obtain ⟨hq, hS1, hk1⟩ := g_wback hk h0 e1 hS hA hL hF
    obtain ⟨t2, a1, b1⟩ := kx k0 Ex cel q T'.heap (locs ++ L) hE hm hk1 hq hS1 (by rw [e1]; exact hce) hcv hcl T' rfl X'
    exact ⟨t2, st.trans a1, b1⟩
/-- a wrapper's call: it returns -/
theorem g_wrun {A0 A1 : Nat → Prop} {P : Int → Heap → Prop} {hh : List (Nat × Nat × Nat × Nat)} {d mc ms : Nat} (X : gX p s m meth c cc nL args own ret) (hk : kk E s H) (hS : va_S A0 s.heap H locs) {index maxL : Nat} {As : List Value} {y : MethodName} {bytes : ByteArray}
    (hM : gWi l E y bytes maxL hh d mc ms H As A1 P) (n : Nat) (hT : GoodIn lw_all (va_wsS own index y (wsW_ y bytes maxL (some .int) hh))) (hy : y.cls ≠ "java/lang/invoke/MethodHandle" ∧ y.cls ≠ "java/lang/invoke/VarHandle" ∧ (parseMethodDescriptor y.desc).map (fun d => d.parameters.length) = some n)
    (hR : (d + 1 ≤ R.frames ∧ 8 + (maxL + 11) + 60 * d ≤ R.locals) ∧ cells + mc ≤ R.cells ∧ slots + ms ≤ R.slots) {st0 : List Value} (hst : st0 = As.reverse ++ rest) (hn : As.length = n) (hls : ls.size = nL) (hW : (rest.map fun v => v.category).sum ≤ 8) (hdg : decode cc pc = .ok (.invokestatic index, 3)) (hA : ∀ q, A1 q → A0 q) (hN : ∀ q, A1 q → eN E ≤ q)
    (k : ∀ (z : Int) (H1 : Heap) (locs1 : List Loc), P z H1 → kk E s H1 → H.size ≤ H1.size → (∀ q : Nat, q < H.size → ¬ A1 q → H1[q]? = H[q]?) → va_S A0 s.heap H1 locs1 → W p l e R s m args below meth c H1 locs1 (cells + mc) (slots + ms) Q (F0 m (pc + 3) ls (.int (iI z) :: rest))) : W p l e R s m args below meth c H locs cells slots Q (F0 m pc ls st0) := by
  have hr : vx_Run p l e R s m args below meth c H locs cells slots mc ms (F0 m pc ls st0) rest (gQi A1 P As.toArray) (fun _ _ _ => False) A1 := vx_runSX (hh := hh) (As := As) (rest := rest) (g := F0 m pc ls st0) X.1 hM (vx_cwSW n X.1.2.2.2.2 hT rfl rfl rfl hy hR.1) ⟨gPc_blind, fun U hU hW => ⟨rfl, hU, hk.warm hW⟩⟩ rfl hn hls hst (lv_room hW) hdg hR.2
  intro T hT X0
  rcases hr T hT X0 with ⟨v, st₀, t, T', L, h0, X', hL, e1, e2, ⟨⟨z, hv, hp⟩, hF⟩, st⟩ | ⟨q, st₀, t, T', L, Ex, cel, h0, X', hL, e1, e2, hf, hce, hcv, hcl, st⟩
  · cases hv
    obtain ⟨hz, hq, hS1, hk1⟩ := g_back hk h0 e1 hS hA hN hL hF
    obtain ⟨t2, a1, b1⟩ := k z T'.heap (locs ++ L) (by rw [e1]; exact hp) hk1 hz hq hS1 T' rfl X'
    exact ⟨t2, st t2 a1, b1⟩
  · exact hf.elim
end WR
