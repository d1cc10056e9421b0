/-! the world: classes, words, statics; cells by their addresses -/
abbrev vwCl : List vw_C := [(RX1, TX1, 6), (RX2, TX2, 14), (RX3, TX3, 27)]
abbrev EP : Type := va_G × Nat × Nat × (Nat → ClassId)
abbrev eD (E : EP) : va_G := E.1
abbrev eN (E : EP) : Nat := E.2.1
abbrev eT (E : EP) : Nat := E.2.2.1
abbrev eA (E : EP) (k : Nat) : ClassId := E.2.2.2 k
abbrev eTy (E : EP) : List (ClassId × FieldType) := [(eA E 0, .int), (eA E 1, .object "Greenwave$Junction"), (eA E 2, .boolean), (eA E 3, .long), (eA E 4, .array .int), (eA E 5, .array .boolean)]
/-- the words of the tables that don't ride in lists -/
def nFl : List (String × Nat × String × String × String × String) := [("Greenwave$Junction", 18, "Greenwave", "FIRST_CONFLICTS", "[I", "Greenwave"), ("Greenwave", 90, "Greenwave$Junction", "conflicts", "[I", "Greenwave"), ("Greenwave", 97, "Greenwave$Junction", "flows", "[I", "Greenwave"), ("Greenwave", 79, "Greenwave$Junction", "phases", "[I", "Greenwave"), ("Greenwave", 109, "Greenwave$Junction", "offset", "I", "Greenwave"), ("Greenwave", 103, "Greenwave$Junction", "linkSeconds", "I", "Greenwave"), ("Greenwave", 106, "Greenwave$Junction", "room", "I", "Greenwave"), ("Greenwave", 204, "Greenwave$Junction", "changed", "[I", "Greenwave"), ("Greenwave", 207, "Greenwave$Junction", "changedFrom", "I", "Greenwave"), ("Greenwave", 162, "Greenwave$Junction", "queue", "I", "Greenwave"), ("Greenwave", 168, "Greenwave$Junction", "arrivals", "I", "Greenwave"), ("Greenwave", 175, "Greenwave$Junction", "ready", "I", "Greenwave"), ("Greenwave", 159, "Greenwave$Junction", "travelling", "I", "Greenwave"), ("Greenwave", 165, "Greenwave$Junction", "coming", "[I", "Greenwave")]
def nCa : List (String × String) := [("[I", "java/lang/Cloneable"), ("java/lang/IllegalArgumentException", "java/lang/IllegalArgumentException"), ("java/lang/IndexOutOfBoundsException", "java/lang/IndexOutOfBoundsException"), ("java/lang/IllegalStateException", "java/lang/IllegalStateException")]
def nDe : List MethodName := [⟨"java/lang/RuntimeException", "<init>", "()V"⟩, ⟨"java/lang/Exception", "<init>", "()V"⟩, ⟨"java/lang/Throwable", "<init>", "()V"⟩]
def nNc : List (String × String) := [("java/lang/IllegalArgumentException", "java/lang/IllegalStateException"), ("java/lang/IllegalArgumentException", "java/lang/IndexOutOfBoundsException"), ("java/lang/IllegalStateException", "java/lang/IllegalArgumentException"), ("java/lang/IllegalStateException", "java/lang/IndexOutOfBoundsException"), ("java/lang/IndexOutOfBoundsException", "java/lang/IllegalArgumentException"), ("java/lang/IndexOutOfBoundsException", "java/lang/IllegalStateException")]
def va_AA (t : FieldType) (U : State) : Prop := (Cond.arrayOver (.array t)).before #[] U = true
theorem va_AA.moved {t : FieldType} {u U : State} (hvm : u.vm.Alike U.vm) (h : va_AA t u) : va_AA t U := by
  obtain ⟨comp, c, k, h1, h2, h3, h4, h5⟩ := arrayOverA_spec h
  obtain ⟨k', hk', he⟩ := hvm.2.2 _ _ h3
  have hi : (U.vm.classes.findIdx? fun (x : Class) => match x.kind with | .array component _ => component == comp | _ => false) = some c := by
    have hb : U.vm.bare = u.vm.bare := by first | exact hvm.bare_eq | exact hvm.bare_eq.symm
    have e1 := va_idx_bare U.vm comp
    have e2 := va_idx_bare u.vm comp
    rw [hb] at e1
    exact e1.symm.trans (e2.trans h2)
  have hkind : k'.kind = .array comp (.array t) := by rw [he]; exact h4
  have f1 : U.vm.findClass (FieldType.array t).toString = some comp := by rw [hvm.findClass]; exact h1
  have f2 : U.vm.findClass ("[" ++ (FieldType.array t).toString) = some c := by rw [hvm.findClass]; exact h5
  unfold va_AA Cond.before Cond.holds
  simp only [Cond.value]
  rw [f1, Option.bind_some]
  refine (congrArg (fun o : Option Nat => (o.bind (fun c => (U.vm.classes[c]?).map fun (k : Class) => match k.kind with | .array _ ty => decide (ty = FieldType.array t) && decide (U.vm.findClass ("[" ++ (FieldType.array t).toString) = some c) | _ => false) == some true)) hi).trans ?_
  simp [hk', hkind, f2]
/-- what the tables say, as far as no list carries it -/
def evs (U : State) : Prop :=
  (∀ w ∈ nFl, va_Nw (.fieldLinkNest w.1 w.2.1 w.2.2.1 w.2.2.2.1 w.2.2.2.2.1 w.2.2.2.2.2) U) ∧
  va_Nw (.methodLinkNest "Greenwave$Junction" 48 ⟨"Greenwave", "has", "(II)Z"⟩ "Greenwave") U ∧
  (∀ w ∈ nCa, va_Nw (.castable w.1 w.2) U) ∧ (∀ w ∈ nDe, va_Nw (.declares w) U) ∧ (∀ w ∈ nNc, va_Nc w.1 w.2 U) ∧
  va_AO "Greenwave$Junction" U ∧ va_AA .int U ∧ va_AA .boolean U
theorem evs.warm {s U : State} (hW : s.WarmedH U.vm) (h : evs s) : evs U :=
  ⟨fun w hw => (h.1 w hw).warmF hW, h.2.1.warmM hW, fun w hw => (h.2.2.1 w hw).warmC hW, fun w hw => (h.2.2.2.1 w hw).warmD hW, fun w hw => (h.2.2.2.2.1 w hw).moved hW.alike,
    h.2.2.2.2.2.1.moved hW.alike, h.2.2.2.2.2.2.1.moved hW.alike, h.2.2.2.2.2.2.2.moved hW.alike⟩
theorem evs.same {s U : State} (e : s.vm = U.vm) (h : evs s) : evs U :=
  ⟨fun w hw => (h.1 w hw).same rfl e, h.2.1.same rfl e, fun w hw => (h.2.2.1 w hw).same rfl e, fun w hw => (h.2.2.2.1 w hw).same rfl e, fun w hw => (h.2.2.2.2.1 w hw).moved (by rw [e]; exact Vm.Alike.refl _),
    h.2.2.2.2.2.1.moved (by rw [e]; exact Vm.Alike.refl _), h.2.2.2.2.2.2.1.moved (by rw [e]; exact Vm.Alike.refl _), h.2.2.2.2.2.2.2.moved (by rw [e]; exact Vm.Alike.refl _)⟩
/-- a class of arrays of arrays -/
def aaK (U : State) (cA cI : ClassId) (t : FieldType) : Prop := ∃ kA : Class, U.vm.classes[cA]? = some kA ∧ kA.kind = .array cI (.array t)
theorem aaK.moved {u U : State} (hvm : u.vm.Alike U.vm) {cA cI : ClassId} {t : FieldType} (h : aaK u cA cI t) : aaK U cA cI t := by
  obtain ⟨kA, h1, h2⟩ := h
  obtain ⟨k', hk', he⟩ := hvm.2.2 _ _ h1
  exact ⟨k', hk', by rw [he]; exact h2⟩
/-- the first conflicts -/
def fcF (k : Nat) : Int := if k / 4 / 2 = k % 4 / 2 then -1 else 3
def fcT (E : EP) (H : Heap) : Prop := eT E < eN E ∧ ∃ cell : Cell, H[eT E]? = some cell ∧ cell.cls = eA E 0 ∧ (∀ k, cell.vm ≠ .statics k) ∧ cell.vm ≠ .unknown ∧ cell.slots = (arrV (eA E 0) 16 (fun j => .int (iI (fcF j)))).slots
theorem fcT.kept {E : EP} {H H1 : Heap} (h : fcT E H) (hq : ∀ q : Nat, q < H.size → ¬ eN E ≤ q → H1[q]? = H[q]?) : fcT E H1 := by
  obtain ⟨h0, cell, h1, h2⟩ := h
  exact ⟨h0, cell, by rw [hq _ (Array.getElem?_eq_some_iff.mp h1).1 (Nat.not_le.mpr h0)]; exact h1, h2⟩
abbrev oA (E : EP) : Nat → Prop := fun q => eN E ≤ q
/-- what every method finds: classes, words, statics (s: the tables' state, H: the heap) -/
def kk (E : EP) (s : State) (H : Heap) : Prop :=
  va_K (eD E) vwCl (eTy E) s ∧ evs s ∧ aaK s (eA E 4) (eA E 0) .int ∧ aaK s (eA E 5) (eA E 2) .boolean ∧
  vx_Zq Bundle.tN "UNASSIGNED_STACK" Bundle.steD (oA E) s H ∧ vx_Zq Bundle.tN "SUPPRESSED_SENTINEL" Bundle.listD (oA E) s H ∧
  va_Z "Greenwave" "FIRST_CONFLICTS" "[I" (.ref (eT E)) (oA E) s H ∧ fcT E H ∧ eN E ≤ H.size
theorem kk.warm {E : EP} {s U : State} {H : Heap} (hW : s.WarmedH U.vm) (h : kk E s H) : kk E U H :=
  ⟨va_K.moved hW.alike h.1, h.2.1.warm hW, h.2.2.1.moved hW.alike, h.2.2.2.1.moved hW.alike, h.2.2.2.2.1.moved hW.alike, h.2.2.2.2.2.1.moved hW.alike, h.2.2.2.2.2.2.1.moved hW.alike, h.2.2.2.2.2.2.2⟩
theorem kk.same {E : EP} {s U : State} {H : Heap} (e : s.vm = U.vm) (h : kk E s H) : kk E U H := by
  have ha : s.vm.Alike U.vm := by rw [e]; exact Vm.Alike.refl _
  exact ⟨va_K.moved ha h.1, h.2.1.same e, h.2.2.1.moved ha, h.2.2.2.1.moved ha, h.2.2.2.2.1.moved ha, h.2.2.2.2.2.1.moved ha, h.2.2.2.2.2.2.1.moved ha, h.2.2.2.2.2.2.2⟩
theorem kk.kept {E : EP} {s : State} {H H1 : Heap} (h : kk E s H) (hz : H.size ≤ H1.size) (hq : ∀ q : Nat, q < H.size → ¬ eN E ≤ q → H1[q]? = H[q]?) : kk E s H1 :=
  ⟨h.1, h.2.1, h.2.2.1, h.2.2.2.1, h.2.2.2.2.1.kept hq, h.2.2.2.2.2.1.kept hq, h.2.2.2.2.2.2.1.kept hq, h.2.2.2.2.2.2.2.1.kept hq, Nat.le_trans h.2.2.2.2.2.2.2.2 hz⟩
theorem kk.K {E : EP} {s : State} {H : Heap} (h : kk E s H) : va_K (eD E) vwCl (eTy E) s := h.1
theorem kk.ev {E : EP} {s : State} {H : Heap} (h : kk E s H) : evs s := h.2.1
theorem kk.N {E : EP} {s : State} {H : Heap} (h : kk E s H) : eN E ≤ H.size := h.2.2.2.2.2.2.2.2
/-- a method's start: its arguments, the heap, and the world -/
abbrev gPc (E : EP) (H : Heap) (As : List Value) : Array Value → State → Prop := va_Pc As (fun U => U.heap = H ∧ kk E U H)
theorem gPc_blind {E : EP} {H : Heap} {As : List Value} : FrameBlind (gPc E H As) := fun a U g mk q => ⟨q.1, q.2.1, q.2.2.same rfl⟩
/-- a cell -/
abbrev ce (E : EP) (a : Nat) (e : va_E) (H : Heap) : Prop := va_at (eD E) vwCl (a, e) H
theorem P1 {D : va_G} {cl : List vw_C} {q : Nat × va_E} {H : Heap} (h : va_at D cl q H) : va_P D cl [q] H := by
  intro k x hx
  cases k with
  | zero => cases hx; exact h
  | succ k => simp at hx
abbrev aI (E : EP) (n : Nat) (f : Nat → Int) : va_E := .inl (eA E 0, n, .inl (fun k => iI (f k)))
abbrev aB (E : EP) (n : Nat) (f : Nat → Int) : va_E := .inl (eA E 2, n, .inl (fun k => iI (f k)))
abbrev aL (E : EP) (n : Nat) (f : Nat → Int64) : va_E := .inl (eA E 3, n, .inr (.inl f))
abbrev aQ (E : EP) (c : Nat) (n : Nat) (f : Nat → Option Nat) : va_E := .inl (eA E c, n, .inr (.inr (.inr (.inr f))))
/-- the room of a method of depth d -/
abbrev gR (d mc ms : Nat) : Room := { frames := d, cells := mc, slots := ms, locals := 60 * d }
/-- where a method stands: the machine, its code, its answer's type, no lock -/
abbrev gX (p : Program) (s : State) (m : MethodId) (meth : Method) (c : Code) (cc : ByteArray) (nL : Nat) (args : Array Value) (own : String) (ret : Option FieldType) : Prop :=
  CallFix p m c cc nL s args lw_all own ∧ meth.sig.returnType = ret ∧ meth.locks = false
/-- the entry of a body, of a method that no native row replaces -/
theorem Met.ofWF {l : Launch} {y : MethodName} {ws ws' : List Cond} {rm : Room} {Pc : Array Value → State → Prop} {Qc : Array Value → State → Outcome → State → Prop} {mc ms : Nat} {free : Addr → Prop} {cc : ByteArray} {maxL : Nat} {ret : Option FieldType}
    (hy : plainFor y = true) (hw : ws = Cond.code y cc maxL ret :: ws')
    (body : ∀ p e s m args below meth c s₁, BodyLoose p l y (headSpec ws rm) cc maxL ret e s m args below meth c s₁ → c.maxLocals = maxL → Pc args s →
      W p l e (headSpec ws rm).room s m args below meth c s.heap [] 0 0 (MQ below Qc args s mc ms free) (entryFrame m args maxL)) : Met l y ws rm Pc Qc mc ms free := by
  refine MetFree.of_bodySF (code := cc) (maxLocals := maxL) (ret := ret) hy ?_ ?_
  · intro args s m h hn
    obtain ⟨meth, c, h1, h2, h3, h4, h5, h6, -, -⟩ := Cond.code_spec hn (atoms_spec (ws := ws) h _ (by rw [hw]; exact List.mem_cons_self))
    exact ⟨meth, c, h1, h2, h3, h4, h5, h6⟩
  · intro p e s m args below meth c s₁ B hml hP _
    have hh0 : s₁.heap = s.heap := by rw [B.state]; rfl
    obtain ⟨t, a1, o, b1, b2, b3⟩ := body p e s m args below meth c s₁ B hml hP s₁ hh0 (Stand.of_body B)
    exact ⟨t, o, a1, b1, b2, ⟨b3.1, b3.2⟩⟩
theorem g_met {l : Launch} {E : EP} {y : MethodName} {cc : ByteArray} {nL : Nat} {ret : Option FieldType} {As : List Value} {H : Heap} {d mc ms : Nat} {free : Nat → Prop} {Qc : Array Value → State → Outcome → State → Prop}
    (hy : plainFor y = true) (hlen : (lg_sl As).length ≤ nL)
    (body : ∀ (p : Program) (e : Env) (s : State) (m : MethodId) (below : List Frame) (meth : Method) (c : Code) (ls : Array Slot), gX p s m meth c cc nL As.toArray y.cls ret → (s.methodNamed? y = some m ∧ s.vm.method? m = some meth) → kk E s H → s.heap = H → lv_has ls nL (lv_args 0 As) →
      W p l e (gR d mc ms) s m As.toArray below meth c H [] 0 0 (MQ below Qc As.toArray s mc ms free) (F0 m 0 ls [])) : Met l y (ws_ y cc nL ret) (gR d mc ms) (gPc E H As) Qc mc ms free := by
  refine Met.ofWF (cc := cc) (maxL := nL) (ret := ret) hy rfl ?_
  intro p e s m args below meth c s₁ B hml hv
  obtain ⟨rfl, hh, hk⟩ := hv
  have hts := atoms_spec (ws := ws_ y cc nL ret) B.pre
  have hts : ∀ w ∈ lw_all, w.before _ s = true := fun w h => hts w (List.mem_cons_of_mem _ h)
  have hl := lv_entry As (n := nL) hlen
  rw [lg_entry_eq, hh]
  exact body p e s m below meth c _ ⟨⟨B.exec, B.bytes, hml, findClass_of_methodNamed B.named, hts⟩, B.returns, B.notSynchronized⟩ ⟨B.named, B.method⟩ hk hh hl
theorem plainMath {d : String} {n : String} (h : (["(D)D", "(DD)D", "(DDD)D", "(F)F", "(FF)F", "(FFF)F"] : List String).contains d = false) : plainFor ⟨"java/lang/Math", n, d⟩ = true := by
  have hr : (Jvm.natives.all fun r => r.cls != "java/lang/Math" || (["(D)D", "(DD)D", "(DDD)D", "(F)F", "(FF)F", "(FFF)F"] : List String).contains r.desc) = true := by decide +kernel
  unfold plainFor
  rw [Bool.or_eq_true]; right
  rw [Option.isNone_iff_eq_none, NativeRow.find?, List.find?_eq_none]
  intro r hm h9
  have := List.all_eq_true.mp hr r hm
  simp only [Bool.and_eq_true, beq_iff_eq] at h9
  rw [h9.1.2, h9.2, h] at this
  simp at this
theorem g_metX {l : Launch} {E : EP} {y : MethodName} {cc : ByteArray} {nL : Nat} {ret : Option FieldType} {As : List Value} {H : Heap} {d mc ms : Nat} {free : Nat → Prop} {Qc : Array Value → State → Outcome → State → Prop} {XC : String → State → State → Prop}
    (hy : plainName y.cls = true) (hlen : (lg_sl As).length ≤ nL)
    (body : ∀ (p : Program) (e : Env) (s : State) (m : MethodId) (below : List Frame) (meth : Method) (c : Code) (ls : Array Slot), gX p s m meth c cc nL As.toArray y.cls ret → (∀ x ∈ c.exceptionTable.toList, False) → kk E s H → s.heap = H → lv_has ls nL (lv_args 0 As) →
      W p l e (gR d mc ms) s m As.toArray below meth c H [] 0 0 (vx_MQ below Qc XC As.toArray s mc ms free) (F0 m 0 ls [])) : vx_Met l y (ws_ y cc nL ret) (gR d mc ms) (gPc E H As) Qc XC mc ms free := by
  refine vx_ofW (cc := cc) (maxL := nL) (ret := ret) hy rfl ?_
  intro p e s m args below meth c s₁ B hml hno hv
  obtain ⟨rfl, hh, hk⟩ := hv
  have hts := atoms_spec (ws := ws_ y cc nL ret) B.pre
  have hts : ∀ w ∈ lw_all, w.before _ s = true := fun w h => hts w (List.mem_cons_of_mem _ h)
  have hl := lv_entry As (n := nL) hlen
  rw [lg_entry_eq, hh]
  exact body p e s m below meth c _ ⟨⟨B.exec, B.bytes, hml, findClass_of_methodNamed B.named, hts⟩, B.returns, B.notSynchronized⟩ hno hk hh hl
