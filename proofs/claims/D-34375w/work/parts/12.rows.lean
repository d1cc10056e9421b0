/-! rows over integers -/
section GR
variable {p : Program} {l : Launch} {e : Env} {R : Room} {s : State} {m : MethodId} {args : Array Value} {below : List Frame} {meth : Method} {c : Code} {H : Heap} {locs : List Loc} {cells slots : Nat} {Q : State → Prop}
variable {cc : ByteArray} {nL : Nat} {own : String} {ret : Option FieldType} {pc : Nat} {ls : Array Slot} {rest : List Value} {E : EP}
theorem g_iconst (X : gX p s m meth c cc nL args own ret) {n : Int} (hdg : decode cc pc = .ok (.iconst n, 1)) (k : W p l e R s m args below meth c H locs cells slots Q (F0 m (pc + 1) ls (.int (iI n) :: rest))) : W p l e R s m args below meth c H locs cells slots Q (F0 m pc ls rest) := lv_iconst X.1.1 X.1.2.1 hdg rfl k
theorem g_bipush (X : gX p s m meth c cc nL args own ret) {n : Int} (hdg : decode cc pc = .ok (.bipush n, 2)) (hn : (Int8.ofInt n).toInt32 = iI n) (k : W p l e R s m args below meth c H locs cells slots Q (F0 m (pc + 2) ls (.int (iI n) :: rest))) : W p l e R s m args below meth c H locs cells slots Q (F0 m pc ls rest) := lv_bipush X.1.1 X.1.2.1 hdg hn k
theorem g_sipush (X : gX p s m meth c cc nL args own ret) {n : Int} (hdg : decode cc pc = .ok (.sipush n, 3)) (hn : (Int16.ofInt n).toInt32 = iI n) (k : W p l e R s m args below meth c H locs cells slots Q (F0 m (pc + 3) ls (.int (iI n) :: rest))) : W p l e R s m args below meth c H locs cells slots Q (F0 m pc ls rest) := lv_sipush X.1.1 X.1.2.1 hdg hn k
theorem g_ldc (X : gX p s m meth c cc nL args own ret) {index : Nat} {n : Int} (hw : (Jvm.Cond.constant own index (iI n)) ∈ lw_all) (hdg : decode cc pc = .ok (.ldc index, 2)) (k : W p l e R s m args below meth c H locs cells slots Q (F0 m (pc + 2) ls (.int (iI n) :: rest))) : W p l e R s m args below meth c H locs cells slots Q (F0 m pc ls rest) := lv_ldc X.1.1 X.1.2.1 X.1.2.2.2.1 (X.1.2.2.2.2 _ hw) hdg k
theorem g_iload_n (X : gX p s m meth c cc nL args own ret) {k : Fin 4} {i : Nat} {x : Int} {lv : List (Nat × Value)} (hdg : decode cc pc = .ok (.iload_n k, 1)) (hi : (k : Nat) = i) (hl : lv_has ls nL lv) (q : Nat) (hq : lv[q]? = some (i, .int (iI x)))
    (k : W p l e R s m args below meth c H locs cells slots Q (F0 m (pc + 1) ls (.int (iI x) :: rest))) : W p l e R s m args below meth c H locs cells slots Q (F0 m pc ls rest) := lv_iload_n X.1.1 X.1.2.1 hdg hi (lv_at hl q hq) k
theorem g_iload (X : gX p s m meth c cc nL args own ret) {i : Nat} {x : Int} {lv : List (Nat × Value)} (hdg : decode cc pc = .ok (.iload i, 2)) (hl : lv_has ls nL lv) (q : Nat) (hq : lv[q]? = some (i, .int (iI x)))
    (k : W p l e R s m args below meth c H locs cells slots Q (F0 m (pc + 2) ls (.int (iI x) :: rest))) : W p l e R s m args below meth c H locs cells slots Q (F0 m pc ls rest) := lv_iload X.1.1 X.1.2.1 hdg (lv_at hl q hq) k
theorem g_aload_n (X : gX p s m meth c cc nL args own ret) {k : Fin 4} {i x : Nat} {lv : List (Nat × Value)} (hdg : decode cc pc = .ok (.aload_n k, 1)) (hi : (k : Nat) = i) (hl : lv_has ls nL lv) (q : Nat) (hq : lv[q]? = some (i, .ref x))
    (k : W p l e R s m args below meth c H locs cells slots Q (F0 m (pc + 1) ls (.ref x :: rest))) : W p l e R s m args below meth c H locs cells slots Q (F0 m pc ls rest) := lv_aload_n X.1.1 X.1.2.1 hdg hi (lv_at hl q hq) k
theorem g_aload (X : gX p s m meth c cc nL args own ret) {i x : Nat} {lv : List (Nat × Value)} (hdg : decode cc pc = .ok (.aload i, 2)) (hl : lv_has ls nL lv) (q : Nat) (hq : lv[q]? = some (i, .ref x))
    (k : W p l e R s m args below meth c H locs cells slots Q (F0 m (pc + 2) ls (.ref x :: rest))) : W p l e R s m args below meth c H locs cells slots Q (F0 m pc ls rest) := lv_aload X.1.1 X.1.2.1 hdg (lv_at hl q hq) k
theorem g_istore_n (X : gX p s m meth c cc nL args own ret) {k : Fin 4} {i : Nat} {x : Int} {lv lv' : List (Nat × Value)} (hdg : decode cc pc = .ok (.istore_n k, 1)) (hi : (k : Nat) = i) (h : lv_has ls nL lv) (hn : i < nL) (hl : (i, Value.int (iI x)) :: lv.filter (fun q => !(q.1 == i) && !(q.1 + 1 == i && q.2.category == 2)) = lv')
    (kk : ∀ ls' : Array Slot, lv_has ls' nL lv' → W p l e R s m args below meth c H locs cells slots Q (F0 m (pc + 1) ls' rest)) : W p l e R s m args below meth c H locs cells slots Q (F0 m pc ls (.int (iI x) :: rest)) := lv_istore_n X.1.1 X.1.2.1 hdg hi h hn hl kk
theorem g_istore (X : gX p s m meth c cc nL args own ret) {i : Nat} {x : Int} {lv lv' : List (Nat × Value)} (hdg : decode cc pc = .ok (.istore i, 2)) (h : lv_has ls nL lv) (hn : i < nL) (hl : (i, Value.int (iI x)) :: lv.filter (fun q => !(q.1 == i) && !(q.1 + 1 == i && q.2.category == 2)) = lv')
    (kk : ∀ ls' : Array Slot, lv_has ls' nL lv' → W p l e R s m args below meth c H locs cells slots Q (F0 m (pc + 2) ls' rest)) : W p l e R s m args below meth c H locs cells slots Q (F0 m pc ls (.int (iI x) :: rest)) := lv_istore X.1.1 X.1.2.1 hdg h hn hl kk
theorem g_astore_n (X : gX p s m meth c cc nL args own ret) {k : Fin 4} {i x : Nat} {lv lv' : List (Nat × Value)} (hdg : decode cc pc = .ok (.astore_n k, 1)) (hi : (k : Nat) = i) (h : lv_has ls nL lv) (hn : i < nL) (hl : (i, Value.ref x) :: lv.filter (fun q => !(q.1 == i) && !(q.1 + 1 == i && q.2.category == 2)) = lv')
    (kk : ∀ ls' : Array Slot, lv_has ls' nL lv' → W p l e R s m args below meth c H locs cells slots Q (F0 m (pc + 1) ls' rest)) : W p l e R s m args below meth c H locs cells slots Q (F0 m pc ls (.ref x :: rest)) := lv_astore_n X.1.1 X.1.2.1 hdg hi h hn hl kk
theorem g_astore (X : gX p s m meth c cc nL args own ret) {i x : Nat} {lv lv' : List (Nat × Value)} (hdg : decode cc pc = .ok (.astore i, 2)) (h : lv_has ls nL lv) (hn : i < nL) (hl : (i, Value.ref x) :: lv.filter (fun q => !(q.1 == i) && !(q.1 + 1 == i && q.2.category == 2)) = lv')
    (kk : ∀ ls' : Array Slot, lv_has ls' nL lv' → W p l e R s m args below meth c H locs cells slots Q (F0 m (pc + 2) ls' rest)) : W p l e R s m args below meth c H locs cells slots Q (F0 m pc ls (.ref x :: rest)) := lv_astore X.1.1 X.1.2.1 hdg h hn hl kk
theorem g_iinc (X : gX p s m meth c cc nL args own ret) {i k : Nat} {n : Int} {x : Int} {lv lv' : List (Nat × Value)} (hdg : decode cc pc = .ok (.iinc i n, 3)) (h : lv_has ls nL lv) (hk : lv[k]? = some (i, .int (iI x))) (hn : i < nL) (hl : (i, Value.int (iI (x + n))) :: lv.filter (fun q => !(q.1 == i) && !(q.1 + 1 == i && q.2.category == 2)) = lv')
    (kk : ∀ ls' : Array Slot, lv_has ls' nL lv' → W p l e R s m args below meth c H locs cells slots Q (F0 m (pc + 3) ls' rest)) : W p l e R s m args below meth c H locs cells slots Q (F0 m pc ls rest) := lv_iinc X.1.1 X.1.2.1 hdg h hk (iI_add x n) hn hl kk
theorem g_iadd (X : gX p s m meth c cc nL args own ret) {a b : Int} (hdg : decode cc pc = .ok (.iadd, 1)) (k : W p l e R s m args below meth c H locs cells slots Q (F0 m (pc + 1) ls (.int (iI (a + b)) :: rest))) : W p l e R s m args below meth c H locs cells slots Q (F0 m pc ls (.int (iI b) :: .int (iI a) :: rest)) :=
  lv_iadd X.1.1 X.1.2.1 hdg (by rw [iI_add]; exact k)
theorem g_isub (X : gX p s m meth c cc nL args own ret) {a b : Int} (hdg : decode cc pc = .ok (.isub, 1)) (k : W p l e R s m args below meth c H locs cells slots Q (F0 m (pc + 1) ls (.int (iI (a - b)) :: rest))) : W p l e R s m args below meth c H locs cells slots Q (F0 m pc ls (.int (iI b) :: .int (iI a) :: rest)) :=
  lv_isub X.1.1 X.1.2.1 hdg (by rw [iI_sub]; exact k)
theorem g_imul (X : gX p s m meth c cc nL args own ret) {a b : Int} (hdg : decode cc pc = .ok (.imul, 1)) (k : W p l e R s m args below meth c H locs cells slots Q (F0 m (pc + 1) ls (.int (iI (a * b)) :: rest))) : W p l e R s m args below meth c H locs cells slots Q (F0 m pc ls (.int (iI b) :: .int (iI a) :: rest)) :=
  lv_imul X.1.1 X.1.2.1 hdg (by rw [iI_mul]; exact k)
theorem g_idiv (X : gX p s m meth c cc nL args own ret) {a b : Int} (hdg : decode cc pc = .ok (.idiv, 1)) (h : (-2147483648 ≤ a ∧ a ≤ 2147483647) ∧ (-2147483648 ≤ b ∧ b ≤ 2147483647) ∧ b ≠ 0) (k : W p l e R s m args below meth c H locs cells slots Q (F0 m (pc + 1) ls (.int (iI (a.tdiv b)) :: rest))) : W p l e R s m args below meth c H locs cells slots Q (F0 m pc ls (.int (iI b) :: .int (iI a) :: rest)) :=
  lv_idiv X.1.1 X.1.2.1 hdg (iI_ne0 h.2.1 h.2.2) (by rw [iI_div ⟨h.1, h.2.1⟩]; exact k)
theorem g_idivN (X : gX p s m meth c cc nL args own ret) {a b : Int} (hdg : decode cc pc = .ok (.idiv, 1)) (h : 0 ≤ a ∧ a ≤ 2147483647 ∧ 0 < b ∧ b ≤ 2147483647) (k : W p l e R s m args below meth c H locs cells slots Q (F0 m (pc + 1) ls (.int (iI (a / b)) :: rest))) : W p l e R s m args below meth c H locs cells slots Q (F0 m pc ls (.int (iI b) :: .int (iI a) :: rest)) :=
  lv_idiv X.1.1 X.1.2.1 hdg (iI_ne0 (by omega) (by omega)) (by rw [iI_divN h]; exact k)
theorem g_irem (X : gX p s m meth c cc nL args own ret) {a b : Int} (hdg : decode cc pc = .ok (.irem, 1)) (h : (-2147483648 ≤ a ∧ a ≤ 2147483647) ∧ (-2147483648 ≤ b ∧ b ≤ 2147483647) ∧ b ≠ 0) (k : W p l e R s m args below meth c H locs cells slots Q (F0 m (pc + 1) ls (.int (iI (a.tmod b)) :: rest))) : W p l e R s m args below meth c H locs cells slots Q (F0 m pc ls (.int (iI b) :: .int (iI a) :: rest)) :=
  lv_irem X.1.1 X.1.2.1 hdg (iI_ne0 h.2.1 h.2.2) (by rw [iI_rem ⟨h.1, h.2.1⟩]; exact k)
theorem g_iremN (X : gX p s m meth c cc nL args own ret) {a b : Int} (hdg : decode cc pc = .ok (.irem, 1)) (h : 0 ≤ a ∧ a ≤ 2147483647 ∧ 0 < b ∧ b ≤ 2147483647) (k : W p l e R s m args below meth c H locs cells slots Q (F0 m (pc + 1) ls (.int (iI (a % b)) :: rest))) : W p l e R s m args below meth c H locs cells slots Q (F0 m pc ls (.int (iI b) :: .int (iI a) :: rest)) :=
  lv_irem X.1.1 X.1.2.1 hdg (iI_ne0 (by omega) (by omega)) (by rw [iI_remN h]; exact k)
theorem g_dup (X : gX p s m meth c cc nL args own ret) {v : Value} (hdg : decode cc pc = .ok (.dup, 1)) (hv : v.category = 1) (k : W p l e R s m args below meth c H locs cells slots Q (F0 m (pc + 1) ls (v :: v :: rest))) : W p l e R s m args below meth c H locs cells slots Q (F0 m pc ls (v :: rest)) := lv_dup X.1.1 X.1.2.1 hdg hv k
theorem g_dup2 (X : gX p s m meth c cc nL args own ret) {v w : Value} (hdg : decode cc pc = .ok (.dup2, 1)) (hv : v.category = 1) (hw : w.category = 1) (k : W p l e R s m args below meth c H locs cells slots Q (F0 m (pc + 1) ls (v :: w :: v :: w :: rest))) : W p l e R s m args below meth c H locs cells slots Q (F0 m pc ls (v :: w :: rest)) := lv_dup2_11 X.1.1 X.1.2.1 hdg hv hw k
theorem g_dup_x1 (X : gX p s m meth c cc nL args own ret) {v w : Value} (hdg : decode cc pc = .ok (.dup_x1, 1)) (hv : v.category = 1) (hw : w.category = 1) (k : W p l e R s m args below meth c H locs cells slots Q (F0 m (pc + 1) ls (v :: w :: v :: rest))) : W p l e R s m args below meth c H locs cells slots Q (F0 m pc ls (v :: w :: rest)) := lv_dup_x1 X.1.1 X.1.2.1 hdg hv hw k
theorem g_pop (X : gX p s m meth c cc nL args own ret) {v : Value} (hdg : decode cc pc = .ok (.pop, 1)) (hv : v.category = 1) (k : W p l e R s m args below meth c H locs cells slots Q (F0 m (pc + 1) ls rest)) : W p l e R s m args below meth c H locs cells slots Q (F0 m pc ls (v :: rest)) := lv_pop X.1.1 X.1.2.1 hdg hv k
theorem g_goto (X : gX p s m meth c cc nL args own ret) {off : Int} {tgt : Nat} (hdg : decode cc pc = .ok (.goto off, 3)) (ht : (pc : Int) + off = (tgt : Int)) (k : W p l e R s m args below meth c H locs cells slots Q (F0 m tgt ls rest)) : W p l e R s m args below meth c H locs cells slots Q (F0 m pc ls rest) := lv_goto X.1.1 X.1.2.1 hdg ht k
theorem g_if_eq (X : gX p s m meth c cc nL args own ret) {a : Int} {off : Int} {tgt : Nat} (hdg : decode cc pc = .ok (.ifCond .eq off, 3)) (ht : (pc : Int) + off = (tgt : Int)) (h : -2147483648 ≤ a ∧ a ≤ 2147483647)
    (kt : a = 0 → W p l e R s m args below meth c H locs cells slots Q (F0 m tgt ls rest)) (kf : ¬ a = 0 → W p l e R s m args below meth c H locs cells slots Q (F0 m (pc + 3) ls rest)) : W p l e R s m args below meth c H locs cells slots Q (F0 m pc ls (.int (iI a) :: rest)) := by
  have e : iI a = 0 ↔ a = 0 := by rw [← iI_0, iI_inj (by omega)]
  exact lv_if_eq X.1.1 X.1.2.1 hdg ht (fun q => kt (e.mp q)) (fun q => kf (fun z => q (e.mpr z)))
theorem g_if_ne (X : gX p s m meth c cc nL args own ret) {a : Int} {off : Int} {tgt : Nat} (hdg : decode cc pc = .ok (.ifCond .ne off, 3)) (ht : (pc : Int) + off = (tgt : Int)) (h : -2147483648 ≤ a ∧ a ≤ 2147483647)
    (kt : ¬ a = 0 → W p l e R s m args below meth c H locs cells slots Q (F0 m tgt ls rest)) (kf : a = 0 → W p l e R s m args below meth c H locs cells slots Q (F0 m (pc + 3) ls rest)) : W p l e R s m args below meth c H locs cells slots Q (F0 m pc ls (.int (iI a) :: rest)) := by
  have e : iI a = 0 ↔ a = 0 := by rw [← iI_0, iI_inj (by omega)]
  exact lv_if_ne X.1.1 X.1.2.1 hdg ht (fun q => kt (fun z => q (e.mpr z))) (fun q => kf (by first | exact e.mp q | exact e.mp (Classical.not_not.mp q)))
theorem g_if_lt (X : gX p s m meth c cc nL args own ret) {a : Int} {off : Int} {tgt : Nat} (hdg : decode cc pc = .ok (.ifCond .lt off, 3)) (ht : (pc : Int) + off = (tgt : Int)) (h : -2147483648 ≤ a ∧ a ≤ 2147483647)
    (kt : a < 0 → W p l e R s m args below meth c H locs cells slots Q (F0 m tgt ls rest)) (kf : ¬ a < 0 → W p l e R s m args below meth c H locs cells slots Q (F0 m (pc + 3) ls rest)) : W p l e R s m args below meth c H locs cells slots Q (F0 m pc ls (.int (iI a) :: rest)) := by
  have e : iI a < 0 ↔ a < 0 := by rw [← iI_0, iI_lt (by omega)]
  exact lv_if_lt X.1.1 X.1.2.1 hdg ht (fun q => kt (e.mp q)) (fun q => kf (fun z => q (e.mpr z)))
theorem g_if_ge (X : gX p s m meth c cc nL args own ret) {a : Int} {off : Int} {tgt : Nat} (hdg : decode cc pc = .ok (.ifCond .ge off, 3)) (ht : (pc : Int) + off = (tgt : Int)) (h : -2147483648 ≤ a ∧ a ≤ 2147483647)
    (kt : 0 ≤ a → W p l e R s m args below meth c H locs cells slots Q (F0 m tgt ls rest)) (kf : ¬ 0 ≤ a → W p l e R s m args below meth c H locs cells slots Q (F0 m (pc + 3) ls rest)) : W p l e R s m args below meth c H locs cells slots Q (F0 m pc ls (.int (iI a) :: rest)) := by
  have e : 0 ≤ iI a ↔ 0 ≤ a := by rw [← iI_0, iI_le (by omega)]
  exact lv_if_ge X.1.1 X.1.2.1 hdg ht (fun q => kt (e.mp q)) (fun q => kf (fun z => q (e.mpr z)))
theorem g_if_gt (X : gX p s m meth c cc nL args own ret) {a : Int} {off : Int} {tgt : Nat} (hdg : decode cc pc = .ok (.ifCond .gt off, 3)) (ht : (pc : Int) + off = (tgt : Int)) (h : -2147483648 ≤ a ∧ a ≤ 2147483647)
    (kt : 0 < a → W p l e R s m args below meth c H locs cells slots Q (F0 m tgt ls rest)) (kf : ¬ 0 < a → W p l e R s m args below meth c H locs cells slots Q (F0 m (pc + 3) ls rest)) : W p l e R s m args below meth c H locs cells slots Q (F0 m pc ls (.int (iI a) :: rest)) := by
  have e : 0 < iI a ↔ 0 < a := by rw [← iI_0, iI_lt (by omega)]
  exact lv_if_gt X.1.1 X.1.2.1 hdg ht (fun q => kt (e.mp q)) (fun q => kf (fun z => q (e.mpr z)))
theorem g_if_le (X : gX p s m meth c cc nL args own ret) {a : Int} {off : Int} {tgt : Nat} (hdg : decode cc pc = .ok (.ifCond .le off, 3)) (ht : (pc : Int) + off = (tgt : Int)) (h : -2147483648 ≤ a ∧ a ≤ 2147483647)
    (kt : a ≤ 0 → W p l e R s m args below meth c H locs cells slots Q (F0 m tgt ls rest)) (kf : ¬ a ≤ 0 → W p l e R s m args below meth c H locs cells slots Q (F0 m (pc + 3) ls rest)) : W p l e R s m args below meth c H locs cells slots Q (F0 m pc ls (.int (iI a) :: rest)) := by
  have e : iI a ≤ 0 ↔ a ≤ 0 := by rw [← iI_0, iI_le (by omega)]
  exact lv_if_le X.1.1 X.1.2.1 hdg ht (fun q => kt (e.mp q)) (fun q => kf (fun z => q (e.mpr z)))
theorem g_icmp_eq (X : gX p s m meth c cc nL args own ret) {a b : Int} {off : Int} {tgt : Nat} (hdg : decode cc pc = .ok (.if_icmp .eq off, 3)) (ht : (pc : Int) + off = (tgt : Int)) (h : (-2147483648 ≤ a ∧ a ≤ 2147483647) ∧ -2147483648 ≤ b ∧ b ≤ 2147483647)
    (kt : a = b → W p l e R s m args below meth c H locs cells slots Q (F0 m tgt ls rest)) (kf : ¬ a = b → W p l e R s m args below meth c H locs cells slots Q (F0 m (pc + 3) ls rest)) : W p l e R s m args below meth c H locs cells slots Q (F0 m pc ls (.int (iI b) :: .int (iI a) :: rest)) :=
  lv_icmp_eq X.1.1 X.1.2.1 hdg ht (fun q => kt ((iI_inj h).mp q)) (fun q => kf (fun z => q ((iI_inj h).mpr z)))
theorem g_icmp_ne (X : gX p s m meth c cc nL args own ret) {a b : Int} {off : Int} {tgt : Nat} (hdg : decode cc pc = .ok (.if_icmp .ne off, 3)) (ht : (pc : Int) + off = (tgt : Int)) (h : (-2147483648 ≤ a ∧ a ≤ 2147483647) ∧ -2147483648 ≤ b ∧ b ≤ 2147483647)
    (kt : ¬ a = b → W p l e R s m args below meth c H locs cells slots Q (F0 m tgt ls rest)) (kf : a = b → W p l e R s m args below meth c H locs cells slots Q (F0 m (pc + 3) ls rest)) : W p l e R s m args below meth c H locs cells slots Q (F0 m pc ls (.int (iI b) :: .int (iI a) :: rest)) :=
  lv_icmp_ne X.1.1 X.1.2.1 hdg ht (fun q => kt (fun z => q ((iI_inj h).mpr z))) (fun q => kf (by first | exact (iI_inj h).mp q | exact (iI_inj h).mp (Classical.not_not.mp q)))
theorem g_icmp_lt (X : gX p s m meth c cc nL args own ret) {a b : Int} {off : Int} {tgt : Nat} (hdg : decode cc pc = .ok (.if_icmp .lt off, 3)) (ht : (pc : Int) + off = (tgt : Int)) (h : (-2147483648 ≤ a ∧ a ≤ 2147483647) ∧ -2147483648 ≤ b ∧ b ≤ 2147483647)
    (kt : a < b → W p l e R s m args below meth c H locs cells slots Q (F0 m tgt ls rest)) (kf : ¬ a < b → W p l e R s m args below meth c H locs cells slots Q (F0 m (pc + 3) ls rest)) : W p l e R s m args below meth c H locs cells slots Q (F0 m pc ls (.int (iI b) :: .int (iI a) :: rest)) :=
  lv_icmp_lt X.1.1 X.1.2.1 hdg ht (fun q => kt ((iI_lt h).mp q)) (fun q => kf (fun z => q ((iI_lt h).mpr z)))
theorem g_icmp_ge (X : gX p s m meth c cc nL args own ret) {a b : Int} {off : Int} {tgt : Nat} (hdg : decode cc pc = .ok (.if_icmp .ge off, 3)) (ht : (pc : Int) + off = (tgt : Int)) (h : (-2147483648 ≤ a ∧ a ≤ 2147483647) ∧ -2147483648 ≤ b ∧ b ≤ 2147483647)
    (kt : b ≤ a → W p l e R s m args below meth c H locs cells slots Q (F0 m tgt ls rest)) (kf : ¬ b ≤ a → W p l e R s m args below meth c H locs cells slots Q (F0 m (pc + 3) ls rest)) : W p l e R s m args below meth c H locs cells slots Q (F0 m pc ls (.int (iI b) :: .int (iI a) :: rest)) :=
  lv_icmp_ge X.1.1 X.1.2.1 hdg ht (fun q => kt ((iI_le ⟨h.2, h.1⟩).mp q)) (fun q => kf (fun z => q ((iI_le ⟨h.2, h.1⟩).mpr z)))
theorem g_icmp_gt (X : gX p s m meth c cc nL args own ret) {a b : Int} {off : Int} {tgt : Nat} (hdg : decode cc pc = .ok (.if_icmp .gt off, 3)) (ht : (pc : Int) + off = (tgt : Int)) (h : (-2147483648 ≤ a ∧ a ≤ 2147483647) ∧ -2147483648 ≤ b ∧ b ≤ 2147483647)
    (kt : b < a → W p l e R s m args below meth c H locs cells slots Q (F0 m tgt ls rest)) (kf : ¬ b < a → W p l e R s m args below meth c H locs cells slots Q (F0 m (pc + 3) ls rest)) : W p l e R s m args below meth c H locs cells slots Q (F0 m pc ls (.int (iI b) :: .int (iI a) :: rest)) :=
  lv_icmp_gt X.1.1 X.1.2.1 hdg ht (fun q => kt ((iI_lt ⟨h.2, h.1⟩).mp q)) (fun q => kf (fun z => q ((iI_lt ⟨h.2, h.1⟩).mpr z)))
theorem g_icmp_le (X : gX p s m meth c cc nL args own ret) {a b : Int} {off : Int} {tgt : Nat} (hdg : decode cc pc = .ok (.if_icmp .le off, 3)) (ht : (pc : Int) + off = (tgt : Int)) (h : (-2147483648 ≤ a ∧ a ≤ 2147483647) ∧ -2147483648 ≤ b ∧ b ≤ 2147483647)
    (kt : a ≤ b → W p l e R s m args below meth c H locs cells slots Q (F0 m tgt ls rest)) (kf : ¬ a ≤ b → W p l e R s m args below meth c H locs cells slots Q (F0 m (pc + 3) ls rest)) : W p l e R s m args below meth c H locs cells slots Q (F0 m pc ls (.int (iI b) :: .int (iI a) :: rest)) :=
  lv_icmp_le X.1.1 X.1.2.1 hdg ht (fun q => kt ((iI_le h).mp q)) (fun q => kf (fun z => q ((iI_le h).mpr z)))
/-! reading cells -/
theorem g_iald (X : gX p s m meth c cc nL args own ret) (hk : kk E s H) {a n j : Nat} {f : Nat → Int} {i : Int} (hc : ce E a (aI E n f) H) (hj : i = (j : Int)) (hlt : j < n ∧ n ≤ 2147483647) (hdg : decode cc pc = .ok (.iaload, 1))
    (k : W p l e R s m args below meth c H locs cells slots Q (F0 m (pc + 1) ls (.int (iI (f j)) :: rest))) : W p l e R s m args below meth c H locs cells slots Q (F0 m pc ls (.int (iI i) :: .ref a :: rest)) := by
  have e : (iI i).toNatClampNeg = j := iI_cl hj (by omega)
  refine va_iald X.1.1 X.1.2.1 hk.K (P1 hc) 0 0 rfl rfl (iI_in hj hlt.1 (by omega)) hdg ?_
  rw [e]
  exact k
theorem g_bald (X : gX p s m meth c cc nL args own ret) (hk : kk E s H) {a n j : Nat} {f : Nat → Int} {i : Int} (hc : ce E a (aB E n f) H) (hj : i = (j : Int)) (hlt : j < n ∧ n ≤ 2147483647) (hdg : decode cc pc = .ok (.baload, 1))
    (k : W p l e R s m args below meth c H locs cells slots Q (F0 m (pc + 1) ls (.int (iI (f j)) :: rest))) : W p l e R s m args below meth c H locs cells slots Q (F0 m pc ls (.int (iI i) :: .ref a :: rest)) := by
  have e : (iI i).toNatClampNeg = j := iI_cl hj (by omega)
  refine va_zald X.1.1 X.1.2.1 hk.K (P1 hc) 0 2 rfl rfl (iI_in hj hlt.1 (by omega)) hdg ?_
  rw [e]
  exact k
theorem g_lald (X : gX p s m meth c cc nL args own ret) (hk : kk E s H) {a n j : Nat} {f : Nat → Int64} {i : Int} (hc : ce E a (aL E n f) H) (hj : i = (j : Int)) (hlt : j < n ∧ n ≤ 2147483647) (hdg : decode cc pc = .ok (.laload, 1))
    (k : W p l e R s m args below meth c H locs cells slots Q (F0 m (pc + 1) ls (.long (f j) :: rest))) : W p l e R s m args below meth c H locs cells slots Q (F0 m pc ls (.int (iI i) :: .ref a :: rest)) := by
  have e : (iI i).toNatClampNeg = j := iI_cl hj (by omega)
  refine va_lald X.1.1 X.1.2.1 hk.K (P1 hc) 0 3 rfl rfl (iI_in hj hlt.1 (by omega)) hdg ?_
  rw [e]
  exact k
/-- an array of references: of what (c: 1 junctions, 4 int arrays, 5 boolean arrays) -/
theorem g_aald (X : gX p s m meth c cc nL args own ret) (hk : kk E s H) {a n j : Nat} {q : Nat} {cA : Nat} {ty : FieldType} {f : Nat → Option Nat} {i : Int} (hc : ce E a (aQ E cA n f) H) (ht : (eTy E)[cA]? = some (eA E cA, ty)) (hty : ty.isReference = true) (hj : i = (j : Int)) (hlt : j < n ∧ n ≤ 2147483647) (hq : f j = some q) (hdg : decode cc pc = .ok (.aaload, 1))
    (k : W p l e R s m args below meth c H locs cells slots Q (F0 m (pc + 1) ls (.ref q :: rest))) : W p l e R s m args below meth c H locs cells slots Q (F0 m pc ls (.int (iI i) :: .ref a :: rest)) := by
  have e : (iI i).toNatClampNeg = j := iI_cl hj (by omega)
  have hin : vp_in (iI i) n := iI_in hj hlt.1 (by omega)
  refine W.aald (v := .ref q) (ty := ty) X.1.1 X.1.2.1 hc ((hk.K.2 cA _ ht).1 n (fun j => va_rf (f j))) hty (fun q => by cases q) (by show ¬ (iI i < 0 ∨ (arrV _ _ _).slots.size ≤ _); rw [arrV_size]; exact hin) (by show (arrV _ _ _).slots[_]? = _; rw [e, arrV_read _ _ hlt.1, hq]; rfl) rfl rfl hdg k
theorem g_alenI (X : gX p s m meth c cc nL args own ret) (hk : kk E s H) {a n : Nat} {f : Nat → Int} (hc : ce E a (aI E n f) H) (hdg : decode cc pc = .ok (.arraylength, 1))
    (k : W p l e R s m args below meth c H locs cells slots Q (F0 m (pc + 1) ls (.int (iI (n : Int)) :: rest))) : W p l e R s m args below meth c H locs cells slots Q (F0 m pc ls (.ref a :: rest)) :=
  va_alen X.1.1 X.1.2.1 hk.K (P1 hc) 0 0 rfl rfl (iI_nat n) hdg k
theorem g_alenQ (X : gX p s m meth c cc nL args own ret) (hk : kk E s H) {a n cA : Nat} {ty : FieldType} {f : Nat → Option Nat} (hc : ce E a (aQ E cA n f) H) (ht : (eTy E)[cA]? = some (eA E cA, ty)) (hdg : decode cc pc = .ok (.arraylength, 1))
    (k : W p l e R s m args below meth c H locs cells slots Q (F0 m (pc + 1) ls (.int (iI (n : Int)) :: rest))) : W p l e R s m args below meth c H locs cells slots Q (F0 m pc ls (.ref a :: rest)) :=
  va_alen X.1.1 X.1.2.1 hk.K (P1 hc) 0 cA rfl ht (iI_nat n) hdg k
theorem g_get (X : gX p s m meth c cc nL args own ret) (hk : kk E s H) {C : String} {T : u_T} {N ci index a : Nat} {fs : List Value} {v : Value} (hin : ∀ w ∈ u_ws C T N, w ∈ lw_all) (hc : vwCl[ci]? = some (C, T, N)) (hcell : ce E a (.inr (ci, fs)) H) (k : Nat) (hkN : k < N) (hlink : Cond.fieldLink own index (T k).1 (T k).2.1 (T k).2.2.1 ∈ lw_all) (hv : fs[k]? = some v) (hdg : decode cc pc = .ok (.getfield index, 3))
    (kk : W p l e R s m args below meth c H locs cells slots Q (F0 m (pc + 3) ls (v :: rest))) : W p l e R s m args below meth c H locs cells slots Q (F0 m pc ls (.ref a :: rest)) :=
  va_get X.1.1 X.1.2.1 X.1.2.2.2.2 hin X.1.2.2.2.1 hk.K (P1 hcell) 0 rfl hc k hkN (X.1.2.2.2.2 _ hlink) (fun _ h9 => h9) hv hdg kk
theorem g_getN (X : gX p s m meth c cc nL args own ret) (hk : kk E s H) {C : String} {T : u_T} {N ci index a : Nat} {host : String} {fs : List Value} {v : Value} (hin : ∀ w ∈ u_ws C T N, w ∈ lw_all) (hc : vwCl[ci]? = some (C, T, N)) (hcell : ce E a (.inr (ci, fs)) H) (k : Nat) (hkN : k < N) (i : Nat) (hw : nFl[i]? = some (own, index, (T k).1, (T k).2.1, (T k).2.2.1, host)) (hv : fs[k]? = some v) (hdg : decode cc pc = .ok (.getfield index, 3))
    (kk : W p l e R s m args below meth c H locs cells slots Q (F0 m (pc + 3) ls (v :: rest))) : W p l e R s m args below meth c H locs cells slots Q (F0 m pc ls (.ref a :: rest)) :=
  va_getN (host := host) X.1.1 X.1.2.1 X.1.2.2.2.2 hin X.1.2.2.2.1 hk.K (P1 hcell) 0 rfl hc k hkN (va_Nw.use rfl (hk.ev.1 _ (List.mem_of_getElem? hw))) (fun _ h9 => h9) hv hdg kk
end GR
