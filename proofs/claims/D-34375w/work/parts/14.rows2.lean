/-! more rows -/
section GR2
variable {p : Program} {l : Launch} {e : Env} {R : Room} {s : State} {m : MethodId} {args : Array Value} {below : List Frame} {meth : Method} {c : Code} {H : Heap} {locs : List Loc} {cells slots : Nat} {Q : State → Prop}
variable {cc : ByteArray} {nL : Nat} {own : String} {ret : Option FieldType} {pc : Nat} {ls : Array Slot} {rest : List Value} {E : EP}
theorem g_ialdv (X : gX p s m meth c cc nL args own ret) (hk : kk E s H) {a n j : Nat} {f : Nat → Int} {i v : Int} (hc : ce E a (aI E n f) H) (hj : i = (j : Int)) (hlt : j < n ∧ n ≤ 2147483647) (hv : f j = v) (hdg : decode cc pc = .ok (.iaload, 1))
    (k : W p l e R s m args below meth c H locs cells slots Q (F0 m (pc + 1) ls (.int (iI v) :: rest))) : W p l e R s m args below meth c H locs cells slots Q (F0 m pc ls (.int (iI i) :: .ref a :: rest)) := by
  subst hv
  exact g_iald X hk hc hj hlt hdg k
theorem g_baldv (X : gX p s m meth c cc nL args own ret) (hk : kk E s H) {a n j : Nat} {f : Nat → Int} {i v : Int} (hc : ce E a (aB E n f) H) (hj : i = (j : Int)) (hlt : j < n ∧ n ≤ 2147483647) (hv : f j = v) (hdg : decode cc pc = .ok (.baload, 1))
    (k : W p l e R s m args below meth c H locs cells slots Q (F0 m (pc + 1) ls (.int (iI v) :: rest))) : W p l e R s m args below meth c H locs cells slots Q (F0 m pc ls (.int (iI i) :: .ref a :: rest)) := by
  subst hv
  exact g_bald X hk hc hj hlt hdg k
end GR2
theorem sI {a b : Int} (h : a = b) : some (Value.int (iI a)) = some (Value.int (iI b)) := by rw [h]
/-- a fact that the searching tactics pass by -/
def gHide (P : Prop) : Prop := P
theorem gHide.mk {P : Prop} (h : P) : gHide P := h
theorem gHide.out {P : Prop} (h : gHide P) : P := h
