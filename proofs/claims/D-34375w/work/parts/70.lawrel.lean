/-! the law: what holds between its calls -/
def PR (E : EP) (ad : Nat → Nat → Nat) (S : GS) (am : Nat → Nat) (M : MS) (ob : Nat) (og : Nat → Int64) (H : Heap) : Prop := (GP E ad S H ∧ MP E am M H ∧ ce E ob (aL E 1 og) H) ∧ (∀ k i, gv (gN S) k i → ad k i ≠ ob ∧ ∀ f, mv f → ad k i ≠ am f) ∧ (∀ f, mv f → am f ≠ ob) ∧ eN E ≤ ob
section PRs
variable {E : EP} {ad : Nat → Nat → Nat} {S NEW : GS} {am : Nat → Nat} {M M1 : MS} {ob : Nat} {og : Nat → Int64} {H H1 : Heap} {ER ANS z : Int}
theorem PR.pp (h : PR E ad S am M ob og H) : GP E ad S H := h.1.1
theorem PR.mm (h : PR E ad S am M ob og H) : MP E am M H := h.1.2.1
theorem PR.oo (h : PR E ad S am M ob og H) : ce E ob (aL E 1 og) H := h.1.2.2
theorem PR.aa (h : PR E ad S am M ob og H) : ∀ k i, gv (gN S) k i → ad k i ≠ ob := fun k i hv => (h.2.1 k i hv).1
theorem PR.nn (h : PR E ad S am M ob og H) : eN E ≤ ob := h.2.2.2
theorem PR.gWn (h : PR E ad S am M ob og H) (hs : eN E ≤ H.size) : ∀ q, gW (gN S) ad H q → eN E ≤ q := by
  rintro q (⟨k, i, hv, e⟩ | h2)
  · rw [e]; exact h.pp.2.2 k i hv
  · omega
theorem PR.oWn (h : PR E ad S am M ob og H) (hs : eN E ≤ H.size) : ∀ q, oW (gN S) ad ob H q → eN E ≤ q := by
  rintro q (h2 | h2)
  · exact h.gWn hs q h2
  · rw [h2]; exact h.nn
theorem PR.to {ad1 : Nat → Nat → Nat} {S1 : GS} {g1 : Nat → Int64} (h : PR E ad S am M ob og H) (hP1 : GP E ad1 S1 H1) (hW1 : adW (gN S1) (gN S) ad H ad1) (hO1 : ce E ob (aL E 1 g1) H1) (hM : ∀ f, mv f → H1[am f]? = H[am f]?) : PR E ad1 S1 am M ob g1 H1 := by
  refine ⟨⟨hP1, h.mm.kept hM, hO1⟩, fun k i hv => ?_, h.2.2⟩
  rcases hW1.2 k i hv with ⟨k2, i2, hv2, e⟩ | hge
  · rw [e]; exact h.2.1 k2 i2 hv2
  · exact ⟨by have := h.oo.lt; omega, fun f hf => by have := h.mm.lt hf; omega⟩
theorem PR.wr (h : PR E ad S am M ob og H) (hw : wrO E ad S ob H ER NEW ANS z H1) (ho : ∀ q : Nat, q < H.size → ¬ oW (gN S) ad ob H q → H1[q]? = H[q]?) : z = ER ∧ ∃ ad1 S1 og1, PR E ad1 S1 am M ob og1 H1 ∧ ad1 6 0 = ad 6 0 ∧ (ER = 0 → S1 = NEW ∧ og1 0 = lI ANS) ∧ (¬ ER = 0 → S1 = S) := by
  obtain ⟨hz, ad1, S1, g1, hP1, hW1, hO1, h0, h1⟩ := hw
  refine ⟨hz, ad1, S1, g1, h.to hP1 hW1 hO1 (fun f hf => ho _ (h.mm.lt hf) ?_), hW1.1, h0, h1⟩
  rintro ((⟨k, i, hv, e⟩ | h2) | h2)
  · exact (h.2.1 k i hv).2 f hf e.symm
  · have := h.mm.lt hf; omega
  · exact h.2.2.1 f hf h2
theorem PR.wn (h : PR E ad S am M ob og H) (hw : wrN E ad S H ER NEW z H1) (ho : ∀ q : Nat, q < H.size → ¬ gW (gN S) ad H q → H1[q]? = H[q]?) : z = ER ∧ ∃ ad1 S1, PR E ad1 S1 am M ob og H1 ∧ ad1 6 0 = ad 6 0 ∧ (ER = 0 → S1 = NEW) ∧ (¬ ER = 0 → S1 = S) := by
  obtain ⟨hz, ad1, S1, hP1, hW1, h0, h1⟩ := hw
  refine ⟨hz, ad1, S1, h.to hP1 hW1 (h.oo.kept (ho _ h.oo.lt (gW_no h.aa h.oo.lt))) (fun f hf => ho _ (h.mm.lt hf) ?_), hW1.1, h0, h1⟩
  rintro (⟨k, i, hv, e⟩ | h2)
  · exact (h.2.1 k i hv).2 f hf e.symm
  · have := h.mm.lt hf; omega
theorem PR.md (h : PR E ad S am M ob og H) (hM : MP E am M1 H1) (ho : ∀ q : Nat, q < H.size → ¬ mW am q → H1[q]? = H[q]?) : PR E ad S am M1 ob og H1 :=
  ⟨⟨h.pp.kept (fun k i hv => ho _ (h.pp.lt hv) (by rintro ⟨f, hf, e⟩; exact (h.2.1 k i hv).2 f hf e)), hM, h.oo.kept (ho _ h.oo.lt (by rintro ⟨f, hf, e⟩; exact h.2.2.1 f hf e.symm))⟩, h.2⟩
end PRs
section LR
variable {p : Program} {l : Launch} {e : Env} {R : Room} {s : State} {m : MethodId} {args : Array Value} {below : List Frame} {meth : Method} {c : Code} {H : Heap} {locs : List Loc} {cells slots : Nat} {Q : State → Prop}
variable {cc : ByteArray} {nL : Nat} {own : String} {ret : Option FieldType} {pc : Nat} {ls : Array Slot} {rest : List Value} {E : EP} {b L : Nat} {xs : Nat → Int32}
theorem g_sld (X : gX p s m meth c cc nL args own ret) (hX : va_X b L xs s s.heap) (hbl : b < s.heap.size) (hS : va_S (nA s.heap) s.heap H locs) {i v : Int} {j : Nat} (hj : i = (j : Int)) (hlt : j < L ∧ L ≤ 384) (hv : (xs j).toInt = v) (hdg : decode cc pc = .ok (.iaload, 1))
    (k : W p l e R s m args below meth c H locs cells slots Q (F0 m (pc + 1) ls (.int (iI v) :: rest))) : W p l e R s m args below meth c H locs cells slots Q (F0 m pc ls (.int (iI i) :: .ref b :: rest)) := by
  refine va_sld X.1.1 X.1.2.1 hX hbl (Nat.not_le.mpr hbl) hS (iI_in hj hlt.1 (by omega)) hdg ?_
  rw [iI_cl hj (by omega), ← iI_of (xs j), hv]
  exact k
theorem g_slen (X : gX p s m meth c cc nL args own ret) (hX : va_X b L xs s s.heap) (hbl : b < s.heap.size) (hS : va_S (nA s.heap) s.heap H locs) (hdg : decode cc pc = .ok (.arraylength, 1))
    (k : W p l e R s m args below meth c H locs cells slots Q (F0 m (pc + 1) ls (.int (iI (L : Int)) :: rest))) : W p l e R s m args below meth c H locs cells slots Q (F0 m pc ls (.ref b :: rest)) := by
  refine va_slen X.1.1 X.1.2.1 hX hbl (Nat.not_le.mpr hbl) hS hdg ?_
  rw [iI_nat]
  exact k
theorem g_lcmpE (X : gX p s m meth c cc nL args own ret) {x y : Int64} (h : x = y) (hdg : decode cc pc = .ok (.lcmp, 1)) (k : W p l e R s m args below meth c H locs cells slots Q (F0 m (pc + 1) ls (.int (iI 0) :: rest))) : W p l e R s m args below meth c H locs cells slots Q (F0 m pc ls (.long y :: .long x :: rest)) := by
  subst h
  refine W.lcmp X.1.1 X.1.2.1 hdg ?_
  rw [show lg_cmp x x = iI 0 by simp [lg_cmp]; rfl]
  exact k
end LR
