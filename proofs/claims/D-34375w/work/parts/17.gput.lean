/-! the corridor, written -/
def gset (S : GS) (f j k : Nat) (z : Int) : GS := (fun f' j' k' => if f' = f ∧ j' = j ∧ k' = k then z else S.1 f' j' k', S.2)
def gphs (S : GS) (j n : Nat) (g : Nat → Int) : GS := (fun f' j' k' => if f' = 3 ∧ j' = j then g k' else S.1 f' j' k', fun a j' => if a = 1 ∧ j' = j then n else S.2 a j')
def gchs (S : GS) (j n : Nat) (g : Nat → Int) : GS := (fun f' j' k' => if f' = 4 ∧ j' = j then g k' else S.1 f' j' k', fun a j' => if a = 2 ∧ j' = j then n else S.2 a j')
def adset (ad : Nat → Nat → Nat) (k j q : Nat) : Nat → Nat → Nat := fun k' j' => if k' = k ∧ j' = j then q else ad k' j'
theorem gset_s (S : GS) (f j k : Nat) (z : Int) : (gset S f j k z).1 f j k = z := if_pos ⟨rfl, rfl, rfl⟩
theorem gset_f (S : GS) {f f' : Nat} (j k : Nat) (z : Int) (h : f' ≠ f) : (gset S f j k z).1 f' = S.1 f' := by
  funext j' k'
  exact if_neg (fun e => h e.1)
theorem gset_j (S : GS) {j j' : Nat} (f f' k : Nat) (z : Int) (h : j' ≠ j) : (gset S f j k z).1 f' j' = S.1 f' j' := by
  funext k'
  exact if_neg (fun e => h e.2.1)
theorem gset_u (S : GS) (f j k : Nat) (z : Int) : (gset S f j k z).1 f j = uI (S.1 f j) k z := by
  funext k'
  by_cases h : k' = k
  · subst h
    rw [gset_s]
    exact uI_s.symm
  · rw [uI_n h]
    exact if_neg (fun e => h e.2.2)
/-- what the corridor's methods may change: its cells, and new ones -/
def gW (n : Nat) (ad : Nat → Nat → Nat) (H : Heap) : Nat → Prop := fun q => (∃ k j, gv n k j ∧ q = ad k j) ∨ H.size ≤ q
section GPp
variable {E : EP} {ad : Nat → Nat → Nat} {S : GS} {H H0 H1 : Heap} {j : Nat}
theorem gv_0 {n k j : Nat} (hk : k < 6) (hj : j < n) : gv n k j := Or.inl ⟨hk, hj⟩
theorem gv_6 {n : Nat} : gv n 6 0 := Or.inr ⟨by decide, by decide, rfl⟩
theorem gv_7 {n : Nat} : gv n 7 0 := Or.inr ⟨by decide, by decide, rfl⟩
theorem GP.A0 (h : GP E ad S H) {k : Nat} (hv : gv (gN S) k j) : gW (gN S) ad H0 (ad k j) ∧ eN E ≤ ad k j := ⟨Or.inl ⟨k, j, hv, rfl⟩, h.2.2 k j hv⟩
theorem GP.N (h : GP E ad S H) (hN : eN E ≤ H0.size) : ∀ q, gW (gN S) ad H0 q → eN E ≤ q := by
  rintro q (⟨k, j, hv, e⟩ | e)
  · rw [e]; exact h.2.2 k j hv
  · omega
theorem GP.ne (h : GP E ad S H) {k k' j' : Nat} (hv : gv (gN S) k j) (hv' : gv (gN S) k' j') (hn : ¬ (k = k' ∧ j = j')) : ad k j ≠ ad k' j' := fun e => hn (h.2.1 k j k' j' hv hv' e)
def jSc (k : Nat) : Bool := k == 4 || k == 5 || k == 6 || k == 8 || k == 9 || k == 10 || k == 11 || k == 12
theorem GP.putJ (h : GP E ad S H) (hj : j < gN S) (k : Nat) (hk : jSc k = true) {z : Int} (hc : ce E (ad 0 j) (.inr (1, (jF ad S j).set k (.int (iI z)))) H1) (o : ∀ q : Nat, q ≠ ad 0 j → H1[q]? = H[q]?) : GP E ad (gset S (10 + k) j 0 z) H1 := by
  refine ⟨fun k' j' hv => ?_, h.2⟩
  have hv' : gv (gN S) k' j' := hv
  by_cases h0 : k' = 0 ∧ j' = j
  · obtain ⟨rfl, rfl⟩ := h0
    have e : (jF ad S j').set k (.int (iI z)) = jF ad (gset S (10 + k) j' 0 z) j' := by
      simp only [jSc, Bool.or_eq_true, beq_iff_eq] at hk
      rcases hk with ((((((hk | hk) | hk) | hk) | hk) | hk) | hk) | hk <;> subst hk <;> simp [gCf, gFl, gPh, gCh, gCom, gOff, gLnk, gRoo, gChf, gQue, gArr, gRdy, gTrv, gCyc, gNow, gRun, gCam, gLef, gN, gNp, gChn, jF, xF, gset]
    rw [e] at hc
    exact hc
  · have h1 := (h.1 k' j' hv').kept (o _ (h.ne hv' (gv_0 (by decide) hj) h0))
    have e : gcell E ad (gset S (10 + k) j 0 z) k' j' = gcell E ad S k' j' := by
      simp only [jSc, Bool.or_eq_true, beq_iff_eq] at hk
      by_cases hjj : j' = j
      · subst hjj
        have hk0 : k' ≠ 0 := fun e => h0 ⟨e, rfl⟩
        unfold gcell
        rcases hk with ((((((hk | hk) | hk) | hk) | hk) | hk) | hk) | hk <;> subst hk <;> (split <;> first | exact absurd rfl hk0 | rfl | simp [gCf, gFl, gPh, gCh, gCom, gOff, gLnk, gRoo, gChf, gQue, gArr, gRdy, gTrv, gCyc, gNow, gRun, gCam, gLef, gN, gNp, gChn, jF, xF, gset])
      · unfold gcell
        rcases hk with ((((((hk | hk) | hk) | hk) | hk) | hk) | hk) | hk <;> subst hk <;> (split <;> first | rfl | simp [gCf, gFl, gPh, gCh, gCom, gOff, gLnk, gRoo, gChf, gQue, gArr, gRdy, gTrv, gCyc, gNow, gRun, gCam, gLef, gN, gNp, gChn, jF, xF, gset, hjj])
    rw [e]
    exact h1
def xSc (k : Nat) : Bool := k == 2 || k == 3 || k == 4 || k == 5
theorem GP.putX (h : GP E ad S H) (k : Nat) (hk : xSc k = true) {z : Int} (hc : ce E (ad 6 0) (.inr (0, (xF ad S).set k (.int (iI z)))) H1) (o : ∀ q : Nat, q ≠ ad 6 0 → H1[q]? = H[q]?) : GP E ad (gset S (30 + k) 0 0 z) H1 := by
  refine ⟨fun k' j' hv => ?_, h.2⟩
  have hv' : gv (gN S) k' j' := hv
  by_cases h0 : k' = 6 ∧ j' = 0
  · obtain ⟨rfl, rfl⟩ := h0
    have e : (xF ad S).set k (.int (iI z)) = xF ad (gset S (30 + k) 0 0 z) := by
      simp only [xSc, Bool.or_eq_true, beq_iff_eq] at hk
      rcases hk with ((hk | hk) | hk) | hk <;> subst hk <;> rfl
    rw [e] at hc
    exact hc
  · have h1 := (h.1 k' j' hv').kept (o _ (h.ne hv' gv_6 h0))
    have e : gcell E ad (gset S (30 + k) 0 0 z) k' j' = gcell E ad S k' j' := by
      simp only [xSc, Bool.or_eq_true, beq_iff_eq] at hk
      have hk0 : k' ≠ 6 := fun e => h0 ⟨e, by rcases hv' with h | h <;> omega⟩
      unfold gcell
      rcases hk with ((hk | hk) | hk) | hk <;> subst hk <;> (split <;> first | exact absurd rfl hk0 | rfl)
    rw [e]
    exact h1
theorem GP.ast (h : GP E ad S H) (hj : j < gN S) (a : Nat) (ha : a = 1 ∨ a = 2 ∨ a = 5) {n i : Nat} {z : Int} (hn : n = (if a = 1 then 16 else if a = 2 then 4 else 61)) (hc : ce E (ad a j) (aI E n (uI (S.1 a j) i z)) H1) (o : ∀ q : Nat, q ≠ ad a j → H1[q]? = H[q]?) : GP E ad (gset S a j i z) H1 := by
  refine ⟨fun k' j' hv => ?_, h.2⟩
  have hv' : gv (gN S) k' j' := hv
  by_cases h0 : k' = a ∧ j' = j
  · obtain ⟨rfl, rfl⟩ := h0
    have e := gset_u S k' j' i z
    rcases ha with rfl | rfl | rfl <;> (subst hn; unfold gcell; simp only [gCf, gFl, gCom]; rw [e]; exact hc)
  · have h1 := (h.1 k' j' hv').kept (o _ (h.ne hv' (gv_0 (by omega) hj) h0))
    have e : gcell E ad (gset S a j i z) k' j' = gcell E ad S k' j' := by
      by_cases hjj : j' = j
      · subst hjj
        have hka : k' ≠ a := fun e => h0 ⟨e, rfl⟩
        unfold gcell
        rcases ha with rfl | rfl | rfl <;> (split <;> first | exact absurd rfl hka | rfl | simp [gCf, gFl, gPh, gCh, gCom, gOff, gLnk, gRoo, gChf, gQue, gArr, gRdy, gTrv, gCyc, gNow, gRun, gCam, gLef, gN, gNp, gChn, jF, xF, gset])
      · unfold gcell
        rcases ha with rfl | rfl | rfl <;> (split <;> first | rfl | simp [gCf, gFl, gPh, gCh, gCom, gOff, gLnk, gRoo, gChf, gQue, gArr, gRdy, gTrv, gCyc, gNow, gRun, gCam, gLef, gN, gNp, gChn, jF, xF, gset, hjj])
    rw [e]
    exact h1
theorem adset_inj {n : Nat} {ad : Nat → Nat → Nat} {k j q : Nat} (hi : ∀ k j k' j', gv n k j → gv n k' j' → ad k j = ad k' j' → k = k' ∧ j = j') (hq : ∀ k j, gv n k j → ad k j ≠ q) :
    ∀ a b a' b', gv n a b → gv n a' b' → adset ad k j q a b = adset ad k j q a' b' → a = a' ∧ b = b' := by
  intro a b a' b' h1 h2 e
  unfold adset at e
  split at e <;> split at e
  · rename_i x y; omega
  · exact absurd e.symm (hq _ _ h2)
  · exact absurd e (hq _ _ h1)
  · exact hi a b a' b' h1 h2 e
/-- a junction gets another array of phases -/
theorem GP.phs (h : GP E ad S H) (hj : j < gN S) {q n : Nat} {g : Nat → Int} (hq : ∀ k j, gv (gN S) k j → ad k j ≠ q) (hN : eN E ≤ q) (hc : ce E (ad 0 j) (.inr (1, (jF ad S j).set 3 (.ref q))) H1) (hg : ce E q (aI E n g) H1) (o : ∀ q : Nat, q ≠ ad 0 j → H1[q]? = H[q]?) : GP E (adset ad 3 j q) (gphs S j n g) H1 := by
  have hgn : gN (gphs S j n g) = gN S := by simp [gCf, gFl, gPh, gCh, gCom, gOff, gLnk, gRoo, gChf, gQue, gArr, gRdy, gTrv, gCyc, gNow, gRun, gCam, gLef, gN, gNp, gChn, jF, xF, gphs]
  refine ⟨fun k' j' hv => ?_, ?_, ?_⟩
  · have hv' : gv (gN S) k' j' := by rw [hgn] at hv; exact hv
    by_cases h0 : k' = 0 ∧ j' = j
    · obtain ⟨rfl, rfl⟩ := h0
      have e : (jF ad S j').set 3 (.ref q) = jF (adset ad 3 j' q) (gphs S j' n g) j' := by simp [gCf, gFl, gPh, gCh, gCom, gOff, gLnk, gRoo, gChf, gQue, gArr, gRdy, gTrv, gCyc, gNow, gRun, gCam, gLef, gN, gNp, gChn, jF, xF, gphs, adset]
      rw [e] at hc
      exact hc
    · by_cases h3 : k' = 3 ∧ j' = j
      · obtain ⟨rfl, rfl⟩ := h3
        have e1 : adset ad 3 j' q 3 j' = q := if_pos ⟨rfl, rfl⟩
        have e2 : gcell E (adset ad 3 j' q) (gphs S j' n g) 3 j' = aI E n g := by simp [gcell, gCf, gFl, gPh, gCh, gCom, gOff, gLnk, gRoo, gChf, gQue, gArr, gRdy, gTrv, gCyc, gNow, gRun, gCam, gLef, gN, gNp, gChn, jF, xF, gphs]
        rw [e1, e2]
        exact hg
      · have h1 := (h.1 k' j' hv').kept (o _ (h.ne hv' (gv_0 (by decide) hj) h0))
        have e1 : adset ad 3 j q k' j' = ad k' j' := if_neg h3
        have e2 : gcell E (adset ad 3 j q) (gphs S j n g) k' j' = gcell E ad S k' j' := by
          by_cases hjj : j' = j
          · subst hjj
            have hk0 : k' ≠ 0 := fun e => h0 ⟨e, rfl⟩
            have hk3 : k' ≠ 3 := fun e => h3 ⟨e, rfl⟩
            unfold gcell
            split <;> first | exact absurd rfl hk0 | exact absurd rfl hk3 | rfl | simp [gCf, gFl, gPh, gCh, gCom, gOff, gLnk, gRoo, gChf, gQue, gArr, gRdy, gTrv, gCyc, gNow, gRun, gCam, gLef, gN, gNp, gChn, jF, xF, gphs, adset]
          · unfold gcell
            split <;> first | rfl | simp [gCf, gFl, gPh, gCh, gCom, gOff, gLnk, gRoo, gChf, gQue, gArr, gRdy, gTrv, gCyc, gNow, gRun, gCam, gLef, gN, gNp, gChn, jF, xF, gphs, adset, hjj]
        rw [e1, e2]
        exact h1
  · rw [hgn]; exact adset_inj h.2.1 hq
  · rw [hgn]
    intro k' j' hv
    unfold adset
    split
    · exact hN
    · exact h.2.2 k' j' hv
/-- .. of changed greens -/
theorem GP.chs (h : GP E ad S H) (hj : j < gN S) {q n : Nat} {g : Nat → Int} (hq : ∀ k j, gv (gN S) k j → ad k j ≠ q) (hN : eN E ≤ q) (hc : ce E (ad 0 j) (.inr (1, (jF ad S j).set 7 (.ref q))) H1) (hg : ce E q (aI E n g) H1) (o : ∀ q : Nat, q ≠ ad 0 j → H1[q]? = H[q]?) : GP E (adset ad 4 j q) (gchs S j n g) H1 := by
  have hgn : gN (gchs S j n g) = gN S := by simp [gCf, gFl, gPh, gCh, gCom, gOff, gLnk, gRoo, gChf, gQue, gArr, gRdy, gTrv, gCyc, gNow, gRun, gCam, gLef, gN, gNp, gChn, jF, xF, gchs]
  refine ⟨fun k' j' hv => ?_, ?_, ?_⟩
  · have hv' : gv (gN S) k' j' := by rw [hgn] at hv; exact hv
    by_cases h0 : k' = 0 ∧ j' = j
    · obtain ⟨rfl, rfl⟩ := h0
      have e : (jF ad S j').set 7 (.ref q) = jF (adset ad 4 j' q) (gchs S j' n g) j' := by simp [gCf, gFl, gPh, gCh, gCom, gOff, gLnk, gRoo, gChf, gQue, gArr, gRdy, gTrv, gCyc, gNow, gRun, gCam, gLef, gN, gNp, gChn, jF, xF, gchs, adset]
      rw [e] at hc
      exact hc
    · by_cases h3 : k' = 4 ∧ j' = j
      · obtain ⟨rfl, rfl⟩ := h3
        have e1 : adset ad 4 j' q 4 j' = q := if_pos ⟨rfl, rfl⟩
        have e2 : gcell E (adset ad 4 j' q) (gchs S j' n g) 4 j' = aI E n g := by simp [gcell, gCf, gFl, gPh, gCh, gCom, gOff, gLnk, gRoo, gChf, gQue, gArr, gRdy, gTrv, gCyc, gNow, gRun, gCam, gLef, gN, gNp, gChn, jF, xF, gchs]
        rw [e1, e2]
        exact hg
      · have h1 := (h.1 k' j' hv').kept (o _ (h.ne hv' (gv_0 (by decide) hj) h0))
        have e1 : adset ad 4 j q k' j' = ad k' j' := if_neg h3
        have e2 : gcell E (adset ad 4 j q) (gchs S j n g) k' j' = gcell E ad S k' j' := by
          by_cases hjj : j' = j
          · subst hjj
            have hk0 : k' ≠ 0 := fun e => h0 ⟨e, rfl⟩
            have hk3 : k' ≠ 4 := fun e => h3 ⟨e, rfl⟩
            unfold gcell
            split <;> first | exact absurd rfl hk0 | exact absurd rfl hk3 | rfl | simp [gCf, gFl, gPh, gCh, gCom, gOff, gLnk, gRoo, gChf, gQue, gArr, gRdy, gTrv, gCyc, gNow, gRun, gCam, gLef, gN, gNp, gChn, jF, xF, gchs, adset]
          · unfold gcell
            split <;> first | rfl | simp [gCf, gFl, gPh, gCh, gCom, gOff, gLnk, gRoo, gChf, gQue, gArr, gRdy, gTrv, gCyc, gNow, gRun, gCam, gLef, gN, gNp, gChn, jF, xF, gchs, adset, hjj]
        rw [e1, e2]
        exact h1
  · rw [hgn]; exact adset_inj h.2.1 hq
  · rw [hgn]
    intro k' j' hv
    unfold adset
    split
    · exact hN
    · exact h.2.2 k' j' hv
end GPp
