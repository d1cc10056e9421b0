/-! offsets sought -/
/-- the offsets alone may differ -/
def offE (S S1 : GS) : Prop := S1.2 = S.2 ∧ (∀ f, f ≠ 14 → S1.1 f = S.1 f) ∧ ∀ j, j < gN S → 0 ≤ gOff S1 j ∧ gOff S1 j < gCyc S
section OFF
variable {S S1 S2 : GS}
theorem offE.rf (hI : gI S) : offE S S := ⟨rfl, fun _ _ => rfl, fun j hj => (hI.2.2 j hj).2.2.2.2.1⟩
theorem offE.n (h : offE S S1) : gN S1 = gN S := by show S1.2 0 0 = S.2 0 0; rw [h.1]
theorem offE.cyc (h : offE S S1) : gCyc S1 = gCyc S := by show S1.1 31 0 0 = S.1 31 0 0; rw [h.2.1 31 (by decide)]
theorem offE.np (h : offE S S1) (j : Nat) : gNp S1 j = gNp S j := by show S1.2 1 j = S.2 1 j; rw [h.1]
theorem offE.set {j : Nat} {z : Int} (h : offE S S1) (hz : 0 ≤ z ∧ z < gCyc S) : offE S (gset S1 14 j 0 z) := by
  refine ⟨h.1, fun f hf => (gset_f S1 j 0 z hf).trans (h.2.1 f hf), fun i hi => ?_⟩
  by_cases e : i = j
  · subst e
    have : gOff (gset S1 14 i 0 z) i = z := gset_s S1 14 i 0 z
    rw [this]; exact hz
  · have : gOff (gset S1 14 j 0 z) i = gOff S1 i := by show (gset S1 14 j 0 z).1 14 i 0 = _; rw [gset_j S1 14 14 0 z e]
    rw [this]; exact h.2.2 i hi
theorem offE.gI (h : offE S S1) (hI : gI S) : gI S1 := by
  refine ⟨?_, ?_, fun j hj => ?_⟩
  · have e1 : gRun S1 = gRun S := by show S1.1 33 0 0 = S.1 33 0 0; rw [h.2.1 33 (by decide)]
    have e2 : gNow S1 = gNow S := by show S1.1 32 0 0 = S.1 32 0 0; rw [h.2.1 32 (by decide)]
    rw [h.n, e1, e2]; exact hI.1
  · rw [h.cyc]; exact hI.2.1
  · rw [h.n] at hj
    have h1 := hI.2.2 j hj
    have e : ∀ f, f ≠ 14 → S1.1 f = S.1 f := h.2.1
    unfold jI
    rw [h.np j, h.cyc]
    refine ⟨h1.1, ?_, ?_, ?_, h.2.2 j hj, ?_, ?_, ?_, ?_, ?_⟩
    · show ∀ k, k < 16 → -1 ≤ S1.1 1 j k ∧ S1.1 1 j k ≤ 9
      rw [e 1 (by decide)]; exact h1.2.1
    · show ∀ k, k < 4 → S1.1 1 j (5 * k) = -1
      rw [e 1 (by decide)]; exact h1.2.2.1
    · show ∀ k, k < 4 → 0 ≤ S1.1 2 j k ∧ S1.1 2 j k ≤ 1800
      rw [e 2 (by decide)]; exact h1.2.2.2.1
    · show 1 ≤ S1.1 15 j 0 ∧ S1.1 15 j 0 ≤ 60
      rw [e 15 (by decide)]; exact h1.2.2.2.2.2.1
    · show 1 ≤ S1.1 16 j 0 ∧ S1.1 16 j 0 ≤ 40
      rw [e 16 (by decide)]; exact h1.2.2.2.2.2.2.1
    · show S1.2 2 j = 0 ∨ S1.2 2 j = S.2 1 j
      rw [h.1]; exact h1.2.2.2.2.2.2.2.1
    · show -90 ≤ S1.1 18 j 0 ∧ S1.1 18 j 0 ≤ 7200
      rw [e 18 (by decide)]; exact h1.2.2.2.2.2.2.2.2.1
    · show S1.2 2 j ≠ 0 → ∀ k, k < S.2 1 j → 0 ≤ S1.1 4 j k ∧ S1.1 4 j k ≤ 1000
      rw [h.1, e 4 (by decide)]; exact h1.2.2.2.2.2.2.2.2.2
theorem offE.trans (h : offE S S1) (h2 : offE S1 S2) : offE S S2 :=
  ⟨h2.1.trans h.1, fun f hf => (h2.2.1 f hf).trans (h.2.1 f hf), fun j hj => by have := h2.2.2 j (by rw [h.n]; exact hj); rw [h.cyc] at this; exact this⟩
theorem off_clr (h : offE S S1) (j p : Nat) : clr S1 j p = clr S j p := by
  unfold clr
  show clrK (S1.1 3 j p) (S1.1 3 j ((p + 1) % S1.2 1 j)) (S1.1 1 j) 16 = clrK (S.1 3 j p) (S.1 3 j ((p + 1) % S.2 1 j)) (S.1 1 j) 16
  rw [h.1, h.2.1 3 (by decide), h.2.1 1 (by decide)]
theorem off_lst (h : offE S S1) (j p : Nat) : lst S1 j p = lst S j p := by
  unfold lst
  show (if hasB (S1.1 3 j p) 3 = true then 8 else 5) = (if hasB (S.1 3 j p) 3 = true then 8 else 5)
  rw [h.2.1 3 (by decide)]
theorem off_wgt (h : offE S S1) (j p : Nat) : wgt S1 j p = wgt S j p := by
  unfold wgt
  show wgtK (S1.1 3 j p) (S1.1 2 j) 4 = wgtK (S.1 3 j p) (S.1 2 j) 4
  rw [h.2.1 3 (by decide), h.2.1 2 (by decide)]
theorem off_lftK (h : offE S S1) (j : Nat) : ∀ k, lftK S1 j k = lftK S j k := by
  intro k
  induction k with
  | zero => exact h.cyc
  | succ k ih => simp only [lftK, ih, off_lst h, off_clr h]
theorem off_lft (h : offE S S1) (j : Nat) : lft S1 j = lft S j := by
  unfold lft
  rw [h.np, off_lftK h]
theorem off_allK (h : offE S S1) (j : Nat) : ∀ k, allK S1 j k = allK S j k := by
  intro k
  induction k with
  | zero => rfl
  | succ k ih => simp only [allK, ih, off_wgt h]
theorem off_mor (h : offE S S1) (j p : Nat) : mor S1 j p = mor S j p := by
  unfold mor alw
  rw [h.np, off_allK h, off_lft h, off_wgt h]
theorem off_rstK (h : offE S S1) (j : Nat) : ∀ k, rstK S1 j k = rstK S j k := by
  intro k
  induction k with
  | zero => exact off_lft h j
  | succ k ih => simp only [rstK, ih, off_mor h]
theorem off_grn (h : offE S S1) (j p : Nat) : grn S1 j p = grn S j p := by
  unfold grn rst
  rw [off_lst h, off_mor h, h.np, off_rstK h]
theorem offE.pl {M : MS} {j : Nat} (h : offE S S1) (hp : mPl S M j) : mPl S1 M j := by
  intro p hp'
  rw [h.np] at hp'
  rw [off_grn h, off_clr h]
  exact hp p hp'
theorem gset_gset (f j k : Nat) (y z : Int) : gset (gset S f j k y) f j k z = gset S f j k z := by
  unfold gset
  refine Prod.ext ?_ rfl
  funext f' j' k'
  show (if f' = f ∧ j' = j ∧ k' = k then z else if f' = f ∧ j' = j ∧ k' = k then y else S.1 f' j' k') = (if f' = f ∧ j' = j ∧ k' = k then z else S.1 f' j' k')
  by_cases e : f' = f ∧ j' = j ∧ k' = k
  · rw [if_pos e, if_pos e]
  · rw [if_neg e, if_neg e, if_neg e]
theorem gset_self (f j k : Nat) : gset S f j k (S.1 f j k) = S := by
  unfold gset
  refine Prod.ext ?_ rfl
  funext f' j' k'
  show (if f' = f ∧ j' = j ∧ k' = k then S.1 f j k else S.1 f' j' k') = _
  split
  · rename_i h
    rw [h.1, h.2.1, h.2.2]
  · rfl
end OFF
/-- the best offset of a junction, out of the first k -/
def btM (S : GS) (j : Nat) : Nat → Int
  | 0 => -1
  | k + 1 => max (btM S j k) (bns (gset S 14 j 0 (k : Int)))
def btB (S : GS) (j : Nat) : Nat → Int
  | 0 => 0
  | k + 1 => if btM S j k < bns (gset S 14 j 0 (k : Int)) then (k : Int) else btB S j k
def btS (S : GS) (j : Nat) : GS := gset S 14 j 0 (btB S j (gCyc S).toNat)
theorem btB_b (S : GS) (j : Nat) : ∀ k : Nat, 0 ≤ btB S j k ∧ btB S j k ≤ (k : Int) := by
  intro k
  induction k with
  | zero => simp [btB]
  | succ k ih => simp only [btB]; split <;> omega
theorem btB_c {S : GS} (hc : 30 ≤ gCyc S) (j : Nat) : 0 ≤ btB S j (gCyc S).toNat ∧ btB S j (gCyc S).toNat < gCyc S := by
  have h : ∀ k : Nat, k ≤ (gCyc S).toNat → btB S j k < gCyc S := by
    intro k
    induction k with
    | zero => intro _; simp only [btB]; omega
    | succ k ih => intro hk; have := ih (by omega); simp only [btB]; split <;> omega
  exact ⟨(btB_b S j _).1, h _ (Nat.le_refl _)⟩
theorem btM_b {S : GS} (hI : gI S) (j : Nat) : ∀ k : Nat, k ≤ (gCyc S).toNat → -1 ≤ btM S j k ∧ btM S j k ≤ 180 := by
  intro k
  induction k with
  | zero => intro _; simp [btM]
  | succ k ih =>
    intro hk
    have := ih (by omega)
    have h2 := bns_b (((offE.rf hI).set (j := j) (z := (k : Int)) (by omega)).gI hI)
    simp only [btM]
    omega
theorem btS_off {S : GS} (hI : gI S) (j : Nat) : offE S (btS S j) := (offE.rf hI).set (btB_c hI.2.1.1 j)
/-- all junctions but the first bettered, up to the k-th; whether one has changed -/
def imI (S : GS) : Nat → GS
  | 0 => S
  | k + 1 => btS (imI S k) (k + 1)
def imC (S : GS) : Nat → Bool
  | 0 => false
  | k + 1 => imC S k || decide (¬ btB (imI S k) (k + 1) (gCyc (imI S k)).toNat = gOff (imI S k) (k + 1))
theorem imI_off {S : GS} (hI : gI S) : ∀ k, offE S (imI S k) := by
  intro k
  induction k with
  | zero => exact offE.rf hI
  | succ k ih => exact ih.trans (btS_off (ih.gI hI) (k + 1))
/-- the rounds -/
def imS (S : GS) : Nat → GS × Bool
  | 0 => (S, true)
  | r + 1 => if (imS S r).2 = true then (imI (imS S r).1 (gN S - 1), imC (imS S r).1 (gN S - 1)) else imS S r
theorem imS_off {S : GS} (hI : gI S) : ∀ k, offE S (imS S k).1 := by
  intro k
  induction k with
  | zero => exact offE.rf hI
  | succ k ih =>
    simp only [imS]
    split
    · exact ih.trans (imI_off (ih.gI hI) _)
    · exact ih
theorem imS_st {S : GS} {r : Nat} (h : (imS S r).2 = false) : ∀ d, imS S (r + d) = imS S r := by
  intro d
  induction d with
  | zero => rfl
  | succ d ih =>
    show (if (imS S (r + d)).2 = true then _ else imS S (r + d)) = _
    rw [ih, if_neg (by rw [h]; decide)]
/-- what bestByAll tries -/
def baS (S : GS) (k : Nat) : GS := if gN S = 3 then gset (gset S 14 1 0 ((k : Int) % gCyc S)) 14 2 0 ((k : Int) / gCyc S) else gset S 14 1 0 ((k : Int) % gCyc S)
def baM (S : GS) : Nat → Int
  | 0 => 0
  | k + 1 => max (baM S k) (bns (baS S k))
def baN (S : GS) : Int := gCyc S * (if gN S = 3 then gCyc S else 1)
theorem baS_off {S : GS} (hI : gI S) {k : Nat} (hk : (k : Int) < baN S) : offE S (baS S k) := by
  have hc := hI.2.1
  have hm := em_b (k : Int) (gCyc S) hc.1
  unfold baS
  unfold baN at hk
  split
  · rename_i h3
    rw [if_pos h3] at hk
    refine ((offE.rf hI).set hm).set ⟨Int.ediv_nonneg (by omega) (by omega), Int.ediv_lt_of_lt_mul (by omega) hk⟩
  · exact (offE.rf hI).set hm
theorem baM_b {S : GS} (hI : gI S) : ∀ k : Nat, (k : Int) ≤ baN S → 0 ≤ baM S k ∧ baM S k ≤ 180 := by
  intro k
  induction k with
  | zero => intro _; simp [baM]
  | succ k ih =>
    intro hk
    have := ih (by omega)
    have h2 := bns_b ((baS_off hI (show (k : Int) < baN S by omega)).gI hI)
    simp only [baM]
    omega
theorem MR_ba {S : GS} {M M1 : MS} {k : Nat} (hI : gI S) (hn : gN S ≤ 3) (h : MR S M) (e : ∀ f i, M1 f i = if f = 8 ∧ i = 2 then (k : Int) / gCyc S else if f = 8 ∧ i = 1 then (k : Int) % gCyc S else M f i) : MR (baS S k) M1 := by
  have h2 := hI.1.1
  unfold baS
  split
  · rename_i h3
    have h4 := MR_off (z := (k : Int) / gCyc S) (j := 2) (MR_off (z := (k : Int) % gCyc S) h (show 1 < gN S by omega)) (show 2 < gN S by omega)
    have e2 : M1 = mset (mset M 8 1 ((k : Int) % gCyc S)) 8 2 ((k : Int) / gCyc S) := by
      funext f i
      rw [e]
      rfl
    rw [e2]
    exact h4
  · have h4 := MR_off (z := (k : Int) % gCyc S) h (show 1 < gN S by omega)
    have hn2 : gN S = 2 := by omega
    refine ⟨(e 1 0).trans h4.1, (e 2 0).trans h4.2.1, (e 3 0).trans h4.2.2.1, (e 14 0).trans h4.2.2.2.1, fun j hj => ?_, fun j hj => ?_⟩
    · have h5 := h4.2.2.2.2.1 j hj
      have hj2 : j < 2 := by have : gN (gset S 14 1 0 ((k : Int) % gCyc S)) = gN S := rfl; omega
      refine ⟨(e 6 j).trans h5.1, fun i hi => (e 4 _).trans (h5.2.1 i hi), fun i hi => (e 5 _).trans (h5.2.2.1 i hi), fun i hi => (e 7 _).trans (h5.2.2.2.1 i hi), ?_⟩
      rw [e 8 j, if_neg (by omega)]
      exact h5.2.2.2.2
    · have h5 := h4.2.2.2.2.2 j hj
      exact ⟨(e 9 j).trans h5.1, (e 10 j).trans h5.2⟩
theorem mset_self (M : MS) (f i : Nat) : mset M f i (M f i) = M := by
  funext f' i'
  unfold mset
  split
  · rename_i h; rw [h.1, h.2]
  · rfl
