/-! the calls: what they refuse, what they answer, what they change -/
def isJ (S : GS) (j : Int) : Prop := 0 ≤ j ∧ j ≤ (gN S : Int) - 1
def isV (v : Int) : Prop := 0 ≤ v ∧ v ≤ 3
def erB (n c : Int) : Int := if (2 ≤ n ∧ n ≤ 5) ∧ (30 ≤ c ∧ c ≤ 90) then 0 else 1
def phOk (a b c d : Int) : Prop := (1 ≤ a ∧ a ≤ 15) ∧ (0 ≤ b ∧ b ≤ 15) ∧ (0 ≤ c ∧ c ≤ (if b = 0 then 0 else 15)) ∧ (0 ≤ d ∧ d ≤ (if c = 0 then 0 else 15))
def pcf4 (S : GS) (j : Nat) (a b c d : Int) : Bool := pcfK a (gCf S j) 16 && pcfK b (gCf S j) 16 && pcfK c (gCf S j) 16 && pcfK d (gCf S j) 16
def erP (S : GS) (j a b c d : Int) : Int := if ¬ (0 ≤ j ∧ j ≤ (gN S : Int) - 1) then 1 else if ¬ ((1 ≤ a ∧ a ≤ 15) ∧ (0 ≤ b ∧ b ≤ 15) ∧ (0 ≤ c ∧ c ≤ (if b = 0 then 0 else 15)) ∧ (0 ≤ d ∧ d ≤ (if c = 0 then 0 else 15))) then 2 else if pcf4 S j.toNat a b c d = false ∨ ¬ gRun S = 0 then 3 else 0
def phN4 (b c d : Int) : Nat := if b = 0 then 1 else if c = 0 then 2 else if d = 0 then 3 else 4
def phF (a b c d : Int) : Nat → Int := fun k => if k = 0 then a else if k = 1 then b else if k = 2 then c else d
def erF (S : GS) (j v x : Int) : Int := if ¬ ((0 ≤ j ∧ j ≤ (gN S : Int) - 1) ∧ (0 ≤ v ∧ v ≤ 3)) then 1 else if ¬ (0 ≤ x ∧ x ≤ 1800) then 2 else if ¬ gRun S = 0 then 3 else 0
def erL (S : GS) (j t r : Int) : Int := if ¬ (0 ≤ j ∧ j ≤ (gN S : Int) - 2) then 1 else if ¬ ((1 ≤ t ∧ t ≤ 60) ∧ (1 ≤ r ∧ r ≤ 40)) then 2 else if ¬ gRun S = 0 then 3 else 0
def erO (S : GS) (j o : Int) : Int := if ¬ (0 ≤ j ∧ j ≤ (gN S : Int) - 1) then 1 else if ¬ (0 ≤ o ∧ o ≤ gCyc S - 1) then 2 else if ¬ gRun S = 0 then 3 else 0
def erI (S : GS) : Int := if alP S (gN S) = true ∧ gRun S = 0 then 0 else 1
def erJ (S : GS) (j : Int) : Int := if 0 ≤ j ∧ j ≤ (gN S : Int) - 1 then 0 else 1
def erG (S : GS) (j p : Int) : Int := if ¬ ((0 ≤ j ∧ j ≤ (gN S : Int) - 1) ∧ (0 ≤ p ∧ p ≤ (gNp S j.toNat : Int) - 1)) then 1 else if 0 ≤ lft S j.toNat then 0 else 2
def erK (S : GS) (j p : Int) : Int := if (0 ≤ j ∧ j ≤ (gN S : Int) - 1) ∧ (0 ≤ p ∧ p ≤ (gNp S j.toNat : Int) - 1) then 0 else 1
def erS (S : GS) (j v t : Int) : Int := if ¬ ((0 ≤ j ∧ j ≤ (gN S : Int) - 1) ∧ (0 ≤ v ∧ v ≤ 3)) then 1 else if ¬ (0 ≤ t ∧ t ≤ 100000) then 2 else if 0 ≤ lft S j.toNat then 0 else 3
def erN (S : GS) (j : Int) : Int := if ¬ (0 ≤ j ∧ j ≤ (gN S : Int) - 1) then 1 else if 0 ≤ lft S j.toNat then 0 else 2
def erD (S : GS) : Int := if alP S (gN S) = true then 0 else 1
def erA (S : GS) : Int := if alP S (gN S) = true ∧ gN S ≤ 3 then 0 else 1
def erR (S : GS) (t : Int) : Int := if ¬ (1 ≤ t ∧ t ≤ 600) then 1 else if alP S (gN S) = true ∧ gNow S + t ≤ 7200 then 0 else 2
def erU (S : GS) (j v : Int) : Int := if ¬ ((0 ≤ j ∧ j ≤ (gN S : Int) - 1) ∧ (0 ≤ v ∧ v ≤ 3)) then 1 else if alP S (gN S) = true ∧ low S j.toNat v < gNp S j.toNat ∧ chg S j.toNat (gNow S) = false then 0 else 2
def erH (S : GS) (j : Int) : Int := if 0 ≤ j ∧ j ≤ (gN S : Int) - 2 then 0 else 1
/-- the setters' fields alone may differ -/
def mC (M M1 : MS) : Prop := ∀ f i, (f = 3 ∨ 14 ≤ f) → M1 f i = M f i
theorem mQ.C {M M1 : MS} (h : mQ M M1) : mC M M1 := fun f i hf => h f i (by omega) (by omega) (by omega) (by omega)
theorem mC.trans {M M1 M2 : MS} (h : mC M M1) (h2 : mC M1 M2) : mC M M2 := fun f i hf => (h2 f i hf).trans (h f i hf)
theorem mC.set (M : MS) {f i : Nat} {z : Int} (hf : f ≠ 3 ∧ f < 14) : mC M (mset M f i z) := fun f' i' h => mset_n _ _ (fun e => by omega)
theorem phN4_le (b c d : Int) : 1 ≤ phN4 b c d ∧ phN4 b c d ≤ 4 := by
  unfold phN4
  repeat' split
  all_goals omega
section MRp
variable {S : GS} {M : MS} {j k : Nat} {z : Int}
theorem MR_off (h : MR S M) (hj : j < gN S) : MR (gset S 14 j 0 z) (mset M 8 j z) := by
  simp only [MR, gset, mset, gCf, gFl, gPh, gOff, gLnk, gRoo, gCyc, gRun, gNow, gN, gNp] at h hj ⊢
  grind
theorem MR_fl (h : MR S M) (hj : j < gN S) (hk : k < 4) : MR (gset S 2 j k z) (mset M 7 (4 * j + k) z) := by
  simp only [MR, gset, mset, gCf, gFl, gPh, gOff, gLnk, gRoo, gCyc, gRun, gNow, gN, gNp] at h hj ⊢
  grind
theorem MR_cf (h : MR S M) (hj : j < gN S) (hk : k < 16) : MR (gset S 1 j k z) (mset M 4 (16 * j + k) z) := by
  simp only [MR, gset, mset, gCf, gFl, gPh, gOff, gLnk, gRoo, gCyc, gRun, gNow, gN, gNp] at h hj ⊢
  grind
theorem MR_lnk (h : MR S M) (hj : j + 1 < gN S) : MR (gset S 15 j 0 z) (mset M 9 j z) := by
  simp only [MR, gset, mset, gCf, gFl, gPh, gOff, gLnk, gRoo, gCyc, gRun, gNow, gN, gNp] at h hj ⊢
  grind
theorem MR_roo (h : MR S M) (hj : j + 1 < gN S) : MR (gset S 16 j 0 z) (mset M 10 j z) := by
  simp only [MR, gset, mset, gCf, gFl, gPh, gOff, gLnk, gRoo, gCyc, gRun, gNow, gN, gNp] at h hj ⊢
  grind
theorem MR_run (h : MR S M) : MR (gset S 33 0 0 z) (mset M 3 0 z) := by
  simp only [MR, gset, mset, gCf, gFl, gPh, gOff, gLnk, gRoo, gCyc, gRun, gNow, gN, gNp] at h ⊢
  grind
theorem MR_now (h : MR S M) : MR (gset S 32 0 0 z) (mset M 14 0 z) := by
  simp only [MR, gset, mset, gCf, gFl, gPh, gOff, gLnk, gRoo, gCyc, gRun, gNow, gN, gNp] at h ⊢
  grind
theorem MR_ph {a b c d : Int} {M1 : MS} (h : MR S M) (hj : j < gN S) (hnp : ∀ i, i < gN S → 1 ≤ gNp S i ∧ gNp S i ≤ 4) (e : ∀ f i, M1 f i = if f = 6 ∧ i = j then (phN4 b c d : Int) else if f = 5 ∧ i = 4 * j + 3 then d else if f = 5 ∧ i = 4 * j + 2 then c else if f = 5 ∧ i = 4 * j + 1 then b else if f = 5 ∧ i = 4 * j then a else M f i) : MR (gphs S j (phN4 b c d) (phF a b c d)) M1 := by
  have hn := phN4_le b c d
  simp only [MR, gphs, gCf, gFl, gPh, gOff, gLnk, gRoo, gCyc, gRun, gNow, gN, gNp, phF] at h hj hnp ⊢
  obtain ⟨h1, h2, h3, h4, h5, h6⟩ := h
  refine ⟨by grind, by grind, by grind, by grind, fun i hi => ?_, fun i hi => by grind⟩
  have h7 := h5 i hi
  have h8 := hnp i hi
  by_cases hij : i = j
  · subst hij
    refine ⟨by grind, by grind, fun k hk => ?_, by grind, by grind⟩
    have hq := phN4_le b c d
    have hk : k < phN4 b c d := by simpa using hk
    rcases (show k = 0 ∨ k = 1 ∨ k = 2 ∨ k = 3 by omega) with rfl | rfl | rfl | rfl <;> grind
  · refine ⟨by grind, by grind, fun k hk => ?_, by grind, by grind⟩
    have hk : k < S.2 1 i := by simpa [hij] using hk
    have := h7.2.2.1 k hk
    grind
end MRp
