/-! the reference's picture: M f k, field f of the class, at place k -/
abbrev MS : Type := Nat → Nat → Int
def mlen (k : Nat) : Nat := match k with
  | 4 => 80 | 5 => 20 | 6 => 5 | 7 => 20 | 8 => 5 | 9 => 4 | 10 => 4 | 11 => 20 | 12 => 20 | 13 => 5 | 18 => 5 | 19 => 5 | 20 => 4 | 21 => 160 | _ => 5
abbrev mF (am : Nat → Nat) (M : MS) : List Value := [.int (iI (M 0 0)), .int (iI (M 1 0)), .int (iI (M 2 0)), .int (iI (M 3 0)), .ref (am 4), .ref (am 5), .ref (am 6), .ref (am 7), .ref (am 8), .ref (am 9), .ref (am 10), .ref (am 11), .ref (am 12), .ref (am 13), .int (iI (M 14 0)), .int (iI (M 15 0)), .int (iI (M 16 0)), .int (iI (M 17 0)), .ref (am 18), .ref (am 19), .ref (am 20), .ref (am 21), .ref (am 22), .ref (am 23), .ref (am 24), .ref (am 25), .ref (am 26)]
def mB (k : Nat) : Bool := k == 13 || k == 22
def mA (k : Nat) : Bool := (decide (4 ≤ k) && decide (k ≤ 13)) || (decide (18 ≤ k) && decide (k ≤ 26))
def mv (k : Nat) : Prop := k = 0 ∨ mA k = true
def mcell (E : EP) (am : Nat → Nat) (M : MS) (k : Nat) : va_E := if k = 0 then .inr (2, mF am M) else if mB k = true then aB E (mlen k) (M k) else aI E (mlen k) (M k)
def MP (E : EP) (am : Nat → Nat) (M : MS) (H : Heap) : Prop :=
  (∀ k, mv k → ce E (am k) (mcell E am M k) H) ∧ (∀ k k', mv k → mv k' → am k = am k' → k = k') ∧ (∀ k, mv k → eN E ≤ am k)
section MPs
variable {E : EP} {am : Nat → Nat} {M : MS} {H H1 : Heap}
theorem MP.O (h : MP E am M H) : ce E (am 0) (.inr (2, mF am M)) H := h.1 0 (Or.inl rfl)
theorem MP.I (h : MP E am M H) (k : Nat) (hk : (mA k && !mB k) = true) : ce E (am k) (aI E (mlen k) (M k)) H := by
  simp only [Bool.and_eq_true, Bool.not_eq_true'] at hk
  have h1 := h.1 k (Or.inr hk.1)
  have h0 : k ≠ 0 := by
    intro e
    subst e
    exact absurd hk.1 (by decide)
  unfold mcell at h1
  rw [if_neg h0, if_neg (by rw [hk.2]; decide)] at h1
  exact h1
theorem MP.Z (h : MP E am M H) (k : Nat) (hk : (mA k && mB k) = true) : ce E (am k) (aB E (mlen k) (M k)) H := by
  simp only [Bool.and_eq_true] at hk
  have h1 := h.1 k (Or.inr hk.1)
  have h0 : k ≠ 0 := by
    intro e
    subst e
    exact absurd hk.1 (by decide)
  unfold mcell at h1
  rw [if_neg h0, if_pos hk.2] at h1
  exact h1
theorem MP.kept (h : MP E am M H) (hq : ∀ k, mv k → H1[am k]? = H[am k]?) : MP E am M H1 := ⟨fun k hv => (h.1 k hv).kept (hq k hv), h.2⟩
theorem MP.lt (h : MP E am M H) {k : Nat} (hv : mv k) : am k < H.size := (h.1 k hv).lt
theorem MP.new (h : MP E am M H) (o : ∀ q : Nat, q < H.size → H1[q]? = H[q]?) : MP E am M H1 := h.kept fun _ hv => o _ (h.lt hv)
end MPs
/-- the reference holds the same junctions as S -/
def MR (S : GS) (M : MS) : Prop := M 1 0 = (gN S : Int) ∧ M 2 0 = gCyc S ∧ M 3 0 = gRun S ∧ M 14 0 = gNow S ∧
  (∀ j, j < gN S → M 6 j = (gNp S j : Int) ∧ (∀ k, k < 16 → M 4 (16 * j + k) = gCf S j k) ∧ (∀ k, k < gNp S j → M 5 (4 * j + k) = gPh S j k) ∧ (∀ k, k < 4 → M 7 (4 * j + k) = gFl S j k) ∧ M 8 j = gOff S j) ∧
  (∀ j, j + 1 < gN S → M 9 j = gLnk S j ∧ M 10 j = gRoo S j)
/-- bounds of what a call left -/
def mI (M : MS) : Prop := ∀ j, j < 5 → (0 ≤ M 22 j ∧ M 22 j ≤ 1) ∧ (-1000000 ≤ M 23 j ∧ M 23 j ≤ 1000000) ∧ (0 ≤ M 24 j ∧ M 24 j ≤ 3) ∧ (0 ≤ M 25 j ∧ M 25 j ≤ 3) ∧ (0 ≤ M 26 j ∧ M 26 j ≤ 5)
/-- the plan of junction j is laid -/
def mPl (S : GS) (M : MS) (j : Nat) : Prop := ∀ p, p < gNp S j → M 11 (4 * j + p) = grn S j p ∧ M 12 (4 * j + p) = clr S j p
/-- what is green by the plan, by places of the cycle; in a second -/
def gAtP (S : GS) (j : Nat) (v t : Int) : Bool := decide (¬ phA (grn S j) (clr S j) (gNp S j) 0 t = -1) && hasB (gPh S j (phA (grn S j) (clr S j) (gNp S j) 0 t).toNat) v
def gAt (S : GS) (j : Nat) (v t : Int) : Bool := gAtP S j v ((t - gOff S j) % gCyc S)
def ixK (S : GS) (f : Bool) (k : Nat) : Nat := if f = true then k else gN S - 1 - k
def lkK (S : GS) (f : Bool) (k : Nat) : Int := if k + 1 < gN S then (if f = true then gLnk S k else gLnk S (gN S - 2 - k)) else 0
def atK (S : GS) (f : Bool) (t : Int) : Nat → Int
  | 0 => t
  | k + 1 => atK S f t k + lkK S f k
def frK (S : GS) (f : Bool) (t : Int) : Nat → Bool
  | 0 => true
  | k + 1 => frK S f t k && gAt S (ixK S f k) (if f = true then 0 else 1) (atK S f t k)
def bnK (S : GS) (f : Bool) : Nat → Int
  | 0 => 0
  | k + 1 => bnK S f k + bZ (frK S f k (gN S))
def bnd (S : GS) (f : Bool) : Int := bnK S f (gCyc S).toNat
def bns (S : GS) : Int := bnd S true + bnd S false
theorem bnK_b (S : GS) (f : Bool) (k : Nat) : 0 ≤ bnK S f k ∧ bnK S f k ≤ k := by
  induction k with
  | zero => simp [bnK]
  | succ k ih =>
    have := bZ_le (frK S f k (gN S))
    simp only [bnK]
    omega
theorem bnd_b {S : GS} (hI : gI S) (f : Bool) : 0 ≤ bnd S f ∧ bnd S f ≤ 90 := by
  have h1 := bnK_b S f (gCyc S).toNat
  have h2 := hI.2.1
  unfold bnd
  omega
theorem bns_b {S : GS} (hI : gI S) : 0 ≤ bns S ∧ bns S ≤ 180 := by
  have h1 := bnd_b hI true
  have h2 := bnd_b hI false
  unfold bns
  omega
theorem lkK_b {S : GS} (hI : gI S) (f : Bool) (k : Nat) : 0 ≤ lkK S f k ∧ lkK S f k ≤ 60 := by
  unfold lkK
  split
  · split
    · have := (hI.2.2 k (by omega)).2.2.2.2.2.1
      omega
    · have := (hI.2.2 (gN S - 2 - k) (by omega)).2.2.2.2.2.1
      omega
  · omega
theorem atK_b {S : GS} (hI : gI S) (f : Bool) (t : Int) (k : Nat) : t ≤ atK S f t k ∧ atK S f t k ≤ t + 60 * k := by
  induction k with
  | zero => simp [atK]
  | succ k ih =>
    have := lkK_b hI f k
    simp only [atK]
    omega
