/-! ints of the machine as integers -/
def iI (z : Int) : Int32 := Int32.ofInt z
def bZ (b : Bool) : Int := if b = true then 1 else 0
theorem bZ_t : bZ true = 1 := rfl
theorem bZ_f : bZ false = 0 := rfl
theorem bZ_le (b : Bool) : 0 ≤ bZ b ∧ bZ b ≤ 1 := by cases b <;> decide
theorem bZ_0 (b : Bool) : bZ b = 0 ↔ b = false := by cases b <;> simp [bZ]
theorem bZ_1 (b : Bool) : bZ b = 1 ↔ b = true := by cases b <;> simp [bZ]
theorem iI_toInt {z : Int} (h : -2147483648 ≤ z ∧ z ≤ 2147483647) : (iI z).toInt = z := Int32.toInt_ofInt_of_le (by omega) (by omega)
theorem iI_of (x : Int32) : iI x.toInt = x := Int32.ofInt_toInt x
theorem iI_rng (x : Int32) : -2147483648 ≤ x.toInt ∧ x.toInt ≤ 2147483647 := by
  have h1 := x.le_toInt
  have h2 := x.toInt_lt
  omega
theorem iI_nat (n : Nat) : Int32.ofNat n = iI (n : Int) := Int32.ofInt_eq_ofNat.symm
theorem iI_nI (n : Nat) : nI n = iI (n : Int) := iI_nat n
theorem iI_add (a b : Int) : iI a + iI b = iI (a + b) := (Int32.ofInt_add a b).symm
theorem iI_sub (a b : Int) : iI a - iI b = iI (a - b) := (Int32.ofInt_sub a b).symm
theorem iI_mul (a b : Int) : iI a * iI b = iI (a * b) := (Int32.ofInt_mul a b).symm
theorem iI_neg (a : Int) : -iI a = iI (-a) := (Int32.ofInt_neg a).symm
theorem iI_inj {a b : Int} (h : (-2147483648 ≤ a ∧ a ≤ 2147483647) ∧ -2147483648 ≤ b ∧ b ≤ 2147483647) : iI a = iI b ↔ a = b := by
  constructor
  · intro e
    rw [← iI_toInt h.1, ← iI_toInt h.2, e]
  · intro e
    rw [e]
theorem iI_lt {a b : Int} (h : (-2147483648 ≤ a ∧ a ≤ 2147483647) ∧ -2147483648 ≤ b ∧ b ≤ 2147483647) : iI a < iI b ↔ a < b := by
  rw [Int32.lt_iff_toInt_lt, iI_toInt h.1, iI_toInt h.2]
theorem iI_le {a b : Int} (h : (-2147483648 ≤ a ∧ a ≤ 2147483647) ∧ -2147483648 ≤ b ∧ b ≤ 2147483647) : iI a ≤ iI b ↔ a ≤ b := by
  rw [Int32.le_iff_toInt_le, iI_toInt h.1, iI_toInt h.2]
theorem iI_0 : iI 0 = 0 := rfl
theorem iI_ne0 {a : Int} (h : -2147483648 ≤ a ∧ a ≤ 2147483647) (h0 : a ≠ 0) : ¬ iI a = 0 := by
  rw [← iI_0, iI_inj ⟨h, by omega⟩]
  exact h0
theorem iI_div {a b : Int} (h : (-2147483648 ≤ a ∧ a ≤ 2147483647) ∧ -2147483648 ≤ b ∧ b ≤ 2147483647) : iI a / iI b = iI (a.tdiv b) :=
  (Int32.ofInt_tdiv (show (-2147483648 : Int) ≤ a from h.1.1) (show a ≤ 2147483647 from h.1.2) (show (-2147483648 : Int) ≤ b from h.2.1) (show b ≤ 2147483647 from h.2.2)).symm
theorem iI_rem {a b : Int} (h : (-2147483648 ≤ a ∧ a ≤ 2147483647) ∧ -2147483648 ≤ b ∧ b ≤ 2147483647) : iI a - iI a / iI b * iI b = iI (a.tmod b) := by
  rw [iI_div h, iI_mul, iI_sub]
  congr 1
  have := Int.tmod_def a b
  rw [this, Int.mul_comm b]
theorem iI_divN {a b : Int} (h : 0 ≤ a ∧ a ≤ 2147483647 ∧ 0 < b ∧ b ≤ 2147483647) : iI a / iI b = iI (a / b) := by
  rw [iI_div (by omega), Int.tdiv_eq_ediv_of_nonneg h.1]
theorem iI_remN {a b : Int} (h : 0 ≤ a ∧ a ≤ 2147483647 ∧ 0 < b ∧ b ≤ 2147483647) : iI a - iI a / iI b * iI b = iI (a % b) := by
  rw [iI_rem (by omega), Int.tmod_eq_emod_of_nonneg h.1]
theorem iI_cl {j : Nat} {i : Int} (hi : i = (j : Int)) (h : (j : Int) ≤ 2147483647) : (iI i).toNatClampNeg = j := by
  subst hi
  show (Int32.ofInt (j : Int)).toNatClampNeg = j
  rw [Int32.toNatClampNeg_ofInt_of_le (by omega) (by omega)]
  rfl
theorem iI_in {j n : Nat} {i : Int} (hi : i = (j : Int)) (h : j < n) (hn : (n : Int) ≤ 2147483647) : vp_in (iI i) n := by
  rw [vp_in_iff, iI_toInt (by omega)]
  omega
theorem iI_nar (z : Int) (h : 0 ≤ z ∧ z ≤ 1) : vp_nar .boolean (iI z) = iI z := by
  rcases (show z = 0 ∨ z = 1 by omega) with rfl | rfl <;> rfl
theorem iI_narB (z : Int) (h : 0 ≤ z ∧ z ≤ 1) : narrow .boolean (.int (iI z)) = .int (iI z) := by
  rcases (show z = 0 ∨ z = 1 by omega) with rfl | rfl <;> rfl
/-- a list of ints changed at a place -/
def uI (f : Nat → Int) (k : Nat) (x : Int) : Nat → Int := fun j => if j = k then x else f j
theorem uI_s {f : Nat → Int} {k : Nat} {x : Int} : uI f k x k = x := if_pos rfl
theorem uI_n {f : Nat → Int} {k j : Nat} {x : Int} (h : j ≠ k) : uI f k x j = f j := if_neg h
theorem uI_eq (f : Nat → Int) (k : Nat) (x : Int) : upd (fun j => iI (f j)) k (iI x) = fun j => iI (uI f k x j) := by
  funext j
  by_cases h : j = k
  · subst h
    simp [upd, uI]
  · simp [upd, uI, h]
