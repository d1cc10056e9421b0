/-! the plan's numbers -/
/-- floor division and remainder out of those that cut -/
theorem fl_rem (a c : Int) (hc : 0 < c) : Int.tmod (Int.tmod a c + c) c = a % c := by
  have h1 := Int.tmod_lt_of_pos a hc
  have h2 : -c < Int.tmod a c := Int.lt_tmod_of_pos a hc
  rw [fmod_a a c hc]
  by_cases h : Int.tmod a c < 0
  · rw [if_pos h, Int.tmod_eq_emod_of_nonneg (by omega), Int.emod_eq_of_lt (by omega) (by omega)]
  · rw [if_neg h, Int.tmod_eq_emod_of_nonneg (by omega), Int.add_emod_right, Int.emod_eq_of_lt (by omega) (by omega)]
theorem fl_div (a c : Int) (hc : 0 < c) : Int.tdiv (a - a % c) c = a / c := by
  have h1 : a - a % c = c * (a / c) := by have := Int.emod_def a c; omega
  rw [h1, Int.mul_comm, Int.mul_tdiv_cancel _ (by omega)]
theorem fl_b {a c A : Int} (hc : 0 < c) (h : -A ≤ a ∧ a ≤ A) : -A ≤ a / c ∧ a / c ≤ A := by
  have hA : 0 ≤ A := by omega
  have h2 := Int.mul_le_mul_of_nonneg_left (show (1 : Int) ≤ c by omega) hA
  constructor
  · refine Int.le_ediv_of_mul_le hc ?_
    rw [Int.neg_mul]
    omega
  · refine Int.le_of_lt_add_one (Int.ediv_lt_of_lt_mul hc ?_)
    rw [Int.add_mul]
    omega
theorem wgt_le {S : GS} {j : Nat} (h : jI S j) : ∀ n p, p < n → wgt S j p ≤ allK S j n := by
  intro n
  induction n with
  | zero => intro p hp; omega
  | succ n ih =>
    intro p hp
    have h1 := wgt_b h n
    have h2 := allK_b h n
    simp only [allK]
    by_cases hpn : p = n
    · subst hpn; omega
    · have := ih p (by omega); omega
theorem mor_b {S : GS} {j p : Nat} (hI : gI S) (hj : j < gN S) (hL : 0 ≤ lft S j) (hp : p < gNp S j) : 0 ≤ mor S j p ∧ mor S j p ≤ lft S j := by
  have h := hI.2.2 j hj
  have h1 := wgt_le h (gNp S j) p hp
  have h2 := wgt_b h p
  unfold mor
  split
  · rw [Int.tdiv_eq_ediv_of_nonneg hL]
    exact ⟨Int.ediv_nonneg hL (by omega), Int.ediv_le_self _ hL⟩
  · rename_i h0
    have h3 : 0 < alw S j := by have := alw_b hI hj; omega
    have h4 : 0 ≤ lft S j * wgt S j p := Int.mul_nonneg hL h2.1
    rw [Int.tdiv_eq_ediv_of_nonneg h4]
    refine ⟨Int.ediv_nonneg h4 (by omega), ?_⟩
    refine Int.le_of_lt_add_one (Int.ediv_lt_of_lt_mul h3 ?_)
    have h5 : lft S j * wgt S j p ≤ lft S j * alw S j := Int.mul_le_mul_of_nonneg_left h1 hL
    rw [Int.add_mul]
    omega
theorem grn_b {S : GS} {j p : Nat} (hI : gI S) (hj : j < gN S) (hL : 0 ≤ lft S j) (hp : p < gNp S j) : lst S j p ≤ grn S j p ∧ 5 ≤ grn S j p ∧ grn S j p ≤ 94 := by
  have h1 := mor_b hI hj hL hp
  have h2 := lst_b S j p
  have h3 := lft_b hI hj
  unfold grn
  split <;> omega
section MRs
variable {S : GS} {M : MS} {j k : Nat}
theorem MR.n (h : MR S M) : M 1 0 = (gN S : Int) := h.1
theorem MR.cyc (h : MR S M) : M 2 0 = gCyc S := h.2.1
theorem MR.run (h : MR S M) : M 3 0 = gRun S := h.2.2.1
theorem MR.now (h : MR S M) : M 14 0 = gNow S := h.2.2.2.1
theorem MR.np (h : MR S M) (hj : j < gN S) : M 6 j = (gNp S j : Int) := (h.2.2.2.2.1 j hj).1
theorem MR.cf (h : MR S M) (hj : j < gN S) (hk : k < 16) : M 4 (16 * j + k) = gCf S j k := (h.2.2.2.2.1 j hj).2.1 k hk
theorem MR.ph (h : MR S M) (hj : j < gN S) (hk : k < gNp S j) : M 5 (4 * j + k) = gPh S j k := (h.2.2.2.2.1 j hj).2.2.1 k hk
theorem MR.fl (h : MR S M) (hj : j < gN S) (hk : k < 4) : M 7 (4 * j + k) = gFl S j k := (h.2.2.2.2.1 j hj).2.2.2.1 k hk
theorem MR.off (h : MR S M) (hj : j < gN S) : M 8 j = gOff S j := (h.2.2.2.2.1 j hj).2.2.2.2
theorem MR.lnk (h : MR S M) (hj : j + 1 < gN S) : M 9 j = gLnk S j := (h.2.2.2.2.2 j hj).1
theorem MR.roo (h : MR S M) (hj : j + 1 < gN S) : M 10 j = gRoo S j := (h.2.2.2.2.2 j hj).2
end MRs
/-- what a call left of the plan's greens -/
def mcal (S : GS) (M : MS) (j : Nat) (t : Int) (b : Bool) : Bool := b && (decide (¬ M 22 j = 0) && decide (M 23 j = (t - gOff S j) / gCyc S))
def mAdj (g : Nat → Int) (M : MS) (j : Nat) (cal : Bool) (p : Nat) : Int := g p + (if cal = true ∧ (p : Int) = M 24 j then M 26 j else 0) - (if cal = true ∧ (p : Int) = M 25 j then M 26 j else 0)
theorem mAdj_f (g : Nat → Int) (M : MS) (j : Nat) : mAdj g M j false = g := by
  funext p
  simp [mAdj]
def mPh (S : GS) (g c : Nat → Int) (M : MS) (j : Nat) (t : Int) (b : Bool) : Int := phA (mAdj g M j (mcal S M j t b)) c (gNp S j) 0 ((t - gOff S j) % gCyc S)
def mGn (S : GS) (g c : Nat → Int) (M : MS) (j : Nat) (v t : Int) (b : Bool) : Bool := decide (¬ mPh S g c M j t b = -1) && hasB (gPh S j (mPh S g c M j t b).toNat) v
theorem mPh_f (S : GS) (M : MS) (j : Nat) (t : Int) : mPh S (grn S j) (clr S j) M j t false = phA (grn S j) (clr S j) (gNp S j) 0 ((t - gOff S j) % gCyc S) := by
  simp [mPh, mcal, mAdj_f]
theorem mGn_f (S : GS) (M : MS) (j : Nat) (v t : Int) : mGn S (grn S j) (clr S j) M j v t false = gAt S j v t := by
  simp only [mGn, mPh_f]
  rfl
/-- a bad set -/
def badK (s : Int) (cf : Nat → Int) : Nat → Bool
  | 0 => false
  | k + 1 => badK s cf k || (hasB s ((k : Int) / 4) && hasB s ((k : Int) % 4) && decide (¬ cf k = -1))
theorem bad_pcf {s : Int} {cf : Nat → Int} (hd : ∀ k, k < 4 → cf (5 * k) = -1) : ∀ k, k ≤ 16 → badK s cf k = !pcfK s cf k := by
  intro k
  induction k with
  | zero => intro _; rfl
  | succ k ih =>
    intro hk
    simp only [badK, pcfK, ih (by omega)]
    by_cases h : (k : Int) / 4 = (k : Int) % 4
    · have e : k = 5 * (k / 4) := by omega
      have h2 : cf k = -1 := by rw [e]; exact hd _ (by omega)
      simp [h, h2]
    · simp [h, Bool.and_assoc]
/-- whether two movements are green together in a phase -/
def tgK (S : GS) (j : Nat) (a b : Int) : Nat → Bool
  | 0 => false
  | k + 1 => tgK S j a b k || (hasB (gPh S j k) a && hasB (gPh S j k) b)
def erC (S : GS) (j a b x : Int) : Int := if ¬ ((0 ≤ j ∧ j ≤ (gN S : Int) - 1) ∧ (0 ≤ a ∧ a ≤ 3) ∧ (0 ≤ b ∧ b ≤ 3)) then 1 else if a = b ∨ ¬ (-1 ≤ x ∧ x ≤ 9) then 2 else if (¬ x = -1 ∧ tgK S j.toNat a b (gNp S j.toNat) = true) ∨ ¬ gRun S = 0 then 3 else 0
/-- the first phase that is green for v, from k on -/
def lowK (S : GS) (j : Nat) (v : Int) : Nat → Nat → Nat
  | 0, k => k
  | n + 1, k => if hasB (gPh S j k) v = true then k else lowK S j v n (k + 1)
def low (S : GS) (j : Nat) (v : Int) : Nat := lowK S j v (gNp S j) 0
theorem lowK_le (S : GS) (j : Nat) (v : Int) : ∀ n k, k ≤ lowK S j v n k ∧ lowK S j v n k ≤ k + n := by
  intro n
  induction n with
  | zero => intro k; simp [lowK]
  | succ n ih =>
    intro k
    have := ih (k + 1)
    simp only [lowK]
    split <;> omega
theorem lowK_step {S : GS} {j : Nat} {v : Int} {n k : Nat} (h : k < n) : lowK S j v (n - k) k = if hasB (gPh S j k) v = true then k else lowK S j v (n - (k + 1)) (k + 1) := by
  rw [show n - k = (n - (k + 1)) + 1 by omega]
  simp only [lowK]
/-- clearances broken at a place: by pair k, within i seconds; by the first k pairs -/
def brI (S : GS) (j k : Nat) (pl : Int) : Nat → Bool
  | 0 => false
  | i + 1 => brI S j k pl i || gAtP S j ((k : Int) % 4) ((pl + i) % gCyc S)
def brK (S : GS) (j : Nat) (pl : Int) : Nat → Bool
  | 0 => false
  | k + 1 => brK S j pl k || (gAtP S j ((k : Int) / 4) pl && brI S j k pl (gCf S j k + 1).toNat)
theorem gAt_pl (S : GS) (j : Nat) (v t : Int) (i : Nat) : gAt S j v (t + i) = gAtP S j v (((t - gOff S j) % gCyc S + i) % gCyc S) := by
  unfold gAt
  rw [Int.emod_add_emod]
  congr 2
  omega
theorem brI_st {S : GS} {j k : Nat} {pl : Int} {i : Nat} (h : brI S j k pl i = true) : ∀ d, brI S j k pl (i + d) = true := by
  intro d
  induction d with
  | zero => exact h
  | succ d ih => show (brI S j k pl (i + d) || _) = true; rw [ih]; rfl
theorem brK_st {S : GS} {j : Nat} {pl : Int} {k : Nat} (h : brK S j pl k = true) : ∀ d, brK S j pl (k + d) = true := by
  intro d
  induction d with
  | zero => exact h
  | succ d ih => show (brK S j pl (k + d) || _) = true; rw [ih]; rfl
/-! the places of the phases -/
theorem begK_b {g c : Nat → Int} {n : Nat} (h : ∀ i, i < n → 0 ≤ g i ∧ 0 ≤ c i) : ∀ k, k ≤ n → 0 ≤ begK g c k := by
  intro k
  induction k with
  | zero => intro _; simp [begK]
  | succ k ih =>
    intro hk
    have := ih (by omega)
    have := h k (by omega)
    simp only [begK]
    omega
theorem begK_mono {g c : Nat → Int} {n : Nat} (h : ∀ i, i < n → 0 ≤ g i ∧ 0 ≤ c i) (a : Nat) : ∀ d, a + d ≤ n → begK g c a ≤ begK g c (a + d) := by
  intro d
  induction d with
  | zero => intro _; exact Int.le_refl _
  | succ d ih =>
    intro hk
    have := ih (by omega)
    have := h (a + d) (by omega)
    show _ ≤ begK g c (a + d) + (g (a + d) + c (a + d))
    omega
theorem phA_inK {g c : Nat → Int} {N p : Nat} (h : ∀ i, i < N → 0 ≤ g i ∧ 0 ≤ c i) : ∀ (n k : Nat) (r : Int), k + n = N → k ≤ p → p < N → begK g c p - begK g c k ≤ r → r < begK g c p - begK g c k + g p → phA g c n k r = p := by
  intro n
  induction n with
  | zero => intro k r h1 h2 h3; omega
  | succ n ih =>
    intro k r h1 h2 h3 h4 h5
    have hgk := h k (by omega)
    simp only [phA]
    by_cases hkp : k = p
    · subst hkp
      rw [if_pos (by omega), if_neg (by omega)]
    · have hm := begK_mono h (k + 1) (p - (k + 1)) (by omega)
      rw [show k + 1 + (p - (k + 1)) = p by omega] at hm
      have h9 : begK g c (k + 1) = begK g c k + (g k + c k) := rfl
      rw [if_neg (by omega)]
      exact ih (k + 1) _ (by omega) (by omega) h3 (by omega) (by omega)
theorem phA_isK {g c : Nat → Int} {N p : Nat} (h : ∀ i, i < N → 0 ≤ g i ∧ 0 ≤ c i) : ∀ (n k : Nat) (r : Int), k + n = N → 0 ≤ r → phA g c n k r = (p : Int) → begK g c p - begK g c k ≤ r ∧ r < begK g c p - begK g c k + g p := by
  intro n
  induction n with
  | zero => intro k r _ _ h3; simp only [phA] at h3; omega
  | succ n ih =>
    intro k r h1 h2 h3
    have hgk := h k (by omega)
    simp only [phA] at h3
    by_cases hlt : r < g k
    · rw [if_pos hlt, if_neg (by omega)] at h3
      have : k = p := by omega
      subst this
      omega
    · rw [if_neg hlt] at h3
      have h9 : begK g c (k + 1) = begK g c k + (g k + c k) := rfl
      by_cases hr : r - (g k + c k) < 0
      · rw [phA_neg _ _ _ hr (fun i h6 h7 => (h i (by omega)).1)] at h3
        omega
      · have := ih (k + 1) _ (by omega) (by omega) h3
        omega
/-- phase p is green at t: t lies in its seconds -/
theorem phA_in {g c : Nat → Int} {n p : Nat} {t : Int} (h : ∀ i, i < n → 0 ≤ g i ∧ 0 ≤ c i) (hp : p < n) (h1 : begK g c p ≤ t) (h2 : t < begK g c p + g p) : phA g c n 0 t = p :=
  phA_inK h n 0 t (by omega) (by omega) hp (by simp only [begK]; omega) (by simp only [begK]; omega)
theorem phA_is {g c : Nat → Int} {n p : Nat} {t : Int} (h : ∀ i, i < n → 0 ≤ g i ∧ 0 ≤ c i) (ht : 0 ≤ t) (he : phA g c n 0 t = (p : Int)) : begK g c p ≤ t ∧ t < begK g c p + g p := by
  have := phA_isK h n 0 t (by omega) ht he
  simp only [begK] at this
  omega
/-! the greens and clearances of a plan fill the cycle -/
theorem begK_sum (S : GS) (j : Nat) : ∀ k, begK (fun p => lst S j p + mor S j p) (clr S j) k = gCyc S - lftK S j k + (lft S j - rstK S j k) := by
  intro k
  induction k with
  | zero => simp [begK, lftK, rstK]
  | succ k ih =>
    simp only [begK, lftK, rstK, ih]
    omega
theorem rst_b {S : GS} {j : Nat} (hI : gI S) (hj : j < gN S) (hL : 0 ≤ lft S j) : 0 ≤ rst S j ∧ rst S j < gNp S j := by
  have h := hI.2.2 j hj
  have hnp := h.1
  by_cases h0 : alw S j = 0
  · have hm : ∀ p, mor S j p = lft S j / (gNp S j : Int) := fun p => by unfold mor; rw [if_pos h0, Int.tdiv_eq_ediv_of_nonneg hL]
    have hr : ∀ k, rstK S j k = lft S j - (k : Int) * (lft S j / (gNp S j : Int)) := by
      intro k
      induction k with
      | zero => simp [rstK]
      | succ k ih =>
        simp only [rstK, ih, hm]
        rw [show ((k + 1 : Nat) : Int) = (k : Int) + 1 by omega, Int.add_mul]
        omega
    have e1 := Int.emod_nonneg (lft S j) (show (gNp S j : Int) ≠ 0 by omega)
    have e2 := Int.emod_lt_of_pos (lft S j) (show (0 : Int) < gNp S j by omega)
    have e3 := Int.emod_def (lft S j) (gNp S j)
    unfold rst
    rw [hr]
    omega
  · have ha : 0 < alw S j := by have := alw_b hI hj; omega
    have hm : ∀ p, mor S j p = (lft S j * wgt S j p) / alw S j := fun p => by unfold mor; rw [if_neg h0, Int.tdiv_eq_ediv_of_nonneg (Int.mul_nonneg hL (wgt_b h p).1)]
    have hr : ∀ k, alw S j * rstK S j k ≥ lft S j * (alw S j - allK S j k) ∧ alw S j * rstK S j k ≤ lft S j * (alw S j - allK S j k) + (k : Int) * (alw S j - 1) := by
      intro k
      induction k with
      | zero => simp only [rstK, allK]; rw [Int.mul_comm]; simp
      | succ k ih =>
        have e1 := Int.emod_nonneg (lft S j * wgt S j k) (show alw S j ≠ 0 by omega)
        have e2 := Int.emod_lt_of_pos (lft S j * wgt S j k) ha
        have e3 := Int.emod_def (lft S j * wgt S j k) (alw S j)
        simp only [rstK, allK, hm]
        rw [Int.mul_sub (alw S j), show alw S j - (allK S j k + wgt S j k) = (alw S j - allK S j k) - wgt S j k by omega, Int.mul_sub (lft S j), show ((k + 1 : Nat) : Int) = (k : Int) + 1 by omega, Int.add_mul]
        omega
    have h1 := hr (gNp S j)
    have h2 : alw S j - allK S j (gNp S j) = 0 := by unfold alw; omega
    rw [h2, Int.mul_zero] at h1
    have h3 : rstK S j (gNp S j) = rst S j := rfl
    rw [h3] at h1
    constructor
    · refine Classical.byContradiction fun hc => ?_
      have := Int.mul_le_mul_of_nonneg_left (show rst S j ≤ -1 by omega) (show 0 ≤ alw S j by omega)
      omega
    · refine Classical.byContradiction fun hc => ?_
      have h4 := Int.mul_le_mul_of_nonneg_left (show (gNp S j : Int) ≤ rst S j by omega) (show 0 ≤ alw S j by omega)
      have h5 : alw S j * (gNp S j : Int) = (gNp S j : Int) * (alw S j - 1) + gNp S j := by rw [Int.mul_sub, Int.mul_comm]; omega
      omega
theorem begK_grn {S : GS} {j : Nat} (hI : gI S) (hj : j < gN S) (hL : 0 ≤ lft S j) : begK (grn S j) (clr S j) (gNp S j) = gCyc S := by
  have hr := rst_b hI hj hL
  have hk : ∀ k : Nat, begK (grn S j) (clr S j) k = begK (fun p => lst S j p + mor S j p) (clr S j) k + (if (k : Int) ≤ rst S j then (k : Int) else rst S j) := by
    intro k
    induction k with
    | zero => simp only [begK]; rw [if_pos (by omega)]; omega
    | succ k ih =>
      simp only [begK, ih, grn]
      split <;> split <;> split <;> omega
  rw [hk, begK_sum, if_neg (by omega)]
  have e1 : lftK S j (gNp S j) = lft S j := rfl
  have e2 : rstK S j (gNp S j) = rst S j := rfl
  rw [e1, e2]
  omega
theorem mor_ab {S : GS} {j p : Nat} (hI : gI S) (hj : j < gN S) (hp : p < gNp S j) : -90 ≤ mor S j p ∧ mor S j p ≤ 90 := by
  have h3 := lft_b hI hj
  by_cases hL : 0 ≤ lft S j
  · have := mor_b hI hj hL hp
    omega
  · have h := hI.2.2 j hj
    have h1 := wgt_le h (gNp S j) p hp
    have h2 := wgt_b h p
    have hn := h.1
    unfold mor
    split
    · have e : Int.tdiv (lft S j) (gNp S j) = -(Int.tdiv (-lft S j) (gNp S j)) := by rw [Int.neg_tdiv]; omega
      have e2 := Int.ediv_nonneg (show 0 ≤ -lft S j by omega) (show (0 : Int) ≤ gNp S j by omega)
      have e3 := Int.ediv_le_self (gNp S j : Int) (show 0 ≤ -lft S j by omega)
      rw [e, Int.tdiv_eq_ediv_of_nonneg (by omega)]
      omega
    · rename_i h0
      have h4 : 0 < alw S j := by have := alw_b hI hj; omega
      have h5 : 0 ≤ -lft S j * wgt S j p := Int.mul_nonneg (by omega) h2.1
      have e : Int.tdiv (lft S j * wgt S j p) (alw S j) = -(Int.tdiv (-lft S j * wgt S j p) (alw S j)) := by rw [Int.neg_mul, Int.neg_tdiv]; omega
      rw [e, Int.tdiv_eq_ediv_of_nonneg h5]
      have e2 := Int.ediv_nonneg h5 (show (0 : Int) ≤ alw S j by omega)
      have e3 : -lft S j * wgt S j p / alw S j ≤ -lft S j := by
        refine Int.le_of_lt_add_one (Int.ediv_lt_of_lt_mul h4 ?_)
        have h6 : -lft S j * wgt S j p ≤ -lft S j * alw S j := Int.mul_le_mul_of_nonneg_left h1 (by omega)
        rw [Int.add_mul]
        omega
      omega
theorem rst_ab {S : GS} {j : Nat} (hI : gI S) (hj : j < gN S) : -1000 ≤ rst S j ∧ rst S j ≤ 1000 := by
  have h3 := lft_b hI hj
  have hn := (hI.2.2 j hj).1
  have h : ∀ k, k ≤ gNp S j → lft S j - 90 * k ≤ rstK S j k ∧ rstK S j k ≤ lft S j + 90 * k := by
    intro k
    induction k with
    | zero => intro _; simp [rstK]
    | succ k ih =>
      intro hk
      have := ih (by omega)
      have := mor_ab hI hj (show k < gNp S j by omega)
      simp only [rstK]
      omega
  have := h (gNp S j) (Nat.le_refl _)
  unfold rst
  omega
