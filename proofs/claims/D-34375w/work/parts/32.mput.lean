/-! the reference, written -/
def mset (M : MS) (f i : Nat) (z : Int) : MS := fun f' i' => if f' = f ∧ i' = i then z else M f' i'
theorem mset_s (M : MS) (f i : Nat) (z : Int) : mset M f i z f i = z := if_pos ⟨rfl, rfl⟩
theorem mset_n (M : MS) {f i f' i' : Nat} (z : Int) (h : ¬ (f' = f ∧ i' = i)) : mset M f i z f' i' = M f' i' := if_neg h
theorem mset_f (M : MS) {f i f' : Nat} (z : Int) (h : f' ≠ f) : mset M f i z f' = M f' := by
  funext i'
  exact if_neg (fun e => h e.1)
theorem mset_u (M : MS) (f i : Nat) (z : Int) : mset M f i z f = uI (M f) i z := by
  funext i'
  by_cases h : i' = i
  · subst h
    rw [mset_s]
    exact uI_s.symm
  · rw [mset_n _ _ (fun e => h e.2), uI_n h]
/-- what the reference's methods may change -/
def mW (am : Nat → Nat) : Nat → Prop := fun q => ∃ k, mv k ∧ q = am k
def mSc (k : Nat) : Bool := k == 0 || k == 1 || k == 2 || k == 3 || k == 14 || k == 15 || k == 16 || k == 17
section MPp
variable {E : EP} {am : Nat → Nat} {M : MS} {H H1 : Heap}
theorem MP.A0 (h : MP E am M H) {k : Nat} (hv : mv k) : mW am (am k) ∧ eN E ≤ am k := ⟨⟨k, hv, rfl⟩, h.2.2 k hv⟩
theorem MP.N (h : MP E am M H) : ∀ q, mW am q → eN E ≤ q := fun q ⟨k, hv, e⟩ => by rw [e]; exact h.2.2 k hv
theorem MP.ne (h : MP E am M H) {k k' : Nat} (hv : mv k) (hv' : mv k') (hn : k ≠ k') : am k ≠ am k' := fun e => hn (h.2.1 k k' hv hv' e)
theorem mF_set (am : Nat → Nat) (M : MS) (k : Nat) (hk : mSc k = true) (z : Int) : (mF am M).set k (.int (iI z)) = mF am (mset M k 0 z) := by
  simp only [mSc, Bool.or_eq_true, beq_iff_eq] at hk
  rcases hk with ((((((hk | hk) | hk) | hk) | hk) | hk) | hk) | hk <;> subst hk <;> rfl
theorem mSc_A {k : Nat} (h1 : mSc k = true) (h2 : mA k = true) : False := by
  simp only [mSc, Bool.or_eq_true, beq_iff_eq] at h1
  rcases h1 with ((((((hk | hk) | hk) | hk) | hk) | hk) | hk) | hk <;> subst hk <;> exact absurd h2 (by decide)
theorem MP.put (h : MP E am M H) (k : Nat) (hk : mSc k = true) {z : Int} (hc : ce E (am 0) (.inr (2, (mF am M).set k (.int (iI z)))) H1) (o : ∀ q : Nat, q ≠ am 0 → H1[q]? = H[q]?) : MP E am (mset M k 0 z) H1 := by
  refine ⟨fun k' hv => ?_, h.2⟩
  by_cases h0 : k' = 0
  · subst h0
    rw [mF_set am M k hk z] at hc
    exact hc
  · have hA : mA k' = true := by
      rcases hv with e | e
      · exact absurd e h0
      · exact e
    have hkk : k' ≠ k := fun e => mSc_A hk (by rw [← e]; exact hA)
    have h1 := (h.1 k' hv).kept (o _ (h.ne hv (Or.inl rfl) h0))
    unfold mcell at h1 ⊢
    rw [if_neg h0] at h1 ⊢
    rw [mset_f M z hkk]
    exact h1
theorem MP.ast (h : MP E am M H) (k : Nat) (hk : (mA k && !mB k) = true) {i : Nat} {z : Int} (hc : ce E (am k) (aI E (mlen k) (uI (M k) i z)) H1) (o : ∀ q : Nat, q ≠ am k → H1[q]? = H[q]?) : MP E am (mset M k i z) H1 := by
  have hk' := hk
  simp only [Bool.and_eq_true, Bool.not_eq_true'] at hk'
  have hsc : mSc k = false := by
    cases hh : mSc k with
    | false => rfl
    | true => exact (mSc_A hh hk'.1).elim
  refine ⟨fun k' hv => ?_, h.2⟩
  by_cases h0 : k' = 0
  · subst h0
    have h1 := (h.1 0 hv).kept (o _ (h.ne hv (Or.inr hk'.1) (fun e => by rw [← e] at hk'; exact absurd hk'.1 (by decide))))
    have e : mF am (mset M k i z) = mF am M := by
      have hz : ∀ f, mSc f = true → mset M k i z f 0 = M f 0 := fun f hf => mset_n _ _ (fun e => by rw [e.1, hsc] at hf; cases hf)
      simp only [mF, hz 0 rfl, hz 1 rfl, hz 2 rfl, hz 3 rfl, hz 14 rfl, hz 15 rfl, hz 16 rfl, hz 17 rfl]
    show ce E (am 0) (.inr (2, mF am (mset M k i z))) H1
    rw [e]
    exact h1
  · by_cases hkk : k' = k
    · subst hkk
      unfold mcell
      rw [if_neg h0, if_neg (by rw [hk'.2]; decide), mset_u]
      exact hc
    · have h1 := (h.1 k' hv).kept (o _ (h.ne hv (Or.inr hk'.1) hkk))
      unfold mcell at h1 ⊢
      rw [if_neg h0] at h1 ⊢
      rw [mset_f M z hkk]
      exact h1
theorem MP.astZ (h : MP E am M H) (k : Nat) (hk : (mA k && mB k) = true) {i : Nat} {z : Int} (hc : ce E (am k) (aB E (mlen k) (uI (M k) i z)) H1) (o : ∀ q : Nat, q ≠ am k → H1[q]? = H[q]?) : MP E am (mset M k i z) H1 := by
  have hk' := hk
  simp only [Bool.and_eq_true] at hk'
  have hsc : mSc k = false := by
    cases hh : mSc k with
    | false => rfl
    | true => exact (mSc_A hh hk'.1).elim
  refine ⟨fun k' hv => ?_, h.2⟩
  by_cases h0 : k' = 0
  · subst h0
    have h1 := (h.1 0 hv).kept (o _ (h.ne hv (Or.inr hk'.1) (fun e => by rw [← e] at hk'; exact absurd hk'.1 (by decide))))
    have e : mF am (mset M k i z) = mF am M := by
      have hz : ∀ f, mSc f = true → mset M k i z f 0 = M f 0 := fun f hf => mset_n _ _ (fun e => by rw [e.1, hsc] at hf; cases hf)
      simp only [mF, hz 0 rfl, hz 1 rfl, hz 2 rfl, hz 3 rfl, hz 14 rfl, hz 15 rfl, hz 16 rfl, hz 17 rfl]
    show ce E (am 0) (.inr (2, mF am (mset M k i z))) H1
    rw [e]
    exact h1
  · by_cases hkk : k' = k
    · subst hkk
      unfold mcell
      rw [if_neg h0, if_pos hk'.2, mset_u]
      exact hc
    · have h1 := (h.1 k' hv).kept (o _ (h.ne hv (Or.inr hk'.1) hkk))
      unfold mcell at h1 ⊢
      rw [if_neg h0] at h1 ⊢
      rw [mset_f M z hkk]
      exact h1
end MPp
/-- the fields that MR speaks of -/
def mCfg (f : Nat) : Bool := f == 1 || f == 2 || f == 3 || f == 14 || f == 4 || f == 5 || f == 6 || f == 7 || f == 8 || f == 9 || f == 10
theorem MR.of {S : GS} {M M1 : MS} (h : MR S M) (e : ∀ f i, mCfg f = true → M1 f i = M f i) : MR S M1 := by
  refine ⟨(e 1 0 rfl).trans h.1, (e 2 0 rfl).trans h.2.1, (e 3 0 rfl).trans h.2.2.1, (e 14 0 rfl).trans h.2.2.2.1, fun j hj => ?_, fun j hj => ?_⟩
  · have h1 := h.2.2.2.2.1 j hj
    exact ⟨(e 6 j rfl).trans h1.1, fun k hk => (e 4 _ rfl).trans (h1.2.1 k hk), fun k hk => (e 5 _ rfl).trans (h1.2.2.1 k hk), fun k hk => (e 7 _ rfl).trans (h1.2.2.2.1 k hk), (e 8 j rfl).trans h1.2.2.2.2⟩
  · have h1 := h.2.2.2.2.2 j hj
    exact ⟨(e 9 j rfl).trans h1.1, (e 10 j rfl).trans h1.2⟩
theorem MR.ign {S : GS} {M : MS} (h : MR S M) {f i : Nat} {z : Int} (hf : mCfg f = false) : MR S (mset M f i z) :=
  h.of fun f' i' hf' => mset_n _ _ (fun e => by rw [e.1, hf] at hf'; cases hf')
theorem mI.of {M M1 : MS} (h : mI M) (e : ∀ f i, (f = 22 ∨ f = 23 ∨ f = 24 ∨ f = 25 ∨ f = 26) → M1 f i = M f i) : mI M1 := by
  intro j hj
  rw [e 22 j (by omega), e 23 j (by omega), e 24 j (by omega), e 25 j (by omega), e 26 j (by omega)]
  exact h j hj
/-- a plan laid: what of the reference may be another then -/
def mPj (j f i : Nat) : Prop := ((f = 11 ∨ f = 12) ∧ 4 * j ≤ i ∧ i < 4 * j + 4) ∨ (f = 13 ∧ i = j)
def mPa (f : Nat) : Prop := f = 0 ∨ f = 11 ∨ f = 12 ∨ f = 13
def mE (P : Nat → Nat → Prop) (M M1 : MS) : Prop := ∀ f i, ¬ P f i → M1 f i = M f i
/-- the scratch fields alone may differ -/
def mQ (M M1 : MS) : Prop := ∀ f i, f ≠ 0 → f ≠ 11 → f ≠ 12 → f ≠ 13 → M1 f i = M f i
theorem mQ.rf (M : MS) : mQ M M := fun _ _ _ _ _ _ => rfl
theorem mQ.trans {M M1 M2 : MS} (h : mQ M M1) (h2 : mQ M1 M2) : mQ M M2 := fun f i a b c d => (h2 f i a b c d).trans (h f i a b c d)
theorem mE.Q {j : Nat} {M M1 : MS} (h : mE (mPj j) M M1) : mQ M M1 := fun f i a b c d => h f i (fun e => by
  rcases e with ⟨e | e, -⟩ | ⟨e, -⟩ <;> omega)
theorem mset_Q (M : MS) {f i : Nat} {z : Int} (hf : f = 0 ∨ f = 11 ∨ f = 12 ∨ f = 13) : mQ M (mset M f i z) := fun f' i' a b c d => mset_n _ _ (fun e => by omega)
theorem MR.Q {S : GS} {M M1 : MS} (h : MR S M) (q : mQ M M1) : MR S M1 := h.of fun f i hf => q f i (fun e => by rw [e] at hf; cases hf) (fun e => by rw [e] at hf; cases hf) (fun e => by rw [e] at hf; cases hf) (fun e => by rw [e] at hf; cases hf)
theorem mI.Q {M M1 : MS} (h : mI M) (q : mQ M M1) : mI M1 := h.of fun f i hf => q f i (by omega) (by omega) (by omega) (by omega)
theorem mPl.E {S : GS} {M M1 : MS} {j k : Nat} (h : mPl S M j) (hp : gNp S j ≤ 4) (e : mE (mPj k) M M1) (hn : j ≠ k) : mPl S M1 j := by
  intro p hp'
  rw [e 11 _ (by unfold mPj; omega), e 12 _ (by unfold mPj; omega)]
  exact h p hp'
/-- how the reference's plan of junction j begins: clearings; greens before the rest is dealt -/
def allPl (S : GS) : Bool := decide (∀ j, j < gN S → 0 ≤ lft S j)
/-- the plan's fields alone may differ -/
def mT (M M1 : MS) : Prop := ∀ f i, f ≠ 11 → f ≠ 12 → f ≠ 13 → M1 f i = M f i
theorem mT.rf (M : MS) : mT M M := fun _ _ _ _ _ => rfl
theorem mT.Q {M M1 : MS} (h : mT M M1) : mQ M M1 := fun f i _ b c d => h f i b c d
theorem mT.trans {M M1 M2 : MS} (h : mT M M1) (h2 : mT M1 M2) : mT M M2 := fun f i b c d => (h2 f i b c d).trans (h f i b c d)
theorem mE.T {j : Nat} {M M1 : MS} (h : mE (mPj j) M M1) : mT M M1 := fun f i b c d => h f i (fun e => by
  rcases e with ⟨e | e, -⟩ | ⟨e, -⟩ <;> omega)
theorem mT.t {M M1 : MS} (h : mT M M1) : M1 0 0 = M 0 0 := h 0 0 (by omega) (by omega) (by omega)
