/-! the common state (S), and the corridor's picture in the heap.
S.1 f j k: ints; S.2 a j: lengths. f: 1 conflicts, 2 flows, 3 phases, 4 changed, 5 coming (of junction j, at k); 14.. the junction's fields (10 + its place); 31.. the corridor's (30 + its place) -/
abbrev GS : Type := (Nat → Nat → Nat → Int) × (Nat → Nat → Nat)
abbrev gCf (S : GS) (j : Nat) : Nat → Int := S.1 1 j
abbrev gFl (S : GS) (j : Nat) : Nat → Int := S.1 2 j
abbrev gPh (S : GS) (j : Nat) : Nat → Int := S.1 3 j
abbrev gCh (S : GS) (j : Nat) : Nat → Int := S.1 4 j
abbrev gCom (S : GS) (j : Nat) : Nat → Int := S.1 5 j
abbrev gOff (S : GS) (j : Nat) : Int := S.1 14 j 0
abbrev gLnk (S : GS) (j : Nat) : Int := S.1 15 j 0
abbrev gRoo (S : GS) (j : Nat) : Int := S.1 16 j 0
abbrev gChf (S : GS) (j : Nat) : Int := S.1 18 j 0
abbrev gQue (S : GS) (j : Nat) : Int := S.1 19 j 0
abbrev gArr (S : GS) (j : Nat) : Int := S.1 20 j 0
abbrev gRdy (S : GS) (j : Nat) : Int := S.1 21 j 0
abbrev gTrv (S : GS) (j : Nat) : Int := S.1 22 j 0
abbrev gCyc (S : GS) : Int := S.1 31 0 0
abbrev gNow (S : GS) : Int := S.1 32 0 0
abbrev gRun (S : GS) : Int := S.1 33 0 0
abbrev gCam (S : GS) : Int := S.1 34 0 0
abbrev gLef (S : GS) : Int := S.1 35 0 0
abbrev gN (S : GS) : Nat := S.2 0 0
abbrev gNp (S : GS) (j : Nat) : Nat := S.2 1 j
abbrev gChn (S : GS) (j : Nat) : Nat := S.2 2 j
/-- the fields of a junction, of the corridor -/
abbrev jF (ad : Nat → Nat → Nat) (S : GS) (j : Nat) : List Value := [.int (iI (gCyc S)), .ref (ad 1 j), .ref (ad 2 j), .ref (ad 3 j), .int (iI (gOff S j)), .int (iI (gLnk S j)), .int (iI (gRoo S j)), .ref (ad 4 j), .int (iI (gChf S j)), .int (iI (gQue S j)), .int (iI (gArr S j)), .int (iI (gRdy S j)), .int (iI (gTrv S j)), .ref (ad 5 j)]
abbrev xF (ad : Nat → Nat → Nat) (S : GS) : List Value := [.ref (ad 7 0), .int (iI (gCyc S)), .int (iI (gNow S)), .int (iI (gRun S)), .int (iI (gCam S)), .int (iI (gLef S))]
def gcell (E : EP) (ad : Nat → Nat → Nat) (S : GS) (k j : Nat) : va_E := match k with
  | 0 => .inr (1, jF ad S j)
  | 1 => aI E 16 (gCf S j)
  | 2 => aI E 4 (gFl S j)
  | 3 => aI E (gNp S j) (gPh S j)
  | 4 => aI E (gChn S j) (gCh S j)
  | 5 => aI E 61 (gCom S j)
  | 6 => .inr (0, xF ad S)
  | _ => aQ E 1 (gN S) (fun i => some (ad 0 i))
def gv (n k j : Nat) : Prop := (k < 6 ∧ j < n) ∨ (6 ≤ k ∧ k < 8 ∧ j = 0)
def GP (E : EP) (ad : Nat → Nat → Nat) (S : GS) (H : Heap) : Prop :=
  (∀ k j, gv (gN S) k j → ce E (ad k j) (gcell E ad S k j) H) ∧
  (∀ k j k' j', gv (gN S) k j → gv (gN S) k' j' → ad k j = ad k' j' → k = k' ∧ j = j') ∧ (∀ k j, gv (gN S) k j → eN E ≤ ad k j)
section GPs
variable {E : EP} {ad : Nat → Nat → Nat} {S : GS} {H H1 : Heap} {j : Nat}
theorem GP.J (h : GP E ad S H) (hj : j < gN S) : ce E (ad 0 j) (.inr (1, jF ad S j)) H := h.1 0 j (Or.inl ⟨by decide, hj⟩)
theorem GP.C (h : GP E ad S H) (hj : j < gN S) : ce E (ad 1 j) (aI E 16 (gCf S j)) H := h.1 1 j (Or.inl ⟨by decide, hj⟩)
theorem GP.F (h : GP E ad S H) (hj : j < gN S) : ce E (ad 2 j) (aI E 4 (gFl S j)) H := h.1 2 j (Or.inl ⟨by decide, hj⟩)
theorem GP.P (h : GP E ad S H) (hj : j < gN S) : ce E (ad 3 j) (aI E (gNp S j) (gPh S j)) H := h.1 3 j (Or.inl ⟨by decide, hj⟩)
theorem GP.G (h : GP E ad S H) (hj : j < gN S) : ce E (ad 4 j) (aI E (gChn S j) (gCh S j)) H := h.1 4 j (Or.inl ⟨by decide, hj⟩)
theorem GP.M (h : GP E ad S H) (hj : j < gN S) : ce E (ad 5 j) (aI E 61 (gCom S j)) H := h.1 5 j (Or.inl ⟨by decide, hj⟩)
theorem GP.X (h : GP E ad S H) : ce E (ad 6 0) (.inr (0, xF ad S)) H := h.1 6 0 (Or.inr ⟨by decide, by decide, rfl⟩)
theorem GP.Q (h : GP E ad S H) : ce E (ad 7 0) (aQ E 1 (gN S) (fun i => some (ad 0 i))) H := h.1 7 0 (Or.inr ⟨by decide, by decide, rfl⟩)
theorem GP.kept (h : GP E ad S H) (hq : ∀ k j, gv (gN S) k j → H1[ad k j]? = H[ad k j]?) : GP E ad S H1 := ⟨fun k j hv => (h.1 k j hv).kept (hq k j hv), h.2⟩
theorem GP.lt (h : GP E ad S H) {k : Nat} (hv : gv (gN S) k j) : ad k j < H.size := (h.1 k j hv).lt
theorem GP.new (h : GP E ad S H) (o : ∀ q : Nat, q < H.size → H1[q]? = H[q]?) : GP E ad S H1 := h.kept fun _ _ hv => o _ (h.lt hv)
end GPs
/-! what the plan of a junction says -/
def hasB (s m : Int) : Bool := decide (iI s >>> (iI m &&& 31) &&& iI 1 = iI 1)
def clrK (s t : Int) (cf : Nat → Int) : Nat → Int
  | 0 => 0
  | k + 1 => if hasB s ((k : Int) / 4) = true ∧ hasB t ((k : Int) % 4) = true then max (clrK s t cf k) (cf k) else clrK s t cf k
def clr (S : GS) (j p : Nat) : Int := clrK (gPh S j p) (gPh S j ((p + 1) % gNp S j)) (gCf S j) 16
def lst (S : GS) (j p : Nat) : Int := if hasB (gPh S j p) 3 = true then 8 else 5
def lftK (S : GS) (j : Nat) : Nat → Int
  | 0 => gCyc S
  | k + 1 => lftK S j k - (lst S j k + clr S j k)
def lft (S : GS) (j : Nat) : Int := lftK S j (gNp S j)
def wgtK (s : Int) (fl : Nat → Int) : Nat → Int
  | 0 => 0
  | k + 1 => if hasB s (k : Int) = true then max (wgtK s fl k) (fl k) else wgtK s fl k
def wgt (S : GS) (j p : Nat) : Int := wgtK (gPh S j p) (gFl S j) 4
def allK (S : GS) (j : Nat) : Nat → Int
  | 0 => 0
  | k + 1 => allK S j k + wgt S j k
def alw (S : GS) (j : Nat) : Int := allK S j (gNp S j)
def mor (S : GS) (j p : Nat) : Int := if alw S j = 0 then (lft S j).tdiv (gNp S j) else (lft S j * wgt S j p).tdiv (alw S j)
def rstK (S : GS) (j : Nat) : Nat → Int
  | 0 => lft S j
  | k + 1 => rstK S j k - mor S j k
def rst (S : GS) (j : Nat) : Int := rstK S j (gNp S j)
def grn (S : GS) (j p : Nat) : Int := lst S j p + mor S j p + (if (p : Int) < rst S j then 1 else 0)
/-- the phase that is green r seconds behind the begin of phase k (n phases from k on); -1 in a clearing -/
def phA (g c : Nat → Int) : Nat → Nat → Int → Int
  | 0, _, _ => -1
  | n + 1, k, r => if r < g k then (if r < 0 then -1 else (k : Int)) else phA g c n (k + 1) (r - (g k + c k))
/-- what holds of every junction -/
def jI (S : GS) (j : Nat) : Prop := (1 ≤ gNp S j ∧ gNp S j ≤ 4) ∧ (∀ k, k < 16 → -1 ≤ gCf S j k ∧ gCf S j k ≤ 9) ∧ (∀ k, k < 4 → gCf S j (5 * k) = -1) ∧ (∀ k, k < 4 → 0 ≤ gFl S j k ∧ gFl S j k ≤ 1800) ∧
  (0 ≤ gOff S j ∧ gOff S j < gCyc S) ∧ (1 ≤ gLnk S j ∧ gLnk S j ≤ 60) ∧ (1 ≤ gRoo S j ∧ gRoo S j ≤ 40) ∧
  (gChn S j = 0 ∨ gChn S j = gNp S j) ∧ (-90 ≤ gChf S j ∧ gChf S j ≤ 7200) ∧ (gChn S j ≠ 0 → ∀ k, k < gNp S j → 0 ≤ gCh S j k ∧ gCh S j k ≤ 1000)
def gI (S : GS) : Prop := ((2 ≤ gN S ∧ gN S ≤ 5) ∧ (0 ≤ gRun S ∧ gRun S ≤ 1) ∧ 0 ≤ gNow S ∧ gNow S ≤ 7200) ∧ (30 ≤ gCyc S ∧ gCyc S ≤ 90) ∧ ∀ j, j < gN S → jI S j
theorem clrK_b {s t : Int} {cf : Nat → Int} (h : ∀ k, k < 16 → -1 ≤ cf k ∧ cf k ≤ 9) : ∀ k, k ≤ 16 → 0 ≤ clrK s t cf k ∧ clrK s t cf k ≤ 9 := by
  intro k
  induction k with
  | zero => intro _; simp [clrK]
  | succ k ih =>
    intro hk
    have h1 := ih (by omega)
    have h2 := h k (by omega)
    simp only [clrK]
    split <;> omega
theorem clr_b {S : GS} {j : Nat} (h : jI S j) (p : Nat) : 0 ≤ clr S j p ∧ clr S j p ≤ 9 := clrK_b h.2.1 16 (by decide)
theorem lst_b (S : GS) (j p : Nat) : 5 ≤ lst S j p ∧ lst S j p ≤ 8 := by unfold lst; split <;> omega
theorem wgtK_b {s : Int} {fl : Nat → Int} (h : ∀ k, k < 4 → 0 ≤ fl k ∧ fl k ≤ 1800) : ∀ k, k ≤ 4 → 0 ≤ wgtK s fl k ∧ wgtK s fl k ≤ 1800 := by
  intro k
  induction k with
  | zero => intro _; simp [wgtK]
  | succ k ih =>
    intro hk
    have h1 := ih (by omega)
    have h2 := h k (by omega)
    simp only [wgtK]
    split <;> omega
theorem wgt_b {S : GS} {j : Nat} (h : jI S j) (p : Nat) : 0 ≤ wgt S j p ∧ wgt S j p ≤ 1800 := wgtK_b h.2.2.2.1 4 (by decide)
theorem lftK_b {S : GS} {j : Nat} (h : jI S j) (k : Nat) : gCyc S - 17 * k ≤ lftK S j k ∧ lftK S j k ≤ gCyc S - 5 * k := by
  induction k with
  | zero => simp [lftK]
  | succ k ih =>
    have h1 := clr_b h k
    have h2 := lst_b S j k
    simp only [lftK]
    omega
theorem allK_b {S : GS} {j : Nat} (h : jI S j) (k : Nat) : 0 ≤ allK S j k ∧ allK S j k ≤ 1800 * k := by
  induction k with
  | zero => simp [allK]
  | succ k ih =>
    have h1 := wgt_b h k
    simp only [allK]
    omega
theorem lft_b {S : GS} {j : Nat} (hI : gI S) (hj : j < gN S) : -38 ≤ lft S j ∧ lft S j ≤ 85 := by
  have h := hI.2.2 j hj
  have h1 := lftK_b h (gNp S j)
  have h2 := h.1
  have h3 := hI.2.1
  unfold lft
  omega
theorem alw_b {S : GS} {j : Nat} (hI : gI S) (hj : j < gN S) : 0 ≤ alw S j ∧ alw S j ≤ 7200 := by
  have h := hI.2.2 j hj
  have h1 := allK_b h (gNp S j)
  have h2 := h.1
  unfold alw
  omega
/-- a set holds no two movements that conflict -/
def pcfK (s : Int) (cf : Nat → Int) : Nat → Bool
  | 0 => true
  | k + 1 => pcfK s cf k && !(decide (¬ (k : Int) / 4 = (k : Int) % 4) && hasB s ((k : Int) / 4) && hasB s ((k : Int) % 4) && decide (¬ cf k = -1))
/-- where phase k begins -/
def begK (g c : Nat → Int) : Nat → Int
  | 0 => 0
  | k + 1 => begK g c k + (g k + c k)
theorem phA_neg {g c : Nat → Int} : ∀ (n k : Nat) (r : Int), r < 0 → (∀ i, k ≤ i → i < k + n → 0 ≤ g i) → phA g c n k r = -1 := by
  intro n
  cases n with
  | zero => intro k r _ _; rfl
  | succ n =>
    intro k r h hg
    have := hg k (by omega) (by omega)
    simp only [phA]
    rw [if_pos (by omega), if_pos h]
theorem phA_rng (g c : Nat → Int) : ∀ (n k : Nat) (r : Int), phA g c n k r = -1 ∨ ((k : Int) ≤ phA g c n k r ∧ phA g c n k r < k + n) := by
  intro n
  induction n with
  | zero => intro k r; exact Or.inl rfl
  | succ n ih =>
    intro k r
    simp only [phA]
    split
    · split
      · exact Or.inl rfl
      · right; omega
    · rcases ih (k + 1) (r - (g k + c k)) with h | h
      · exact Or.inl h
      · right; omega
theorem phA_step {g c : Nat → Int} {n k : Nat} {r : Int} (h : k < n) (h2 : ¬ r < g k) : phA g c (n - k) k r = phA g c (n - (k + 1)) (k + 1) (r - (g k + c k)) := by
  rw [show n - k = (n - (k + 1)) + 1 by omega]
  simp only [phA]
  rw [if_neg h2]
theorem phA_hit {g c : Nat → Int} {n k : Nat} {r : Int} (h : k < n) (h2 : r < g k) (h3 : 0 ≤ r) : phA g c (n - k) k r = k := by
  rw [show n - k = (n - (k + 1)) + 1 by omega]
  simp only [phA]
  rw [if_pos h2, if_neg (by omega)]
