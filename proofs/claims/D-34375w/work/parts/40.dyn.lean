/-! a second of the road, on the common state -/
def slt (S : GS) : Nat := (gNow S).toNat % 61
def sl2 (S : GS) (j : Nat) : Nat := (gNow S + gLnk S j).toNat % 61
def sJ (S : GS) (j : Nat) : GS :=
  if 0 < j then gset (gset (gset S 19 j 0 (gQue S j + gCom S j (slt S))) 22 (j - 1) 0 (gTrv S (j - 1) - gCom S j (slt S))) 5 j (slt S) 0
  else gset (gset S 19 j 0 (gQue S j + gCom S j (slt S))) 5 j (slt S) 0
def sA (S : GS) : GS :=
  if 3600 ≤ gArr S 0 + gFl S 0 0 then gset (gset (gset S 20 0 0 (gArr S 0 + gFl S 0 0 - 3600)) 19 0 0 (gQue S 0 + 1)) 34 0 0 (gCam S + 1)
  else gset S 20 0 0 (gArr S 0 + gFl S 0 0)
def sR (S : GS) (j : Nat) (b : Bool) : GS := gset S 21 j 0 (if b = true then min 2 (gRdy S j + 1) else 0)
def sGo (S : GS) (j : Nat) : Bool := decide (gRdy S j = 2 ∧ 0 < gQue S j ∧ (j + 1 = gN S ∨ gTrv S j + gQue S (j + 1) < gRoo S j))
def sL (S : GS) (j : Nat) : GS :=
  if sGo S j = true then
    if j + 1 = gN S then gset (gset (gset S 19 j 0 (gQue S j - 1)) 21 j 0 0) 35 0 0 (gLef S + 1)
    else gset (gset (gset (gset S 19 j 0 (gQue S j - 1)) 21 j 0 0) 22 j 0 (gTrv S j + 1)) 5 (j + 1) (sl2 S j) (gCom S (j + 1) (sl2 S j) + 1)
  else S
/-- the road's fields alone may differ -/
def dyF (f : Nat) : Bool := f == 5 || f == 19 || f == 20 || f == 21 || f == 22 || f == 32 || f == 34 || f == 35
def dyE (S S1 : GS) : Prop := S1.2 = S.2 ∧ ∀ f, dyF f = false → S1.1 f = S.1 f
theorem dyE.rf (S : GS) : dyE S S := ⟨rfl, fun _ _ => rfl⟩
theorem dyE.trans {S S1 S2 : GS} (h : dyE S S1) (h2 : dyE S1 S2) : dyE S S2 := ⟨h2.1.trans h.1, fun f hf => (h2.2 f hf).trans (h.2 f hf)⟩
theorem dyE.set {S S1 : GS} (h : dyE S S1) {f j k : Nat} {z : Int} (hf : dyF f = true) : dyE S (gset S1 f j k z) :=
  ⟨h.1, fun f' hf' => (gset_f S1 j k z (fun e => by rw [e, hf] at hf'; cases hf')).trans (h.2 f' hf')⟩
theorem sJ_dy (S : GS) (j : Nat) : dyE S (sJ S j) := by
  unfold sJ
  split
  · exact (((dyE.rf S).set rfl).set rfl).set rfl
  · exact ((dyE.rf S).set rfl).set rfl
theorem sA_dy (S : GS) : dyE S (sA S) := by
  unfold sA
  split
  · exact (((dyE.rf S).set rfl).set rfl).set rfl
  · exact (dyE.rf S).set rfl
theorem sR_dy (S : GS) (j : Nat) (b : Bool) : dyE S (sR S j b) := (dyE.rf S).set rfl
theorem sL_dy (S : GS) (j : Nat) : dyE S (sL S j) := by
  unfold sL
  split
  · split
    · exact (((dyE.rf S).set rfl).set rfl).set rfl
    · exact ((((dyE.rf S).set rfl).set rfl).set rfl).set rfl
  · exact dyE.rf S
section DY
variable {S S1 : GS} {M M1 : MS}
theorem dyE.n (h : dyE S S1) : gN S1 = gN S := by show S1.2 0 0 = S.2 0 0; rw [h.1]
theorem dyE.np (h : dyE S S1) (j : Nat) : gNp S1 j = gNp S j := by show S1.2 1 j = S.2 1 j; rw [h.1]
theorem dyE.cyc (h : dyE S S1) : gCyc S1 = gCyc S := by show S1.1 31 0 0 = S.1 31 0 0; rw [h.2 31 rfl]
theorem dyE.run (h : dyE S S1) : gRun S1 = gRun S := by show S1.1 33 0 0 = S.1 33 0 0; rw [h.2 33 rfl]
theorem dyE.off (h : dyE S S1) (j : Nat) : gOff S1 j = gOff S j := by show S1.1 14 j 0 = S.1 14 j 0; rw [h.2 14 rfl]
theorem dyE.lnk (h : dyE S S1) (j : Nat) : gLnk S1 j = gLnk S j := by show S1.1 15 j 0 = S.1 15 j 0; rw [h.2 15 rfl]
theorem dyE.roo (h : dyE S S1) (j : Nat) : gRoo S1 j = gRoo S j := by show S1.1 16 j 0 = S.1 16 j 0; rw [h.2 16 rfl]
theorem dyE.gI (h : dyE S S1) (hI : gI S) (hn : 0 ≤ gNow S1 ∧ gNow S1 ≤ 7200) : gI S1 := by
  have e := h.2
  refine ⟨⟨by rw [h.n]; exact hI.1.1, by rw [h.run]; exact hI.1.2.1, hn⟩, by rw [h.cyc]; exact hI.2.1, fun j hj => ?_⟩
  rw [h.n] at hj
  have h1 := hI.2.2 j hj
  unfold jI at h1 ⊢
  rw [h.np j, h.cyc]
  have e2 : gChn S1 j = gChn S j := by show S1.2 2 j = S.2 2 j; rw [h.1]
  rw [e2]
  simp only [gCf, gFl, gOff, gLnk, gRoo, gChf, gCh, e 1 rfl, e 2 rfl, e 14 rfl, e 15 rfl, e 16 rfl, e 18 rfl, e 4 rfl] at h1 ⊢
  exact h1
theorem dy_clr (h : dyE S S1) (j p : Nat) : clr S1 j p = clr S j p := by
  unfold clr
  show clrK (S1.1 3 j p) (S1.1 3 j ((p + 1) % S1.2 1 j)) (S1.1 1 j) 16 = clrK (S.1 3 j p) (S.1 3 j ((p + 1) % S.2 1 j)) (S.1 1 j) 16
  rw [h.1, h.2 3 rfl, h.2 1 rfl]
theorem dy_lst (h : dyE S S1) (j p : Nat) : lst S1 j p = lst S j p := by
  unfold lst
  show (if hasB (S1.1 3 j p) 3 = true then 8 else 5) = (if hasB (S.1 3 j p) 3 = true then 8 else 5)
  rw [h.2 3 rfl]
theorem dy_wgt (h : dyE S S1) (j p : Nat) : wgt S1 j p = wgt S j p := by
  unfold wgt
  show wgtK (S1.1 3 j p) (S1.1 2 j) 4 = wgtK (S.1 3 j p) (S.1 2 j) 4
  rw [h.2 3 rfl, h.2 2 rfl]
theorem dy_lftK (h : dyE S S1) (j : Nat) : ∀ k, lftK S1 j k = lftK S j k := by
  intro k
  induction k with
  | zero => exact h.cyc
  | succ k ih => simp only [lftK, ih, dy_lst h, dy_clr h]
theorem dy_lft (h : dyE S S1) (j : Nat) : lft S1 j = lft S j := by
  unfold lft
  rw [h.np, dy_lftK h]
theorem dy_allK (h : dyE S S1) (j : Nat) : ∀ k, allK S1 j k = allK S j k := by
  intro k
  induction k with
  | zero => rfl
  | succ k ih => simp only [allK, ih, dy_wgt h]
theorem dy_mor (h : dyE S S1) (j p : Nat) : mor S1 j p = mor S j p := by
  unfold mor alw
  rw [h.np, dy_allK h, dy_lft h, dy_wgt h]
theorem dy_rstK (h : dyE S S1) (j : Nat) : ∀ k, rstK S1 j k = rstK S j k := by
  intro k
  induction k with
  | zero => exact dy_lft h j
  | succ k ih => simp only [rstK, ih, dy_mor h]
theorem dy_grn (h : dyE S S1) (j p : Nat) : grn S1 j p = grn S j p := by
  unfold grn rst
  rw [dy_lst h, dy_mor h, h.np, dy_rstK h]
theorem dyE.pl {j : Nat} (h : dyE S S1) (hp : mPl S M j) : mPl S1 M j := by
  intro p hp'
  rw [h.np] at hp'
  rw [dy_grn h, dy_clr h]
  exact hp p hp'
theorem dyE.MR (h : dyE S S1) (hR : MR S M) (hn : gNow S1 = gNow S) : MR S1 M := by
  have e := h.2
  obtain ⟨h1, h2, h3, h4, h5, h6⟩ := hR
  refine ⟨by rw [h.n]; exact h1, by rw [h.cyc]; exact h2, by rw [h.run]; exact h3, by rw [hn]; exact h4, fun j hj => ?_, fun j hj => ?_⟩
  · rw [h.n] at hj
    have h7 := h5 j hj
    rw [h.np]
    simp only [gCf, gPh, gFl, gOff, e 1 rfl, e 3 rfl, e 2 rfl, e 14 rfl] at h7 ⊢
    exact h7
  · rw [h.n] at hj
    have h7 := h6 j hj
    rw [h.lnk, h.roo]
    exact h7
/-! counts -/
def cntE (e : Nat → Int) (t : Int) : Nat → Int
  | 0 => 0
  | k + 1 => cntE e t k + (if e k = t then 1 else 0)
theorem cntE_c {e e1 : Nat → Int} {t : Int} : ∀ n, (∀ k, k < n → e1 k = e k) → cntE e1 t n = cntE e t n := by
  intro n
  induction n with
  | zero => intro _; rfl
  | succ n ih =>
    intro h
    simp only [cntE]
    rw [ih (fun k hk => h k (by omega)), h n (by omega)]
theorem cntE_0 {e : Nat → Int} {t : Int} : ∀ n, (∀ k, k < n → ¬ e k = t) → cntE e t n = 0 := by
  intro n
  induction n with
  | zero => intro _; rfl
  | succ n ih =>
    intro h
    simp only [cntE]
    rw [ih (fun k hk => h k (by omega)), if_neg (h n (by omega))]
    rfl
theorem cntE_n {e : Nat → Int} {t : Int} : ∀ n, (∀ k, k < n → e k = t) → cntE e t n = (n : Int) := by
  intro n
  induction n with
  | zero => intro _; rfl
  | succ n ih =>
    intro h
    simp only [cntE]
    rw [ih (fun k hk => h k (by omega)), if_pos (h n (by omega))]
    omega
theorem cntE_s {e : Nat → Int} {t : Int} (r : Nat) : ∀ n, cntE e t (r + n) = cntE e t r + cntE (fun k => e (k + r)) t n := by
  intro n
  induction n with
  | zero => simp [cntE]
  | succ n ih =>
    show cntE e t (r + n) + (if e (r + n) = t then 1 else 0) = cntE e t r + (cntE (fun k => e (k + r)) t n + (if e (n + r) = t then 1 else 0))
    rw [ih, Nat.add_comm r n]
    omega
theorem srt {e : Nat → Int} {n : Nat} (h : ∀ k, k + 1 < n → e k ≤ e (k + 1)) (r : Nat) : ∀ d, r + d < n → e r ≤ e (r + d) := by
  intro d
  induction d with
  | zero => intro _; exact Int.le_refl _
  | succ d ih => intro hd; exact Int.le_trans (ih (by omega)) (h (r + d) (by omega))
end DY
