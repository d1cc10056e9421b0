/-! the calls of buses: the reference's picture against the common state; the whole relation -/
def mcJ (S : GS) (M : MS) (j : Nat) : Prop := (gChn S j = 0 → M 22 j = 0) ∧ (¬ gChn S j = 0 → M 22 j = 1 ∧ gChn S j = gNp S j ∧ gChf S j = gOff S j + gCyc S * M 23 j ∧ ∀ p, p < gNp S j → gCh S j p = mAdj (grn S j) M j true p)
def MC (S : GS) (M : MS) : Prop := ∀ j, j < gN S → mcJ S M j
theorem phA_c {g g1 c : Nat → Int} : ∀ (n k : Nat) (r : Int), (∀ i, k ≤ i → i < k + n → g1 i = g i) → phA g1 c n k r = phA g c n k r := by
  intro n
  induction n with
  | zero => intro k r _; rfl
  | succ n ih =>
    intro k r h
    simp only [phA]
    rw [h k (by omega) (by omega), ih (k + 1) _ (fun i h1 h2 => h i (by omega) (by omega))]
/-- what a junction's plan is made of -/
def plE (S S1 : GS) (j : Nat) : Prop := gNp S1 j = gNp S j ∧ S1.1 1 j = S.1 1 j ∧ S1.1 2 j = S.1 2 j ∧ S1.1 3 j = S.1 3 j ∧ gCyc S1 = gCyc S
section PLs
variable {S S1 : GS} {j : Nat}
theorem pl_clr (h : plE S S1 j) (p : Nat) : clr S1 j p = clr S j p := by
  unfold clr
  show clrK (S1.1 3 j p) (S1.1 3 j ((p + 1) % gNp S1 j)) (S1.1 1 j) 16 = clrK (S.1 3 j p) (S.1 3 j ((p + 1) % gNp S j)) (S.1 1 j) 16
  rw [h.1, h.2.1, h.2.2.2.1]
theorem pl_lst (h : plE S S1 j) (p : Nat) : lst S1 j p = lst S j p := by
  unfold lst
  show (if hasB (S1.1 3 j p) 3 = true then 8 else 5) = (if hasB (S.1 3 j p) 3 = true then 8 else 5)
  rw [h.2.2.2.1]
theorem pl_wgt (h : plE S S1 j) (p : Nat) : wgt S1 j p = wgt S j p := by
  unfold wgt
  show wgtK (S1.1 3 j p) (S1.1 2 j) 4 = wgtK (S.1 3 j p) (S.1 2 j) 4
  rw [h.2.2.2.1, h.2.2.1]
theorem pl_lftK (h : plE S S1 j) : ∀ k, lftK S1 j k = lftK S j k := by
  intro k
  induction k with
  | zero => exact h.2.2.2.2
  | succ k ih => simp only [lftK, ih, pl_lst h, pl_clr h]
theorem pl_lft (h : plE S S1 j) : lft S1 j = lft S j := by
  unfold lft
  rw [h.1, pl_lftK h]
theorem pl_allK (h : plE S S1 j) : ∀ k, allK S1 j k = allK S j k := by
  intro k
  induction k with
  | zero => rfl
  | succ k ih => simp only [allK, ih, pl_wgt h]
theorem pl_mor (h : plE S S1 j) (p : Nat) : mor S1 j p = mor S j p := by
  unfold mor alw
  rw [h.1, pl_allK h, pl_lft h, pl_wgt h]
theorem pl_rstK (h : plE S S1 j) : ∀ k, rstK S1 j k = rstK S j k := by
  intro k
  induction k with
  | zero => exact pl_lft h
  | succ k ih => simp only [rstK, ih, pl_mor h]
theorem pl_grn (h : plE S S1 j) (p : Nat) : grn S1 j p = grn S j p := by
  unfold grn rst
  rw [pl_lst h, pl_mor h, h.1, pl_rstK h]
theorem plE.rf (S : GS) (j : Nat) : plE S S j := ⟨rfl, rfl, rfl, rfl, rfl⟩
theorem plE.pl {M : MS} (h : plE S S1 j) (hp : mPl S M j) : mPl S1 M j := by
  intro p hp'
  rw [h.1] at hp'
  rw [pl_grn h, pl_clr h]
  exact hp p hp'
theorem plE_run (S : GS) (z : Int) (j : Nat) : plE S (gset S 33 0 0 z) j := ⟨rfl, rfl, rfl, rfl, rfl⟩
end PLs
section MCs
variable {S S1 S0 : GS} {M M1 : MS}
theorem mcJ.cg {j : Nat} (hI : gI S) (h : mcJ S M j) (hp : 0 < gNp S j) (t : Int) : chg S j t = mcal S M j t true := by
  have hc := hI.2.1
  unfold chg mcal
  by_cases h0 : gChn S j = 0
  · rw [h.1 h0, h0]
    simp
  · obtain ⟨h1, h2, h3, -⟩ := h.2 h0
    have e : t - (t - gOff S j) % gCyc S = gOff S j + gCyc S * ((t - gOff S j) / gCyc S) := by
      have := Int.emod_def (t - gOff S j) (gCyc S)
      omega
    rw [h1, h3, e]
    have e2 : (gOff S j + gCyc S * M 23 j = gOff S j + gCyc S * ((t - gOff S j) / gCyc S)) ↔ M 23 j = (t - gOff S j) / gCyc S := by
      constructor
      · intro h9
        exact Int.eq_of_mul_eq_mul_left (show gCyc S ≠ 0 by omega) (show gCyc S * M 23 j = gCyc S * ((t - gOff S j) / gCyc S) by omega)
      · intro h9; rw [h9]
    have e3 : 0 < gChn S j := by omega
    simp [e2, e3]
theorem mcJ.ph {j : Nat} (hI : gI S) (h : mcJ S M j) (hp : 0 < gNp S j) (t : Int) : phN S j (grn S j) t = mPh S (grn S j) (clr S j) M j t true := by
  unfold phN mPh
  rw [← h.cg hI hp t]
  by_cases hc : chg S j t = true
  · rw [if_pos hc, hc]
    have h0 : ¬ gChn S j = 0 := by
      intro h0
      unfold chg at hc
      have := of_decide_eq_true hc
      omega
    exact phA_c _ _ _ (fun i _ hi => (h.2 h0).2.2.2 i (by omega))
  · rw [if_neg hc, Bool.eq_false_iff.mpr hc, mAdj_f]
theorem mcJ.gn {j : Nat} (hI : gI S) (h : mcJ S M j) (hp : 0 < gNp S j) (v t : Int) : rgn S j (grn S j) v t = mGn S (grn S j) (clr S j) M j v t true := by
  unfold rgn mGn
  rw [h.ph hI hp t]
theorem mAdj_e {g : Nat → Int} {j : Nat} (e : ∀ f, 22 ≤ f → f ≤ 26 → M1 f j = M f j) (b : Bool) : mAdj g M1 j b = mAdj g M j b := by
  funext p
  unfold mAdj
  rw [e 24 (by omega) (by omega), e 25 (by omega) (by omega), e 26 (by omega) (by omega)]
theorem MC.dy (h : dyE S S1) (hC : MC S M) (e : ∀ f i, 22 ≤ f → f ≤ 26 → M1 f i = M f i) : MC S1 M1 := by
  intro j hj
  rw [h.n] at hj
  have h1 := hC j hj
  unfold mcJ at h1 ⊢
  have e2 : gChn S1 j = gChn S j := by show S1.2 2 j = S.2 2 j; rw [h.1]
  have e3 : gChf S1 j = gChf S j := by show S1.1 18 j 0 = S.1 18 j 0; rw [h.2 18 rfl]
  have e4 : gCh S1 j = gCh S j := by show S1.1 4 j = S.1 4 j; rw [h.2 4 rfl]
  have e5 : grn S1 j = grn S j := by funext p; exact dy_grn h j p
  rw [e2, e3, e4, e5, h.np, h.off, h.cyc, e 22 j (by omega) (by omega), e 23 j (by omega) (by omega), mAdj_e (fun f a b => e f j a b)]
  exact h1
/-- the whole relation while the road runs, at stage i of a second -/
def RG (i : Nat) (S0 S : GS) (M : MS) : Prop := dyE S0 S ∧ (0 ≤ gNow S ∧ gNow S ≤ 7200) ∧ MR S M ∧ MD i S M ∧ MC S M ∧ mI M ∧ ∀ j, j < gN S0 → mPl S0 M j
theorem RG.ar (hI : gI S0) (h : RG 0 S0 S M) (e : ∀ f i, M1 f i = mAr S M f i) : RG 1 S0 (sA (sJ S 0)) M1 := by
  obtain ⟨h1, h2, h3, h4, h5, h6, h7⟩ := h
  have hIS := h1.gI hI h2
  have e0 : ∀ f i, ¬ f = 15 → ¬ f = 16 → ¬ f = 18 → M1 f i = M f i := fun f i a b c => by rw [e]; unfold mAr; rw [if_neg (by omega), if_neg (by omega), if_neg (by omega)]
  have hnow : gNow (sA S) = gNow S := by unfold sA; split <;> rfl
  rw [sJ_0 h4]
  refine ⟨h1.trans (sA_dy S), by rw [hnow]; exact h2, (sA_dy S).MR (h3.of fun f i hf => e0 f i (fun q => by rw [q] at hf; cases hf) (fun q => by rw [q] at hf; cases hf) (fun q => by rw [q] at hf; cases hf)) hnow, MD_ar hIS h4 e, h5.dy (sA_dy S) (fun f i a b => e0 f i (by omega) (by omega) (by omega)), h6.of (fun f i a => e0 f i (by omega) (by omega) (by omega)), fun j hj p hp => ?_⟩
  rw [e0 11 _ (by omega) (by omega) (by omega), e0 12 _ (by omega) (by omega) (by omega)]
  exact h7 j hj p hp
theorem RG.jo {L T r : Nat} (hI : gI S0) (hLn : L + 1 < gN S0) (h : RG (L + 1) S0 S M) (hT : M 20 L = (T : Int)) (hJo : mJo M M1 L T r (gNow S)) (hr : r < T → ¬ M 21 (40 * L + r) = gNow S) : RG (L + 2) S0 (sJ S (L + 1)) M1 := by
  obtain ⟨h1, h2, h3, h4, h5, h6, h7⟩ := h
  have hIS := h1.gI hI h2
  have e0 : ∀ f i, ¬ f = 18 → ¬ f = 20 → ¬ f = 21 → M1 f i = M f i := fun f i a b c => hJo.2.2.2.2.2 f i (by omega) (by omega) (by omega)
  have hd := sJ_dy S (L + 1)
  have hnow : gNow (sJ S (L + 1)) = gNow S := by unfold sJ; split <;> rfl
  refine ⟨h1.trans hd, by rw [hnow]; exact h2, hd.MR (h3.of fun f i hf => e0 f i (fun q => by rw [q] at hf; cases hf) (fun q => by rw [q] at hf; cases hf) (fun q => by rw [q] at hf; cases hf)) hnow, MD_jo hIS (by rw [h1.n]; exact hLn) h4 hT hJo hr, h5.dy hd (fun f i a b => e0 f i (by omega) (by omega) (by omega)), h6.of (fun f i a => e0 f i (by omega) (by omega) (by omega)), fun j hj p hp => ?_⟩
  rw [e0 11 _ (by omega) (by omega) (by omega), e0 12 _ (by omega) (by omega) (by omega)]
  exact h7 j hj p hp
theorem RG.lv {j : Nat} (hI : gI S0) (hj : j < gN S0) (h : RG (j + 1) S0 S M) (e : ∀ f i, M1 f i = mLv S M j (mGn S (grn S j) (clr S j) M j 0 (gNow S) true) f i) : RG (j + 1) S0 (sL (sR S j (rgn S j (grn S j) 0 (gNow S))) j) M1 := by
  obtain ⟨h1, h2, h3, h4, h5, h6, h7⟩ := h
  have hIS := h1.gI hI h2
  have hjS : j < gN S := by rw [h1.n]; exact hj
  rw [(h5 j hjS).gn hIS (by have := (hIS.2.2 j hjS).1; omega)]
  generalize mGn S (grn S j) (clr S j) M j 0 (gNow S) true = b at *
  have e0 : ∀ f i, ¬ f = 17 → ¬ f = 18 → ¬ f = 19 → ¬ f = 20 → ¬ f = 21 → M1 f i = M f i := fun f i a b c d z => by rw [e]; unfold mLv; rw [if_neg (by omega), if_neg (by omega), if_neg (by omega), if_neg (by omega), if_neg (by omega)]
  have hd : dyE S (sL (sR S j b) j) := (sR_dy S j b).trans (sL_dy _ j)
  have hnow : gNow (sL (sR S j b) j) = gNow S := by show (sL (sR S j b) j).1 32 0 0 = _; rw [sL_f]; split <;> simp
  refine ⟨h1.trans hd, by rw [hnow]; exact h2, hd.MR (h3.of fun f i hf => e0 f i (fun q => by rw [q] at hf; cases hf) (fun q => by rw [q] at hf; cases hf) (fun q => by rw [q] at hf; cases hf) (fun q => by rw [q] at hf; cases hf) (fun q => by rw [q] at hf; cases hf)) hnow, MD_lv hIS hjS h4 e, h5.dy hd (fun f i a b => e0 f i (by omega) (by omega) (by omega) (by omega) (by omega)), h6.of (fun f i a => e0 f i (by omega) (by omega) (by omega) (by omega) (by omega)), fun j hj p hp => ?_⟩
  rw [e0 11 _ (by omega) (by omega) (by omega) (by omega) (by omega), e0 12 _ (by omega) (by omega) (by omega) (by omega) (by omega)]
  exact h7 j hj p hp
theorem RG.now {n : Nat} (hI : gI S0) (hn : n = gN S0) (h : RG n S0 S M) (hN : gNow S < 7200) (e : ∀ f i, M1 f i = if f = 14 ∧ i = 0 then gNow S + 1 else M f i) : RG 0 S0 (gset S 32 0 0 (gNow S + 1)) M1 := by
  obtain ⟨h1, h2, h3, h4, h5, h6, h7⟩ := h
  have hIS := h1.gI hI h2
  have e0 : ∀ f i, ¬ f = 14 → M1 f i = M f i := fun f i a => by rw [e]; rw [if_neg (by omega)]
  have hd : dyE S (gset S 32 0 0 (gNow S + 1)) := (dyE.rf S).set rfl
  have eM : M1 = mset M 14 0 (gNow S + 1) := by funext f i; rw [e]; rfl
  refine ⟨h1.trans hd, by have : gNow (gset S 32 0 0 (gNow S + 1)) = gNow S + 1 := gset_s S 32 0 0 _; omega, by rw [eM]; exact MR_now h3, MD_now (by rw [hn, h1.n]) hIS h4 e, h5.dy hd (fun f i a b => e0 f i (by omega)), h6.of (fun f i a => e0 f i (by omega)), fun j hj p hp => ?_⟩
  rw [e0 11 _ (by omega), e0 12 _ (by omega)]
  exact h7 j hj p hp
/-- one junction's second; a second; seconds -/
def sOne (S : GS) (j : Nat) : GS := sL (sR S j (rgn S j (grn S j) 0 (gNow S))) j
def sHead (S : GS) (j : Nat) : GS := if j = 0 then sA (sJ S 0) else sJ S j
def sK (S : GS) : Nat → GS
  | 0 => S
  | j + 1 => sOne (sHead (sK S j) j) j
def sSec (S : GS) : GS := gset (sK S (gN S)) 32 0 0 (gNow (sK S (gN S)) + 1)
def sRun (S : GS) : Nat → GS
  | 0 => S
  | k + 1 => sSec (sRun S k)
theorem sOne_dy (S : GS) (j : Nat) : dyE S (sOne S j) := (sR_dy S j _).trans (sL_dy _ j)
theorem sHead_dy (S : GS) (j : Nat) : dyE S (sHead S j) := by
  unfold sHead
  split
  · exact (sJ_dy S 0).trans (sA_dy _)
  · exact sJ_dy S j
theorem sOne_now (S : GS) (j : Nat) : gNow (sOne S j) = gNow S := by show (sL (sR S j _) j).1 32 0 0 = _; rw [sL_f]; split <;> simp
theorem sJ_now (S : GS) (j : Nat) : gNow (sJ S j) = gNow S := by unfold sJ; split <;> rfl
theorem sA_now (S : GS) : gNow (sA S) = gNow S := by unfold sA; split <;> rfl
theorem sHead_now (S : GS) (j : Nat) : gNow (sHead S j) = gNow S := by
  unfold sHead
  split
  · rw [sA_now, sJ_now]
  · exact sJ_now S j
theorem sK_dy (S : GS) : ∀ j, dyE S (sK S j) := by
  intro j
  induction j with
  | zero => exact dyE.rf S
  | succ j ih => exact (ih.trans (sHead_dy _ j)).trans (sOne_dy _ j)
theorem sK_now (S : GS) : ∀ j, gNow (sK S j) = gNow S := by
  intro j
  induction j with
  | zero => rfl
  | succ j ih => show gNow (sOne (sHead (sK S j) j) j) = _; rw [sOne_now, sHead_now, ih]
theorem sRun_dy (S : GS) : ∀ k, dyE S (sRun S k) := by
  intro k
  induction k with
  | zero => exact dyE.rf S
  | succ k ih => exact (ih.trans (sK_dy _ _)).set rfl
theorem sRun_now (S : GS) : ∀ k : Nat, gNow (sRun S k) = gNow S + (k : Int) := by
  intro k
  induction k with
  | zero => show gNow S = gNow S + ((0 : Nat) : Int); omega
  | succ k ih =>
    have e : gNow (sRun S (k + 1)) = gNow (sK (sRun S k) (gN (sRun S k))) + 1 := gset_s _ 32 0 0 _
    rw [e, sK_now, ih]
    omega
theorem gI_run (hI : gI S) : gI (gset S 33 0 0 1) := by
  have e : gI (gset S 33 0 0 1) := ⟨⟨hI.1.1, by show 0 ≤ gRun (gset S 33 0 0 1) ∧ gRun (gset S 33 0 0 1) ≤ 1; rw [show gRun (gset S 33 0 0 1) = 1 from gset_s S 33 0 0 1]; omega, hI.1.2.2⟩, hI.2.1, hI.2.2⟩
  exact e
theorem RG.ar2 {j : Nat} (hI : gI S0) (hj : j = 0) (h : RG j S0 S M) (e : ∀ f i, M1 f i = mAr S M f i) : RG (j + 1) S0 (sHead S j) M1 := by
  subst hj
  exact RG.ar hI h e
theorem RG.jo2 {j L T r : Nat} (hI : gI S0) (hj : j = L + 1) (hLn : L + 1 < gN S0) (h : RG j S0 S M) (hT : M 20 L = (T : Int)) (hJo : mJo M M1 L T r (gNow S)) (hr : r < T → ¬ M 21 (40 * L + r) = gNow S) : RG (j + 1) S0 (sHead S j) M1 := by
  subst hj
  have h9 := RG.jo hI hLn h hT hJo hr
  unfold sHead
  rw [if_neg (by omega)]
  exact h9
theorem RG_0 (hI : gI S) (hR : MR S M) (hMD : MD 0 S M) (hMC : MC S M) (hMI : mI M) (hPl : ∀ j, j < gN S → mPl S M1 j) (q : mQ M M1) : RG 0 (gset S 33 0 0 1) (gset S 33 0 0 1) (mset M1 3 0 1) := by
  have hR1 := hR.Q q
  have e0 : ∀ f i, 14 ≤ f → mset M1 3 0 1 f i = M f i := fun f i hf => (mset_n _ _ (by omega)).trans (q f i (by omega) (by omega) (by omega) (by omega))
  have e1 : ∀ f i, ¬ f = 3 → mset M1 3 0 1 f i = M1 f i := fun f i hf => mset_n _ _ (fun e => hf e.1)
  refine ⟨dyE.rf _, hI.1.2.2, MR_run hR1, ?_, ?_, hMI.of (fun f i hf => e0 f i (by omega)), fun j hj p hp => ?_⟩
  · obtain ⟨⟨⟨a1, a2, a3, a4⟩, a5, a6⟩, hJ, hL⟩ := hMD
    refine ⟨⟨⟨(e0 15 0 (by omega)).trans a1, a2, (e0 16 0 (by omega)).trans a3, (e0 17 0 (by omega)).trans a4⟩, a5, a6⟩, fun j hj => ?_, fun L hLn => ?_⟩
    · have h1 := hJ j hj
      exact ⟨(e0 18 j (by omega)).trans h1.1, (e0 19 j (by omega)).trans h1.2.1, h1.2.2⟩
    · obtain ⟨k1, k2, k3, k4, k5⟩ := hL L hLn
      have eE : mdE (mset M1 3 0 1) L = mdE M L := by funext k; exact e0 21 _ (by omega)
      refine ⟨(e0 20 L (by omega)).trans k1, k2, ?_, ?_, ?_⟩
      · rw [eE]; exact k3
      · rw [eE]; exact k4
      · rw [eE]; exact k5
  · intro j hj
    have h1 := hMC j hj
    unfold mcJ at h1 ⊢
    have e9 : grn (gset S 33 0 0 1) j = grn S j := by funext p; exact pl_grn (plE_run S 1 j) p
    rw [e0 22 j (by omega), e0 23 j (by omega), mAdj_e (M := M) (fun f a b => e0 f j (by omega)), e9]
    exact h1
  · rw [e1 11 _ (by omega), e1 12 _ (by omega)]
    exact (plE_run S 1 j).pl (hPl j hj) p hp
end MCs
