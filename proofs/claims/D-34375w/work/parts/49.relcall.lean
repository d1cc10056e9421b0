/-! a bus's call keeps the relation -/
def cbGr (S : GS) (j : Nat) (v : Int) (p : Nat) : Int := grn S j p + (if p = low S j v then cbZ S j v else 0) - (if p = cbG S j v then cbZ S j v else 0)
def cbS (S : GS) (j : Nat) (v : Int) : GS := gset (gchs (gset S 33 0 0 1) j (gNp S j) (cbGr S j v)) 18 j 0 (gNow S - cbL S j)
section CBs
variable {S : GS} {M Mh M1 : MS} {j : Nat} {v : Int}
theorem cbS_f (f a k : Nat) : (cbS S j v).1 f a k = if f = 18 ∧ a = j ∧ k = 0 then gNow S - cbL S j else if f = 4 ∧ a = j then cbGr S j v k else if f = 33 ∧ a = 0 ∧ k = 0 then 1 else S.1 f a k := rfl
theorem cbS_2 (a i : Nat) : (cbS S j v).2 a i = if a = 2 ∧ i = j then gNp S j else S.2 a i := rfl
theorem plE_cb (i : Nat) : plE S (cbS S j v) i := by
  have e1 : ∀ f, f ≠ 18 → f ≠ 4 → f ≠ 33 → (cbS S j v).1 f = S.1 f := fun f a b c => by
    funext x k
    rw [cbS_f, if_neg (by omega), if_neg (by omega), if_neg (by omega)]
  refine ⟨?_, by rw [e1 1 (by omega) (by omega) (by omega)], by rw [e1 2 (by omega) (by omega) (by omega)], by rw [e1 3 (by omega) (by omega) (by omega)], ?_⟩
  · show (cbS S j v).2 1 i = S.2 1 i
    rw [cbS_2, if_neg (by omega)]
  · show (cbS S j v).1 31 0 0 = S.1 31 0 0
    rw [e1 31 (by omega) (by omega) (by omega)]
theorem cb_b (hI : gI S) (hj : j < gN S) (hL : 0 ≤ lft S j) (hw : low S j v < gNp S j) : (0 ≤ cbZ S j v ∧ cbZ S j v ≤ 5) ∧ cbG S j v < gNp S j ∧ (¬ cbG S j v = low S j v → cbZ S j v ≤ grn S j (cbG S j v) - lst S j (cbG S j v)) := by
  have hc := hI.2.1
  have hg : ∀ p, p < gNp S j → lst S j p ≤ grn S j p := fun p hp => (grn_b hI hj hL hp).1
  have hgc : ∀ i, i < gNp S j → 0 ≤ grn S j i ∧ 0 ≤ clr S j i := fun i hi => by
    have h1 := grn_b hI hj hL hi
    have h2 := clr_b (hI.2.2 j hj) i
    omega
  have hpl : 0 ≤ cbL S j ∧ cbL S j < gCyc S := em_b (gNow S - gOff S j) (gCyc S) hc.1
  unfold cbZ cbG
  by_cases hA : cbA S j v = true
  · rw [if_pos hA, if_pos hA]
    have h1 := of_decide_eq_true hA
    have h2 := hg (low S j v + 1) h1.2
    exact ⟨by omega, h1.2, fun _ => by omega⟩
  · rw [if_neg hA, if_neg hA]
    by_cases hB : cbB S j v = true
    · rw [if_pos hB, if_pos hB]
      have h1 := of_decide_eq_true hB
      have h2 := phA_rng (grn S j) (clr S j) (gNp S j) 0 (cbL S j)
      have h3 : cbP S j = -1 ∨ (0 ≤ cbP S j ∧ cbP S j < gNp S j) := by unfold cbP; omega
      obtain ⟨p, hp⟩ : ∃ p : Nat, cbP S j = (p : Int) := ⟨(cbP S j).toNat, by omega⟩
      have h4 := phA_is hgc hpl.1 (show phA (grn S j) (clr S j) (gNp S j) 0 (cbL S j) = (p : Int) from hp)
      rw [hp, Int.toNat_natCast]
      have h5 := hg p (by omega)
      exact ⟨by omega, by omega, fun _ => by omega⟩
    · rw [if_neg hB, if_neg hB]
      exact ⟨by omega, hw, fun h => absurd rfl h⟩
theorem cbGr_b (hI : gI S) (hj : j < gN S) (hL : 0 ≤ lft S j) (hw : low S j v < gNp S j) {p : Nat} (hp : p < gNp S j) : 0 ≤ cbGr S j v p ∧ cbGr S j v p ≤ 1000 := by
  obtain ⟨h1, h2, h3⟩ := cb_b hI hj hL hw
  have h4 := grn_b hI hj hL hp
  have h5 := lst_b S j p
  unfold cbGr
  by_cases e : p = cbG S j v
  · subst e
    by_cases e2 : cbG S j v = low S j v
    · rw [if_pos e2, if_pos rfl]
      omega
    · rw [if_neg e2, if_pos rfl]
      have := h3 e2
      omega
  · rw [if_neg e]
    split <;> omega
theorem RL.call (h : RL S M) (hj : j < gN S) (hL : 0 ≤ lft S j) (hw : low S j v < gNp S j) (q : mQ M Mh) (e : ∀ f i, M1 f i = cbM S j v Mh f i) : RL (cbS S j v) M1 := by
  obtain ⟨h1, h2, h3, h4, h5, h6⟩ := h.Q q
  have hc := h1.2.1
  have hnow := h1.1.2.2
  have hpl : 0 ≤ cbL S j ∧ cbL S j < gCyc S := em_b (gNow S - gOff S j) (gCyc S) hc.1
  obtain ⟨b1, b2, b3⟩ := cb_b h1 hj hL hw
  have e1 : ∀ f, f ≠ 18 → f ≠ 4 → f ≠ 33 → (cbS S j v).1 f = S.1 f := fun f a b c => by
    funext x k
    rw [cbS_f, if_neg (by omega), if_neg (by omega), if_neg (by omega)]
  have eM : ∀ f i, f ≠ 3 → (f < 22 ∨ 26 < f) → M1 f i = Mh f i := fun f i a b => by
    rw [e]
    unfold cbM
    rw [if_neg (by omega), if_neg (by omega), if_neg (by omega), if_neg (by omega), if_neg (by omega), if_neg (by omega)]
  have eJ : ∀ f i, i ≠ j → f ≠ 3 → M1 f i = Mh f i := fun f i a b => by
    rw [e]
    unfold cbM
    rw [if_neg (by omega), if_neg (by omega), if_neg (by omega), if_neg (by omega), if_neg (by omega), if_neg (by omega)]
  have en : gN (cbS S j v) = gN S := by show (cbS S j v).2 0 0 = S.2 0 0; rw [cbS_2, if_neg (by omega)]
  have ep : ∀ i, gNp (cbS S j v) i = gNp S i := fun i => (plE_cb i).1
  have er : gRun (cbS S j v) = 1 := by show (cbS S j v).1 33 0 0 = 1; rw [cbS_f, if_neg (by omega), if_neg (by omega), if_pos ⟨rfl, rfl, rfl⟩]
  have ech : ∀ i, i ≠ j → gCh (cbS S j v) i = gCh S i := fun i hi => by funext k; show (cbS S j v).1 4 i k = S.1 4 i k; rw [cbS_f, if_neg (by omega), if_neg (by omega), if_neg (by omega)]
  have echj : gCh (cbS S j v) j = cbGr S j v := by funext k; show (cbS S j v).1 4 j k = _; rw [cbS_f, if_neg (by omega), if_pos ⟨rfl, rfl⟩]
  have ecf : ∀ i, gChf (cbS S j v) i = if i = j then gNow S - cbL S j else gChf S i := fun i => by
    show (cbS S j v).1 18 i 0 = _
    rw [cbS_f]
    by_cases hi : i = j
    · rw [if_pos ⟨rfl, hi, rfl⟩, if_pos hi]
    · rw [if_neg (by omega), if_neg (by omega), if_neg (by omega), if_neg hi]
  have ecn : ∀ i, gChn (cbS S j v) i = if i = j then gNp S j else gChn S i := fun i => by
    show (cbS S j v).2 2 i = _
    rw [cbS_2]
    by_cases hi : i = j
    · rw [if_pos ⟨rfl, hi⟩, if_pos hi]
    · rw [if_neg (by omega), if_neg hi]
  refine ⟨⟨⟨by rw [en]; exact h1.1.1, by rw [er]; decide, ?_⟩, ?_, fun i hi => ?_⟩, ?_, ?_, fun i hi => ?_, fun i hi => ?_, fun h9 => ?_⟩
  · show 0 ≤ (cbS S j v).1 32 0 0 ∧ (cbS S j v).1 32 0 0 ≤ 7200
    rw [e1 32 (by omega) (by omega) (by omega)]
    exact hnow
  · show 30 ≤ (cbS S j v).1 31 0 0 ∧ (cbS S j v).1 31 0 0 ≤ 90
    rw [e1 31 (by omega) (by omega) (by omega)]
    exact hc
  · rw [en] at hi
    have h7 := h1.2.2 i hi
    have ecy : gCyc (cbS S j v) = gCyc S := (plE_cb i).2.2.2.2
    unfold jI at h7 ⊢
    rw [ep, ecy, ecn, ecf]
    simp only [gCf, gFl, gOff, gLnk, gRoo, e1 1 (by omega) (by omega) (by omega), e1 2 (by omega) (by omega) (by omega), e1 14 (by omega) (by omega) (by omega), e1 15 (by omega) (by omega) (by omega), e1 16 (by omega) (by omega) (by omega)]
    refine ⟨h7.1, h7.2.1, h7.2.2.1, h7.2.2.2.1, h7.2.2.2.2.1, h7.2.2.2.2.2.1, h7.2.2.2.2.2.2.1, ?_, ?_, ?_⟩
    · by_cases hij : i = j
      · subst hij; rw [if_pos rfl]; exact Or.inr rfl
      · rw [if_neg hij]; exact h7.2.2.2.2.2.2.2.1
    · by_cases hij : i = j
      · rw [if_pos hij]; omega
      · rw [if_neg hij]; exact h7.2.2.2.2.2.2.2.2.1
    · by_cases hij : i = j
      · subst hij
        intro _ k hk
        show 0 ≤ gCh (cbS S i v) i k ∧ gCh (cbS S i v) i k ≤ 1000
        rw [echj]
        exact cbGr_b h1 hj hL hw hk
      · rw [if_neg hij, ech i hij]
        exact h7.2.2.2.2.2.2.2.2.2
  · obtain ⟨k1, k2, k3, k4, k5, k6⟩ := h2
    refine ⟨?_, ?_, ?_, ?_, fun i hi => ?_, fun i hi => ?_⟩
    · rw [eM 1 0 (by omega) (by omega), en]; exact k1
    · rw [eM 2 0 (by omega) (by omega), (plE_cb 0).2.2.2.2]; exact k2
    · rw [er, e]; unfold cbM; rw [if_neg (by omega), if_neg (by omega), if_neg (by omega), if_neg (by omega), if_neg (by omega), if_pos ⟨rfl, rfl⟩]
    · rw [eM 14 0 (by omega) (by omega)]; show _ = (cbS S j v).1 32 0 0; rw [e1 32 (by omega) (by omega) (by omega)]; exact k4
    · rw [en] at hi
      have k7 := k5 i hi
      rw [ep]
      simp only [gCf, gPh, gFl, gOff, e1 1 (by omega) (by omega) (by omega), e1 2 (by omega) (by omega) (by omega), e1 3 (by omega) (by omega) (by omega), e1 14 (by omega) (by omega) (by omega), eM 6 _ (by omega) (by omega), eM 4 _ (by omega) (by omega), eM 5 _ (by omega) (by omega), eM 7 _ (by omega) (by omega), eM 8 _ (by omega) (by omega)] at k7 ⊢
      exact k7
    · rw [en] at hi
      have k7 := k6 i hi
      simp only [gLnk, gRoo, e1 15 (by omega) (by omega) (by omega), e1 16 (by omega) (by omega) (by omega), eM 9 _ (by omega) (by omega), eM 10 _ (by omega) (by omega)] at k7 ⊢
      exact k7
  · obtain ⟨⟨⟨a1, a2, a3, a4⟩, a5, a6⟩, hJ, hLk⟩ := h3
    have g : ∀ f x k, f ≠ 18 → f ≠ 4 → f ≠ 33 → (cbS S j v).1 f x k = S.1 f x k := fun f x k a b c => by rw [e1 f a b c]
    refine ⟨⟨⟨?_, ?_, ?_, ?_⟩, ?_, fun s hs => ?_⟩, fun i hi => ?_, fun L hLn => ?_⟩
    · rw [eM 15 0 (by omega) (by omega), a1]; exact (g 20 0 0 (by omega) (by omega) (by omega)).symm
    · show 0 ≤ (cbS S j v).1 20 0 0 ∧ (cbS S j v).1 20 0 0 < 3600; rw [g 20 0 0 (by omega) (by omega) (by omega)]; exact a2
    · rw [eM 16 0 (by omega) (by omega), a3]; exact (g 34 0 0 (by omega) (by omega) (by omega)).symm
    · rw [eM 17 0 (by omega) (by omega), a4]; exact (g 35 0 0 (by omega) (by omega) (by omega)).symm
    · show (cbS S j v).1 19 0 0 ≤ (cbS S j v).1 32 0 0 + _; rw [g 19 0 0 (by omega) (by omega) (by omega), g 32 0 0 (by omega) (by omega) (by omega)]; exact a5
    · show (cbS S j v).1 5 0 s = 0; rw [g 5 0 s (by omega) (by omega) (by omega)]; exact a6 s hs
    · rw [en] at hi
      have h7 := hJ i hi
      unfold mdJ at h7 ⊢
      simp only [gQue, gRdy, g 19 _ _ (by omega) (by omega) (by omega), g 21 _ _ (by omega) (by omega) (by omega), eM 18 _ (by omega) (by omega), eM 19 _ (by omega) (by omega)] at h7 ⊢
      exact h7
    · rw [en] at hLn
      have h7 := hLk L hLn
      have eE : mdE M1 L = mdE Mh L := by funext k; exact eM 21 _ (by omega) (by omega)
      unfold mdL at h7 ⊢
      rw [eE]
      simp only [gTrv, gQue, gRoo, gNow, gLnk, gCom, g 22 _ _ (by omega) (by omega) (by omega), g 19 _ _ (by omega) (by omega) (by omega), g 16 _ _ (by omega) (by omega) (by omega), g 32 _ _ (by omega) (by omega) (by omega), g 15 _ _ (by omega) (by omega) (by omega), g 5 _ _ (by omega) (by omega) (by omega), eM 20 _ (by omega) (by omega)] at h7 ⊢
      exact h7
  · rw [en] at hi
    have h7 := h4 i hi
    unfold mcJ at h7 ⊢
    have eg : grn (cbS S j v) i = grn S i := by funext p; exact pl_grn (plE_cb i) p
    have eo : gOff (cbS S j v) i = gOff S i := by show (cbS S j v).1 14 i 0 = S.1 14 i 0; rw [e1 14 (by omega) (by omega) (by omega)]
    rw [ecn, ecf, ep, eg, eo, (plE_cb i).2.2.2.2]
    by_cases hij : i = j
    · subst hij
      rw [if_pos rfl, if_pos rfl, echj]
      have hnp := (h1.2.2 i hi).1
      refine ⟨fun h9 => by omega, fun _ => ⟨?_, rfl, ?_, fun p hp => ?_⟩⟩
      · rw [e]; unfold cbM; rw [if_neg (by omega), if_neg (by omega), if_neg (by omega), if_neg (by omega), if_pos ⟨rfl, rfl⟩]
      · have h8 : M1 23 i = (gNow S - gOff S i) / gCyc S := by rw [e]; unfold cbM; rw [if_neg (by omega), if_neg (by omega), if_neg (by omega), if_pos ⟨rfl, rfl⟩]
        rw [h8]
        have h9 := Int.emod_def (gNow S - gOff S i) (gCyc S)
        unfold cbL
        omega
      · unfold mAdj cbGr
        have h24 : M1 24 i = (low S i v : Int) := by rw [e]; unfold cbM; rw [if_neg (by omega), if_neg (by omega), if_pos ⟨rfl, rfl⟩]
        have h25 : M1 25 i = (cbG S i v : Int) := by rw [e]; unfold cbM; rw [if_neg (by omega), if_pos ⟨rfl, rfl⟩]
        have h26 : M1 26 i = cbZ S i v := by rw [e]; unfold cbM; rw [if_pos ⟨rfl, rfl⟩]
        rw [h24, h25, h26]
        simp [Int.natCast_inj]
    · rw [if_neg hij, if_neg hij, ech i hij, eJ 22 i hij (by omega), eJ 23 i hij (by omega), mAdj_e (M := Mh) (fun f a b => eJ f i hij (by omega))]
      exact h7
  · by_cases hij : i = j
    · subst hij
      have hnp := (h1.2.2 i hj).1
      have hlf := h5 i hi
      have hoff := (h1.2.2 i hj).2.2.2.2.1
      have hfb := fl_b (A := 7300) (show 0 < gCyc S by omega) (show -7300 ≤ gNow S - gOff S i ∧ gNow S - gOff S i ≤ 7300 by omega)
      have h22 : M1 22 i = 1 := by rw [e]; unfold cbM; rw [if_neg (by omega), if_neg (by omega), if_neg (by omega), if_neg (by omega), if_pos ⟨rfl, rfl⟩]
      have h23 : M1 23 i = (gNow S - gOff S i) / gCyc S := by rw [e]; unfold cbM; rw [if_neg (by omega), if_neg (by omega), if_neg (by omega), if_pos ⟨rfl, rfl⟩]
      have h24 : M1 24 i = (low S i v : Int) := by rw [e]; unfold cbM; rw [if_neg (by omega), if_neg (by omega), if_pos ⟨rfl, rfl⟩]
      have h25 : M1 25 i = (cbG S i v : Int) := by rw [e]; unfold cbM; rw [if_neg (by omega), if_pos ⟨rfl, rfl⟩]
      have h26 : M1 26 i = cbZ S i v := by rw [e]; unfold cbM; rw [if_pos ⟨rfl, rfl⟩]
      rw [h22, h23, h24, h25, h26]
      omega
    · rw [eJ 22 i hij (by omega), eJ 23 i hij (by omega), eJ 24 i hij (by omega), eJ 25 i hij (by omega), eJ 26 i hij (by omega)]
      exact h5 i hi
  · rw [er] at h9
    omega
end CBs
