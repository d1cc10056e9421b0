/-! the relation between calls -/
def idl (S : GS) : Prop := gRun S = 0 → (∀ j, j < gN S → gChn S j = 0) ∧ ∀ L, L + 1 < gN S → gTrv S L = 0 ∧ gQue S (L + 1) = 0
def RL (S : GS) (M : MS) : Prop := gI S ∧ MR S M ∧ MD 0 S M ∧ MC S M ∧ mI M ∧ idl S
section RLs
variable {S S1 : GS} {M M1 : MS}
theorem MD.of (h : MD 0 S M) (e : ∀ f i, 14 ≤ f → M1 f i = M f i) : MD 0 S M1 := by
  obtain ⟨⟨⟨a1, a2, a3, a4⟩, a5, a6⟩, hJ, hL⟩ := h
  refine ⟨⟨⟨(e 15 0 (by omega)).trans a1, a2, (e 16 0 (by omega)).trans a3, (e 17 0 (by omega)).trans a4⟩, a5, a6⟩, fun j hj => ?_, fun L hLn => ?_⟩
  · have h1 := hJ j hj
    exact ⟨(e 18 j (by omega)).trans h1.1, (e 19 j (by omega)).trans h1.2.1, h1.2.2⟩
  · obtain ⟨k1, k2, k3, k4, k5⟩ := hL L hLn
    have eE : mdE M1 L = mdE M L := by funext k; exact e 21 _ (by omega)
    refine ⟨(e 20 L (by omega)).trans k1, k2, ?_, ?_, ?_⟩
    · rw [eE]; exact k3
    · rw [eE]; exact k4
    · rw [eE]; exact k5
theorem RL.Q (h : RL S M) (q : mQ M M1) : RL S M1 := by
  obtain ⟨h1, h2, h3, h4, h5, h6⟩ := h
  have e : ∀ f i, 14 ≤ f → M1 f i = M f i := fun f i hf => q f i (by omega) (by omega) (by omega) (by omega)
  exact ⟨h1, h2.Q q, h3.of e, h4.dy (dyE.rf S) (fun f i a _ => e f i (by omega)), h5.Q q, h6⟩
/-- a setter: config alone, while nothing runs -/
theorem RL.cfg (h : RL S M) (hr : gRun S = 0) (hI : gI S1) (hR : MR S1 M1) (c : mC M M1) (hn : gN S1 = gN S) (hc : ∀ j, gChn S1 j = gChn S j) (e : ∀ f, (f = 5 ∨ (19 ≤ f ∧ f ≤ 22) ∨ (32 ≤ f ∧ f ≤ 35)) → S1.1 f = S.1 f) : RL S1 M1 := by
  obtain ⟨h1, h2, h3, h4, h5, h6⟩ := h
  have hid := h6 hr
  have eM : ∀ f i, 14 ≤ f → M1 f i = M f i := fun f i hf => c f i (Or.inr hf)
  have e5 : ∀ j s, gCom S1 j s = gCom S j s := fun j s => by show S1.1 5 j s = S.1 5 j s; rw [e 5 (by omega)]
  have e19 : ∀ j, gQue S1 j = gQue S j := fun j => by show S1.1 19 j 0 = S.1 19 j 0; rw [e 19 (by omega)]
  have e20 : ∀ j, gArr S1 j = gArr S j := fun j => by show S1.1 20 j 0 = S.1 20 j 0; rw [e 20 (by omega)]
  have e21 : ∀ j, gRdy S1 j = gRdy S j := fun j => by show S1.1 21 j 0 = S.1 21 j 0; rw [e 21 (by omega)]
  have e22 : ∀ j, gTrv S1 j = gTrv S j := fun j => by show S1.1 22 j 0 = S.1 22 j 0; rw [e 22 (by omega)]
  have e32 : gNow S1 = gNow S := by show S1.1 32 0 0 = S.1 32 0 0; rw [e 32 (by omega)]
  have e33 : gRun S1 = gRun S := by show S1.1 33 0 0 = S.1 33 0 0; rw [e 33 (by omega)]
  have e34 : gCam S1 = gCam S := by show S1.1 34 0 0 = S.1 34 0 0; rw [e 34 (by omega)]
  have e35 : gLef S1 = gLef S := by show S1.1 35 0 0 = S.1 35 0 0; rw [e 35 (by omega)]
  refine ⟨hI, hR, ?_, fun j hj => ?_, h5.of (fun f i hf => eM f i (by omega)), fun _ => ?_⟩
  · obtain ⟨⟨⟨a1, a2, a3, a4⟩, a5, a6⟩, hJ, hL⟩ := h3.of eM
    refine ⟨⟨⟨by rw [e20]; exact a1, by rw [e20]; exact a2, by rw [e34]; exact a3, by rw [e35]; exact a4⟩, by rw [e19, e32]; exact a5, fun s hs => by rw [e5]; exact a6 s hs⟩, fun j hj => ?_, fun L hLn => ?_⟩
    · rw [hn] at hj
      have h1 := hJ j hj
      unfold mdJ at h1 ⊢
      rw [e19, e21]
      exact h1
    · rw [hn] at hLn
      obtain ⟨k1, k2, k3, k4, k5⟩ := hL L hLn
      have hz := hid.2 L hLn
      have hro := (hI.2.2 L (by omega)).2.2.2.2.2.2.1
      refine ⟨by rw [e22]; exact k1, by rw [e22, e19]; omega, fun k hk => ?_, fun k hk => ?_, fun t h1 h2 => ?_⟩
      · rw [e22] at hk; omega
      · rw [e22] at hk; omega
      · rw [e32] at h1 h2
        rw [e5, e22]
        exact k5 t h1 h2
  · rw [hn] at hj
    have h0 := hid.1 j hj
    have h8 := (h4 j hj).1 h0
    exact ⟨fun _ => (eM 22 j (by omega)).trans h8, fun h9 => absurd ((hc j).trans h0) h9⟩
  · refine ⟨fun j hj => by rw [hc]; exact hid.1 j (by rw [hn] at hj; exact hj), fun L hL => by rw [e22, e19]; exact hid.2 L (by rw [hn] at hL; exact hL)⟩
theorem RL.beg {n : Nat} {c : Int} (h : mI M) (hn : 2 ≤ n ∧ n ≤ 5) (hc : 30 ≤ c ∧ c ≤ 90) (e : ∀ f i, ¬ f = 0 → M1 f i = mBg n c M f i) : RL (gBeg n c) M1 := by
  obtain ⟨h1, h2, h3⟩ := mBg_R (M := M) (M1 := mBg n c M) hn (fun _ _ => rfl)
  have hcf : MR (gBeg n c) M1 := h1.of fun f i hf => e f i (fun q => by rw [q] at hf; cases hf)
  refine ⟨gBeg_I hn hc, hcf, h2.of (fun f i hf => e f i (by omega)), h3.dy (dyE.rf _) (fun f i a _ => e f i (by omega)), ?_, fun _ => ⟨fun _ _ => rfl, fun _ _ => ⟨rfl, rfl⟩⟩⟩
  intro j hj
  have h9 := h j hj
  have e2 : ∀ f, 23 ≤ f → f ≤ 26 → M1 f j = M f j := fun f a b => by
    rw [e f j (by omega)]
    unfold mBg mB3 mB2 mB1 mB0
    rw [if_neg (by omega), if_neg (by omega), if_neg (by omega), if_neg (by omega), if_neg (by omega), if_neg (by omega), if_neg (by omega), if_neg (by omega), if_neg (by omega), if_neg (by omega), if_neg (by omega), if_neg (by omega)]
  have e3 : M1 22 j = 0 := (h3 j) |> fun _ => by
    rw [e 22 j (by omega)]
    unfold mBg mB3 mB2 mB1
    rw [if_neg (by omega), if_neg (by omega), if_neg (by omega), if_neg (by omega), if_neg (by omega), if_neg (by omega), if_pos (by omega)]
  rw [e3, e2 23 (by omega) (by omega), e2 24 (by omega) (by omega), e2 25 (by omega) (by omega), e2 26 (by omega) (by omega)]
  exact ⟨by omega, h9.2⟩
theorem RL.run {S0 : GS} (hI : gI S0) (hr : gRun S0 = 1) (h : RG 0 S0 S M) : RL S M := by
  obtain ⟨h1, h2, h3, h4, h5, h6, h7⟩ := h
  refine ⟨h1.gI hI h2, h3, h4, h5, h6, fun h9 => ?_⟩
  rw [h1.run, hr] at h9
  omega
end RLs
