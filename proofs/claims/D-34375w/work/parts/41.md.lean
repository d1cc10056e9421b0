/-! the road: the reference's picture against the common state. Stage i: the junctions below i have had their second -/
def mdE (M : MS) (L : Nat) : Nat → Int := fun k => M 21 (40 * L + k)
def mdL (i : Nat) (S : GS) (M : MS) (L : Nat) : Prop := M 20 L = gTrv S L ∧ (0 ≤ gTrv S L ∧ gTrv S L + gQue S (L + 1) ≤ gRoo S L) ∧
  (∀ k : Nat, (k : Int) < gTrv S L → gNow S + (if L + 1 < i then 1 else 0) ≤ mdE M L k ∧ mdE M L k ≤ gNow S + gLnk S L) ∧
  (∀ k : Nat, (k : Int) + 1 < gTrv S L → mdE M L k ≤ mdE M L (k + 1)) ∧
  (∀ t : Int, gNow S ≤ t → t ≤ gNow S + 60 → gCom S (L + 1) (t.toNat % 61) = cntE (mdE M L) t (gTrv S L).toNat)
def mdJ (S : GS) (M : MS) (j : Nat) : Prop := M 18 j = gQue S j ∧ M 19 j = gRdy S j ∧ (0 ≤ gRdy S j ∧ gRdy S j ≤ 2) ∧ 0 ≤ gQue S j
def mdS (i : Nat) (S : GS) (M : MS) : Prop := (M 15 0 = gArr S 0 ∧ (0 ≤ gArr S 0 ∧ gArr S 0 < 3600) ∧ M 16 0 = gCam S ∧ M 17 0 = gLef S) ∧ gQue S 0 ≤ gNow S + (if 0 < i then 1 else 0) ∧ ∀ s, s < 61 → gCom S 0 s = 0
def MD (i : Nat) (S : GS) (M : MS) : Prop := mdS i S M ∧ (∀ j, j < gN S → mdJ S M j) ∧ ∀ L, L + 1 < gN S → mdL i S M L
theorem mdL_of {i i1 : Nat} {S S1 : GS} {M M1 : MS} {L : Nat} (h : mdL i S M L) (hr : gRoo S L ≤ 40) (h20 : M1 20 L = M 20 L) (h21 : ∀ k, k < 40 → M1 21 (40 * L + k) = M 21 (40 * L + k))
    (ht : gTrv S1 L = gTrv S L) (hq0 : 0 ≤ gQue S (L + 1)) (hq : gQue S1 (L + 1) ≤ gQue S (L + 1)) (hro : gRoo S1 L = gRoo S L) (hl : gLnk S1 L = gLnk S L) (hn : gNow S1 = gNow S) (hc : ∀ s, gCom S1 (L + 1) s = gCom S (L + 1) s) (hi : L + 1 < i1 → L + 1 < i) : mdL i1 S1 M1 L := by
  obtain ⟨k1, k2, k3, k4, k5⟩ := h
  have hT : gTrv S L ≤ 40 := by omega
  have eE : ∀ k : Nat, (k : Int) < gTrv S L → mdE M1 L k = mdE M L k := fun k hk => h21 k (by omega)
  refine ⟨by rw [h20, ht]; exact k1, by rw [ht, hro]; omega, fun k hk => ?_, fun k hk => ?_, fun t h1 h2 => ?_⟩
  · rw [ht] at hk
    rw [eE k hk, hn, hl]
    have := k3 k hk
    split
    · rename_i h
      rw [if_pos (hi h)] at this
      exact this
    · have h9 : gNow S ≤ gNow S + (if L + 1 < i then 1 else 0) := by split <;> omega
      omega
  · rw [ht] at hk
    rw [eE k (by omega), eE (k + 1) (by omega)]
    exact k4 k hk
  · rw [hn] at h1 h2
    rw [hc, k5 t h1 h2, ht]
    exact (cntE_c _ (fun k hk => eE k (by omega))).symm
section MDs
variable {S : GS} {M M1 : MS}
theorem sJ_0 (h : MD 0 S M) : sJ S 0 = S := by
  have hc : gCom S 0 (slt S) = 0 := h.1.2.2 _ (Nat.mod_lt _ (by decide))
  unfold sJ
  rw [if_neg (by omega), hc]
  have e1 : gset S 19 0 0 (gQue S 0 + 0) = S := by rw [Int.add_zero]; exact gset_self 19 0 0
  rw [e1]
  have e2 := gset_self (S := S) 5 0 (slt S)
  have e3 : S.1 5 0 (slt S) = 0 := hc
  rw [e3] at e2
  exact e2
theorem MD_ar (hI : gI S) (h : MD 0 S M) (e : ∀ f i, M1 f i = mAr S M f i) : MD 1 (sA S) M1 := by
  have hd := sA_dy S
  have hf0 := (hI.2.2 0 (by have := hI.1.1; omega)).2.2.2.1 0 (by omega)
  obtain ⟨⟨⟨a1, a2, a3, a4⟩, a5, a6⟩, hJ, hL⟩ := h
  have h0 := hJ 0 (by have := hI.1.1; omega)
  have hnow : gNow (sA S) = gNow S := by unfold sA; split <;> rfl
  have hcom : ∀ j s, gCom (sA S) j s = gCom S j s := by unfold sA; split <;> intro j s <;> rfl
  have htrv : ∀ L, gTrv (sA S) L = gTrv S L := by unfold sA; split <;> intro j <;> rfl
  have hrdy : ∀ L, gRdy (sA S) L = gRdy S L := by unfold sA; split <;> intro j <;> rfl
  have hlef : gLef (sA S) = gLef S := by unfold sA; split <;> rfl
  have hqn : ∀ j, ¬ j = 0 → gQue (sA S) j = gQue S j := by unfold sA; split <;> intro j hj <;> simp [gQue, gset, hj]
  have hq0 : gQue (sA S) 0 = if 3600 ≤ gArr S 0 + gFl S 0 0 then gQue S 0 + 1 else gQue S 0 := by unfold sA; split <;> rfl
  have hcam : gCam (sA S) = if 3600 ≤ gArr S 0 + gFl S 0 0 then gCam S + 1 else gCam S := by unfold sA; split <;> rfl
  have harr : gArr (sA S) 0 = if 3600 ≤ gArr S 0 + gFl S 0 0 then gArr S 0 + gFl S 0 0 - 3600 else gArr S 0 + gFl S 0 0 := by unfold sA; split <;> rfl
  refine ⟨⟨⟨?_, ?_, ?_, ?_⟩, ?_, fun s hs => (hcom 0 s).trans (a6 s hs)⟩, fun j hj => ?_, fun L hLn => ?_⟩
  · rw [e, harr]; unfold mAr; rw [if_pos ⟨rfl, rfl⟩, a1]
  · rw [harr]; split <;> omega
  · rw [e, hcam]; unfold mAr; rw [if_neg (by omega), if_pos ⟨rfl, rfl⟩, a1, a3]
  · rw [e, hlef]; unfold mAr; rw [if_neg (by omega), if_neg (by omega), if_neg (by omega)]; exact a4
  · rw [hq0, hnow]
    rw [if_neg (by omega)] at a5
    have h9 : (if (0 : Nat) < 1 then (1 : Int) else 0) = 1 := rfl
    rw [h9]
    split <;> omega
  · rw [hd.n] at hj
    have h1 := hJ j hj
    unfold mdJ at h1 ⊢
    rw [hrdy, e, e]
    unfold mAr
    rw [if_neg (by omega), if_neg (by omega), if_neg (show ¬ (19 = 15 ∧ j = 0) by omega), if_neg (show ¬ (19 = 16 ∧ j = 0) by omega), if_neg (show ¬ (19 = 18 ∧ j = 0) by omega)]
    by_cases hj0 : j = 0
    · subst hj0
      rw [if_pos ⟨rfl, rfl⟩, hq0, a1]
      split <;> omega
    · rw [if_neg (fun q => hj0 q.2), hqn j hj0]
      exact h1
  · rw [hd.n] at hLn
    refine mdL_of (hL L hLn) (hI.2.2 L (by omega)).2.2.2.2.2.2.1.2 ?_ (fun k _ => ?_) (htrv L) (hJ (L + 1) hLn).2.2.2 (by rw [hqn _ (by omega)]; exact Int.le_refl _) (hd.roo L) (hd.lnk L) hnow (hcom (L + 1)) (by omega)
    · rw [e]; unfold mAr; rw [if_neg (by omega), if_neg (by omega), if_neg (by omega)]
    · rw [e]; unfold mAr; rw [if_neg (by omega), if_neg (by omega), if_neg (by omega)]
theorem MD_jo {L T r : Nat} (hI : gI S) (hLn : L + 1 < gN S) (h : MD (L + 1) S M) (hT : M 20 L = (T : Int)) (hJo : mJo M M1 L T r (gNow S)) (hr : r < T → ¬ M 21 (40 * L + r) = gNow S) : MD (L + 2) (sJ S (L + 1)) M1 := by
  have hd := sJ_dy S (L + 1)
  have hroo := (hI.2.2 L (by omega)).2.2.2.2.2.2.1
  have hlnk := (hI.2.2 L (by omega)).2.2.2.2.2.1
  obtain ⟨⟨⟨a1, a2, a3, a4⟩, a5, a6⟩, hJ, hL⟩ := h
  obtain ⟨j1, j2, j3, j4, j5, j6⟩ := hJo
  obtain ⟨k1, k2, k3, k4, k5⟩ := hL L hLn
  have hq := (hJ (L + 1) hLn)
  have hTt : gTrv S L = (T : Int) := by rw [← k1, hT]
  have hnow := hI.1.2.2
  rw [hTt] at k2 k3 k4 k5
  rw [Int.toNat_natCast] at k5
  -- what stays is later
  have hlate : ∀ k, k + r < T → gNow S + 1 ≤ mdE M L (k + r) := by
    intro k hk
    have h1 := hr (by omega)
    have h2 := (k3 r (by omega)).1
    have h3 := srt (e := mdE M L) (n := T) (fun i hi => k4 i (by omega)) r k (by omega)
    have h4 : ¬ mdE M L r = gNow S := h1
    rw [Nat.add_comm r k] at h3
    rw [if_neg (by omega)] at h2
    omega
  have hcnt : gCom S (L + 1) (slt S) = (r : Int) := by
    have h1 := k5 (gNow S) (Int.le_refl _) (by omega)
    unfold slt
    rw [h1, show T = r + (T - r) by omega, cntE_s, cntE_n (e := mdE M L) r (fun k hk => j2 k hk), cntE_0 (T - r) (fun k hk => by have := hlate k (by omega); omega)]
    omega
  have esJ : sJ S (L + 1) = gset (gset (gset S 19 (L + 1) 0 (gQue S (L + 1) + (r : Int))) 22 L 0 (gTrv S L - (r : Int))) 5 (L + 1) (slt S) 0 := by
    unfold sJ
    rw [if_pos (by omega), Nat.add_sub_cancel, hcnt]
  have gj : ∀ f j k, (sJ S (L + 1)).1 f j k = if f = 5 ∧ j = L + 1 ∧ k = slt S then 0 else if f = 22 ∧ j = L ∧ k = 0 then gTrv S L - (r : Int) else if f = 19 ∧ j = L + 1 ∧ k = 0 then gQue S (L + 1) + (r : Int) else S.1 f j k := by rw [esJ]; intro f j k; rfl
  have hnow2 : gNow (sJ S (L + 1)) = gNow S := by show (sJ S (L + 1)).1 32 0 0 = _; rw [gj, if_neg (by omega), if_neg (by omega), if_neg (by omega)]
  refine ⟨⟨⟨?_, ?_, ?_, ?_⟩, ?_, fun s hs => ?_⟩, fun j hj => ?_, fun K hK => ?_⟩
  · rw [j6 15 0 (by omega) (by omega) (by omega), a1]; show _ = (sJ S (L + 1)).1 20 0 0; rw [gj, if_neg (by omega), if_neg (by omega), if_neg (by omega)]
  · show 0 ≤ (sJ S (L + 1)).1 20 0 0 ∧ (sJ S (L + 1)).1 20 0 0 < 3600; rw [gj, if_neg (by omega), if_neg (by omega), if_neg (by omega)]; exact a2
  · rw [j6 16 0 (by omega) (by omega) (by omega), a3]; show _ = (sJ S (L + 1)).1 34 0 0; rw [gj, if_neg (by omega), if_neg (by omega), if_neg (by omega)]
  · rw [j6 17 0 (by omega) (by omega) (by omega), a4]; show _ = (sJ S (L + 1)).1 35 0 0; rw [gj, if_neg (by omega), if_neg (by omega), if_neg (by omega)]
  · rw [hnow2]; show (sJ S (L + 1)).1 19 0 0 ≤ _; rw [gj, if_neg (by omega), if_neg (by omega), if_neg (by omega)]
    rw [if_pos (by omega)] at a5 ⊢
    exact a5
  · show (sJ S (L + 1)).1 5 0 s = 0; rw [gj, if_neg (by omega), if_neg (by omega), if_neg (by omega)]; exact a6 s hs
  · rw [hd.n] at hj
    have h1 := hJ j hj
    unfold mdJ at h1 ⊢
    have er : gRdy (sJ S (L + 1)) j = gRdy S j := by show (sJ S (L + 1)).1 21 j 0 = _; rw [gj, if_neg (by omega), if_neg (by omega), if_neg (by omega)]
    rw [er, j6 19 j (by omega) (by omega) (by omega)]
    by_cases hjl : j = L + 1
    · subst hjl
      have eq : gQue (sJ S (L + 1)) (L + 1) = gQue S (L + 1) + (r : Int) := by show (sJ S (L + 1)).1 19 (L + 1) 0 = _; rw [gj, if_neg (by omega), if_neg (by omega), if_pos ⟨rfl, rfl, rfl⟩]
      rw [eq, j4]
      omega
    · have eq : gQue (sJ S (L + 1)) j = gQue S j := by show (sJ S (L + 1)).1 19 j 0 = _; rw [gj, if_neg (by omega), if_neg (by omega), if_neg (by omega)]
      rw [eq, j6 18 j (by omega) (by omega) (by omega)]
      exact h1
  · rw [hd.n] at hK
    by_cases hKL : K = L
    · subst hKL
      have et : gTrv (sJ S (K + 1)) K = (T : Int) - (r : Int) := by show (sJ S (K + 1)).1 22 K 0 = _; rw [gj, if_neg (by omega), if_pos ⟨rfl, rfl, rfl⟩, hTt]
      have eq : gQue (sJ S (K + 1)) (K + 1) = gQue S (K + 1) + (r : Int) := by show (sJ S (K + 1)).1 19 (K + 1) 0 = _; rw [gj, if_neg (by omega), if_neg (by omega), if_pos ⟨rfl, rfl, rfl⟩]
      have eM : ∀ k, k + r < T → mdE M1 K k = mdE M K (k + r) := fun k hk => j5 k hk
      refine ⟨by rw [et, j3], by rw [et, eq, hd.roo]; omega, fun k hk => ?_, fun k hk => ?_, fun t h1 h2 => ?_⟩
      · rw [et] at hk
        rw [eM k (by omega), hnow2, hd.lnk, if_pos (by omega)]
        exact ⟨hlate k (by omega), (k3 (k + r) (by omega)).2⟩
      · rw [et] at hk
        rw [eM k (by omega), eM (k + 1) (by omega), show k + 1 + r = k + r + 1 by omega]
        exact k4 (k + r) (by omega)
      · rw [hnow2] at h1 h2
        rw [et, show ((T : Int) - (r : Int)).toNat = T - r by omega]
        have hc0 : cntE (mdE M1 K) t (T - r) = cntE (fun k => mdE M K (k + r)) t (T - r) := cntE_c _ (fun k hk => eM k (by omega))
        rw [hc0]
        show (sJ S (K + 1)).1 5 (K + 1) (t.toNat % 61) = _
        rw [gj]
        by_cases ht : t = gNow S
        · subst ht
          rw [if_pos ⟨rfl, rfl, rfl⟩]
          exact (cntE_0 _ (fun k hk => by have := hlate k (by omega); omega)).symm
        · rw [if_neg (by unfold slt; omega), if_neg (by omega), if_neg (by omega)]
          have h3 := k5 t h1 h2
          rw [show T = r + (T - r) by omega, cntE_s, cntE_0 r (fun k hk => by have := j2 k hk; show ¬ M 21 (40 * K + k) = t; omega), Int.zero_add] at h3
          exact h3
    · refine mdL_of (hL K hK) (hI.2.2 K (by omega)).2.2.2.2.2.2.1.2 (j6 20 K (by omega) (by omega) (by omega)) (fun k hk => j6 21 _ (by omega) (by omega) (by omega)) ?_ (hJ (K + 1) hK).2.2.2 ?_ (hd.roo K) (hd.lnk K) hnow2 (fun s => ?_) (by omega)
      · show (sJ S (L + 1)).1 22 K 0 = _; rw [gj, if_neg (by omega), if_neg (by omega), if_neg (by omega)]
      · show (sJ S (L + 1)).1 19 (K + 1) 0 ≤ _; rw [gj, if_neg (by omega), if_neg (by omega), if_neg (by omega)]; exact Int.le_refl _
      · show (sJ S (L + 1)).1 5 (K + 1) s = _; rw [gj, if_neg (by omega), if_neg (by omega), if_neg (by omega)]
end MDs
