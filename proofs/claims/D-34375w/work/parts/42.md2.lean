/-! the road: leaves, and the second's end, keep the relation -/
section MDt
variable {S : GS} {M M1 : MS}
theorem sL_f (S : GS) (j : Nat) (b : Bool) (f a k : Nat) : (sL (sR S j b) j).1 f a k =
    if sGo (sR S j b) j = true then
      (if ¬ j + 1 = gN S ∧ f = 5 ∧ a = j + 1 ∧ k = sl2 S j then gCom S (j + 1) (sl2 S j) + 1
      else if ¬ j + 1 = gN S ∧ f = 22 ∧ a = j ∧ k = 0 then gTrv S j + 1
      else if j + 1 = gN S ∧ f = 35 ∧ a = 0 ∧ k = 0 then gLef S + 1
      else if f = 21 ∧ a = j ∧ k = 0 then 0
      else if f = 19 ∧ a = j ∧ k = 0 then gQue S j - 1 else S.1 f a k)
    else (if f = 21 ∧ a = j ∧ k = 0 then (if b = true then min 2 (gRdy S j + 1) else 0) else S.1 f a k) := by
  unfold sL
  by_cases hg : sGo (sR S j b) j = true
  · rw [if_pos hg, if_pos hg]
    by_cases hn : j + 1 = gN S
    · have hn' : j + 1 = gN (sR S j b) := hn
      rw [if_pos hn']
      simp only [hn, not_true_eq_false, false_and, if_false, true_and]
      simp only [gset, sR, gQue, gLef]
      grind
    · have hn' : ¬ j + 1 = gN (sR S j b) := hn
      rw [if_neg hn']
      simp only [hn, not_false_eq_true, true_and, false_and, if_false]
      have e1 : sl2 (sR S j b) j = sl2 S j := rfl
      rw [e1]
      simp only [gset, sR, gQue, gTrv, gCom]
      grind
  · rw [if_neg hg, if_neg hg]
    simp only [sR, gset]
theorem sGo_m {j : Nat} {b : Bool} (hj : j < gN S) (i : Nat) (h : MD i S M) : mRd M j b = (if b = true then min 2 (gRdy S j + 1) else 0) ∧ mGo S M j b = sGo (sR S j b) j := by
  have h1 := h.2.1 j hj
  have e0 : mRd M j b = (if b = true then min 2 (gRdy S j + 1) else 0) := by unfold mRd; rw [h1.2.1]
  refine ⟨e0, ?_⟩
  have e1 : gRdy (sR S j b) j = (if b = true then min 2 (gRdy S j + 1) else 0) := gset_s S 21 j 0 _
  have e2 : gQue (sR S j b) j = gQue S j := by show (sR S j b).1 19 j 0 = _; unfold sR; rw [gset_f S j 0 _ (by omega)]
  have e3 : gTrv (sR S j b) j = gTrv S j := by show (sR S j b).1 22 j 0 = _; unfold sR; rw [gset_f S j 0 _ (by omega)]
  have e4 : gQue (sR S j b) (j + 1) = gQue S (j + 1) := by show (sR S j b).1 19 (j + 1) 0 = _; unfold sR; rw [gset_f S j 0 _ (by omega)]
  have e5 : gRoo (sR S j b) j = gRoo S j := by show (sR S j b).1 16 j 0 = _; unfold sR; rw [gset_f S j 0 _ (by omega)]
  unfold mGo sGo
  rw [e0, e1, e2, e3, e4, e5, h1.1]
  have hn : gN (sR S j b) = gN S := rfl
  rw [hn]
  by_cases hl : j + 1 = gN S
  · simp [hl]
  · rw [(h.2.2 j (by omega)).1, (h.2.1 (j + 1) (by omega)).1]
theorem MD_lv {j : Nat} {b : Bool} (hI : gI S) (hj : j < gN S) (h : MD (j + 1) S M) (e : ∀ f i, M1 f i = mLv S M j b f i) : MD (j + 1) (sL (sR S j b) j) M1 := by
  have hd : dyE S (sL (sR S j b) j) := (sR_dy S j b).trans (sL_dy _ j)
  obtain ⟨er, eg⟩ := sGo_m (b := b) hj _ h
  have hgo0 : sGo (sR S j b) j = true → 0 < gQue S j ∧ (j + 1 = gN S ∨ gTrv S j + gQue S (j + 1) < gRoo S j) := by
    intro hg
    rw [← eg] at hg
    unfold mGo at hg
    have := of_decide_eq_true hg
    rw [(h.2.1 j hj).1] at this
    refine ⟨this.2.1, this.2.2.elim Or.inl (fun h9 => ?_)⟩
    by_cases hl : j + 1 = gN S
    · exact Or.inl hl
    · rw [(h.2.2 j (by omega)).1, (h.2.1 (j + 1) (by omega)).1] at h9
      exact Or.inr h9
  have gj := sL_f S j b
  have hnow := hI.1.2.2
  have hnow2 : gNow (sL (sR S j b) j) = gNow S := by show (sL (sR S j b) j).1 32 0 0 = _; rw [gj]; split <;> simp
  have hrb : 0 ≤ (if b = true then min 2 (gRdy S j + 1) else 0) ∧ (if b = true then min 2 (gRdy S j + 1) else 0) ≤ 2 := by
    have := (h.2.1 j hj).2.2.1
    split <;> omega
  obtain ⟨⟨⟨a1, a2, a3, a4⟩, a5, a6⟩, hJ, hL⟩ := h
  have hJj := hJ j hj
  generalize hG : sGo (sR S j b) j = G at *
  have eM : ∀ f i, M1 f i = if f = 19 ∧ i = j then (if G = true then 0 else (if b = true then min 2 (gRdy S j + 1) else 0))
      else if f = 18 ∧ i = j then (if G = true then gQue S j - 1 else gQue S j)
      else if f = 17 ∧ i = 0 then (if G = true ∧ j + 1 = gN S then gLef S + 1 else gLef S)
      else if f = 21 ∧ i = 40 * j + (M 20 j).toNat then (if G = true ∧ ¬ j + 1 = gN S then gNow S + gLnk S j else M 21 i)
      else if f = 20 ∧ i = j then (if G = true ∧ ¬ j + 1 = gN S then M 20 j + 1 else M 20 j) else M f i := by
    intro f i
    rw [e]
    unfold mLv
    rw [er, eg, hJj.1, a4]
  refine ⟨⟨⟨?_, ?_, ?_, ?_⟩, ?_, fun s hs => ?_⟩, fun i hi => ?_, fun K hK => ?_⟩
  · rw [eM, if_neg (by omega), if_neg (by omega), if_neg (by omega), if_neg (by omega), if_neg (by omega), a1]; show _ = (sL (sR S j b) j).1 20 0 0; rw [gj]; split <;> simp
  · have e1 : gArr (sL (sR S j b) j) 0 = gArr S 0 := by show (sL (sR S j b) j).1 20 0 0 = _; rw [gj]; split <;> simp
    rw [e1]; exact a2
  · rw [eM, if_neg (by omega), if_neg (by omega), if_neg (by omega), if_neg (by omega), if_neg (by omega), a3]; show _ = (sL (sR S j b) j).1 34 0 0; rw [gj]; split <;> simp
  · rw [eM, if_neg (by omega), if_neg (by omega), if_pos ⟨rfl, rfl⟩]; show _ = (sL (sR S j b) j).1 35 0 0; rw [gj]; grind
  · have e1 : gQue (sL (sR S j b) j) 0 ≤ gQue S 0 := by show (sL (sR S j b) j).1 19 0 0 ≤ S.1 19 0 0; rw [gj]; grind
    rw [hnow2]
    have := a5
    omega
  · show (sL (sR S j b) j).1 5 0 s = 0; have := a6 s hs; rw [gj]; grind
  · rw [hd.n] at hi
    have h1 := hJ i hi
    unfold mdJ at h1 ⊢
    rw [eM, eM]
    have e1 : gQue (sL (sR S j b) j) i = if G = true ∧ i = j then gQue S j - 1 else gQue S i := by show (sL (sR S j b) j).1 19 i 0 = _; rw [gj]; grind
    have e2 : gRdy (sL (sR S j b) j) i = if i = j then (if G = true then 0 else (if b = true then min 2 (gRdy S j + 1) else 0)) else gRdy S i := by show (sL (sR S j b) j).1 21 i 0 = _; rw [gj]; grind
    rw [e1, e2]
    by_cases hij : i = j
    · subst hij
      by_cases hg : G = true
      · have := hgo0 hg
        simp only [hg, if_true, and_self]
        refine ⟨?_, ?_, ?_, ?_⟩ <;> first | omega | simp
      · simp only [hg, if_true, if_false, false_and, and_true]
        refine ⟨?_, ?_, ?_, ?_⟩ <;> first | omega | (simp; done) | (simp; omega)
    · simp only [hij, and_false, if_false]
      refine ⟨?_, ?_, ?_, ?_⟩ <;> first | omega | (simp; omega)
  · rw [hd.n] at hK
    have hq : gQue (sL (sR S j b) j) (K + 1) ≤ gQue S (K + 1) := by show (sL (sR S j b) j).1 19 (K + 1) 0 ≤ S.1 19 (K + 1) 0; rw [gj]; grind
    by_cases hc : G = true ∧ ¬ j + 1 = gN S ∧ K = j
    · obtain ⟨hg, hn, rfl⟩ := hc
      have hg1 := (hgo0 hg).2.resolve_left hn
      have hq1 : gQue (sL (sR S K b) K) (K + 1) = gQue S (K + 1) := by show (sL (sR S K b) K).1 19 (K + 1) 0 = S.1 19 (K + 1) 0; rw [gj]; grind
      have et : gTrv (sL (sR S K b) K) K = gTrv S K + 1 := by show (sL (sR S K b) K).1 22 K 0 = _; rw [gj]; grind
      obtain ⟨k1, k2, k3, k4, k5⟩ := hL K hK
      have hro := (hI.2.2 K (by omega)).2.2.2.2.2.2.1
      have hln := (hI.2.2 K (by omega)).2.2.2.2.2.1
      have hqk := (hJ (K + 1) hK).2.2.2
      have eT : mdE M1 K (gTrv S K).toNat = gNow S + gLnk S K := by
        show M1 21 (40 * K + (gTrv S K).toNat) = _
        rw [eM, if_neg (by omega), if_neg (by omega), if_neg (by omega), k1, if_pos ⟨rfl, rfl⟩, if_pos ⟨hg, hn⟩]
      have eE : ∀ k : Nat, (k : Int) < gTrv S K → mdE M1 K k = mdE M K k := by
        intro k hk
        show M1 21 (40 * K + k) = _
        rw [eM, if_neg (by omega), if_neg (by omega), if_neg (by omega), k1, if_neg (by omega), if_neg (by omega)]
        rfl
      refine ⟨?_, by rw [et, hq1, hd.roo]; omega, fun k hk => ?_, fun k hk => ?_, fun t h1 h2 => ?_⟩
      · rw [et, eM, if_neg (by omega), if_neg (by omega), if_neg (by omega), if_neg (by omega), if_pos ⟨rfl, rfl⟩, if_pos ⟨hg, hn⟩, k1]
      · rw [et] at hk
        rw [hnow2, hd.lnk, if_neg (by omega)]
        by_cases hkT : k = (gTrv S K).toNat
        · subst hkT; rw [eT]; omega
        · have := k3 k (by omega)
          rw [if_neg (by omega)] at this
          rw [eE k (by omega)]
          exact this
      · rw [et] at hk
        rw [eE k (by omega)]
        by_cases hkT : k + 1 = (gTrv S K).toNat
        · rw [hkT, eT]; exact (k3 k (by omega)).2
        · rw [eE (k + 1) (by omega)]; exact k4 k (by omega)
      · rw [hnow2] at h1 h2
        rw [et, show (gTrv S K + 1).toNat = (gTrv S K).toNat + 1 by omega]
        show (sL (sR S K b) K).1 5 (K + 1) (t.toNat % 61) = cntE (mdE M1 K) t (gTrv S K).toNat + (if mdE M1 K (gTrv S K).toNat = t then 1 else 0)
        rw [eT, cntE_c _ (fun k hk => eE k (by omega)), ← k5 t h1 h2, gj, if_pos hg]
        by_cases ht : gNow S + gLnk S K = t
        · subst ht
          rw [if_pos ⟨hn, rfl, rfl, rfl⟩, if_pos rfl]
          rfl
        · rw [if_neg (by unfold sl2; omega), if_neg (by omega), if_neg (by omega), if_neg (by omega), if_neg (by omega), if_neg ht]
          exact (Int.add_zero _).symm
    · refine mdL_of (hL K hK) (hI.2.2 K (by omega)).2.2.2.2.2.2.1.2 ?_ (fun k hk => ?_) ?_ (hJ (K + 1) hK).2.2.2 hq (hd.roo K) (hd.lnk K) hnow2 (fun s => ?_) (fun h => h)
      · rw [eM]; grind
      · have hTj : j + 1 < gN S → 0 ≤ gTrv S j ∧ gTrv S j ≤ 40 ∧ M 20 j = gTrv S j := fun hl => by
          have h1 := (hL j hl).2.1
          have h2 := (hI.2.2 j hj).2.2.2.2.2.2.1
          have h3 := (hJ (j + 1) hl).2.2.2
          have h4 := (hL j hl).1
          omega
        have hgo1 : G = true → ¬ j + 1 = gN S → gTrv S j < 40 := fun hg hn => by
          have h2 := (hI.2.2 j hj).2.2.2.2.2.2.1
          have h1 := (hgo0 hg).2.resolve_left hn
          have h3 := (hJ (j + 1) (by omega)).2.2.2
          omega
        rw [eM, if_neg (by omega), if_neg (by omega), if_neg (by omega)]
        by_cases h7 : (21 : Nat) = 21 ∧ 40 * K + k = 40 * j + (M 20 j).toNat
        · rw [if_pos h7]
          by_cases h8 : G = true ∧ ¬ j + 1 = gN S
          · exfalso
            have h9 := hgo1 h8.1 h8.2
            have h10 := hTj (by omega)
            exact hc ⟨h8.1, h8.2, by omega⟩
          · rw [if_neg h8]
        · rw [if_neg h7, if_neg (by omega)]
      · show (sL (sR S j b) j).1 22 K 0 = S.1 22 K 0; rw [gj]; grind
      · show (sL (sR S j b) j).1 5 (K + 1) s = S.1 5 (K + 1) s; rw [gj]; grind
theorem MD_now {n : Nat} (hn : n = gN S) (hI : gI S) (h : MD n S M) (e : ∀ f i, M1 f i = if f = 14 ∧ i = 0 then gNow S + 1 else M f i) : MD 0 (gset S 32 0 0 (gNow S + 1)) M1 := by
  obtain ⟨⟨⟨a1, a2, a3, a4⟩, a5, a6⟩, hJ, hL⟩ := h
  have h2 := hI.1
  have e9 : ∀ f j k, ¬ f = 32 → (gset S 32 0 0 (gNow S + 1)).1 f j k = S.1 f j k := fun f j k hf => if_neg (fun q => hf q.1)
  have hnow : gNow (gset S 32 0 0 (gNow S + 1)) = gNow S + 1 := gset_s S 32 0 0 _
  have e8 : ∀ f i, ¬ f = 14 → M1 f i = M f i := fun f i hf => (e f i).trans (if_neg (fun q => hf q.1))
  refine ⟨⟨⟨(e8 15 0 (by omega)).trans a1, a2, (e8 16 0 (by omega)).trans a3, (e8 17 0 (by omega)).trans a4⟩, ?_, a6⟩, fun j hj => ?_, fun L hLn => ?_⟩
  · rw [hnow, if_neg (by omega)]
    have e1 : gQue (gset S 32 0 0 (gNow S + 1)) 0 = gQue S 0 := rfl
    rw [e1]
    split at a5 <;> omega
  · have h1 := hJ j hj
    exact ⟨(e8 18 j (by omega)).trans h1.1, (e8 19 j (by omega)).trans h1.2.1, h1.2.2⟩
  · have hL1 : L + 1 < gN S := hLn
    obtain ⟨k1, k2, k3, k4, k5⟩ := hL L hLn
    have eE : mdE M1 L = mdE M L := by funext k; exact e8 21 _ (by omega)
    have e1 : gTrv (gset S 32 0 0 (gNow S + 1)) L = gTrv S L := rfl
    have e2 : gLnk (gset S 32 0 0 (gNow S + 1)) L = gLnk S L := rfl
    have hlk := (hI.2.2 L (by omega)).2.2.2.2.2.1
    refine ⟨(e8 20 L (by omega)).trans k1, k2, fun k hk => ?_, fun k hk => ?_, fun t h1 h2 => ?_⟩
    · rw [e1] at hk
      have := k3 k hk
      rw [if_pos (by omega)] at this
      rw [eE, hnow, e2, if_neg (by omega)]
      omega
    · rw [e1] at hk
      rw [eE]
      exact k4 k hk
    · rw [hnow] at h1 h2
      rw [eE, e1]
      show gCom S (L + 1) (t.toNat % 61) = _
      by_cases ht : t = gNow S + 61
      · have h3 := k5 (gNow S) (Int.le_refl _) (by omega)
        rw [show t.toNat % 61 = (gNow S).toNat % 61 by omega, h3]
        rw [cntE_0 _ (fun k hk => by have := k3 k (by omega); rw [if_pos (by omega)] at this; omega), cntE_0 _ (fun k hk => by have := k3 k (by omega); omega)]
      · exact k5 t (by omega) (by omega)
end MDt
